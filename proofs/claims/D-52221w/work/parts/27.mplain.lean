/-! THE MODEL'S STATE, WRITTEN: copy, become, serve, a minute, minutes, a new one. -/
set_option maxRecDepth 100000
def Inj5 (B : Nat → Nat) : Prop := ∀ i j, i < 5 → j < 5 → B i = B j → i = j
def Apart (B C : Nat → Nat) : Prop := ∀ i j, i < 5 → j < 5 → B i ≠ C j
def In5 (B : Nat → Nat) (q : Nat) : Prop := ∃ i, i < 5 ∧ q = B i
theorem Inj5.ne {B : Nat → Nat} (h : Inj5 B) (i j : Nat) (hi : i < 5) (hj : j < 5) (hij : i ≠ j) : B i ≠ B j := fun e => hij (h i j hi hj e)
theorem Apart.symm {B C : Nat → Nat} (h : Apart B C) : Apart C B := fun i j hi hj e => h j i hj hi e.symm
theorem Apart.out {B C : Nat → Nat} (h : Apart B C) {i : Nat} (hi : i < 5) : ¬ In5 C (B i) := fun ⟨j, hj, e⟩ => h i j hi hj e
/-- the model's own cells: M 0 the model, M 1 isBarge, M 2 needs, M 3 came, M 4 cold -/
def MO (g : GT) (M : Nat → Nat) (s0 a0 : Nat) (th : Int32) (S : BS) (H : Heap) : Prop := ∃ (fb fn fc : Nat → Int32),
  va_at (gD g) bbCl (M 0, moE th (sN S) (M 1) (M 2) (M 3) (M 4) s0 a0) H ∧ va_at (gD g) bbCl (M 1, inA g 40 fb) H ∧ va_at (gD g) bbCl (M 2, inA g 40 fn) H ∧ va_at (gD g) bbCl (M 3, inA g 40 fc) H ∧ va_at (gD g) bbCl (M 4, inA g 8 (sCd S)) H ∧ OR S fb fn fc
/-- a state's cells: B 0 the state, B 1 is, B 2 waited, B 3 left, B 4 when -/
def SX (g : GT) (B : Nat → Nat) (m0 : Nat) (S : BS) (fi fw fl fh : Nat → Int32) (H : Heap) : Prop :=
  va_at (gD g) bbCl (B 0, stE S (B 1) (B 2) (B 3) (B 4) m0) H ∧ va_at (gD g) bbCl (B 1, inA g 40 fi) H ∧ va_at (gD g) bbCl (B 2, inA g 40 fw) H ∧ va_at (gD g) bbCl (B 3, inA g 40 fl) H ∧ va_at (gD g) bbCl (B 4, inA g 40 fh) H
/-- the rows' places that nobody has taken -/
def ZE (n : Nat) (fi fw fl : Nat → Int32) : Prop := ∀ k, n ≤ k → k < 40 → fi k = 0 ∧ fw k = 0 ∧ fl k = 0
def SP (g : GT) (B : Nat → Nat) (m0 : Nat) (S : BS) (H : Heap) : Prop := ∃ (fi fw fl fh : Nat → Int32), SX g B m0 S fi fw fl fh H ∧ AR S fi fw fl fh ∧ ZE (sN S) fi fw fl
/-- a state of whatever numbers -/
def SQ (g : GT) (B : Nat → Nat) (m0 : Nat) (H : Heap) : Prop := ∃ (x1 x2 x3 x4 x5 x6 x7 : Int32) (fi fw fl fh : Nat → Int32),
  va_at (gD g) bbCl (B 0, .inr (5, [.int x1, .int x2, .int x3, .int x4, .int x5, .int x6, .int x7, .ref (B 1), .ref (B 2), .ref (B 3), .ref (B 4), .ref m0])) H ∧ va_at (gD g) bbCl (B 1, inA g 40 fi) H ∧ va_at (gD g) bbCl (B 2, inA g 40 fw) H ∧ va_at (gD g) bbCl (B 3, inA g 40 fl) H ∧ va_at (gD g) bbCl (B 4, inA g 40 fh) H
theorem SP.sq {g : GT} {B : Nat → Nat} {m0 : Nat} {S : BS} {H : Heap} (h : SP g B m0 S H) : SQ g B m0 H := by
  obtain ⟨fi, fw, fl, fh, ⟨h1, h2, h3, h4, h5⟩, -, -⟩ := h
  exact ⟨_, _, _, _, _, _, _, fi, fw, fl, fh, h1, h2, h3, h4, h5⟩
theorem MO.kept {g : GT} {M : Nat → Nat} {s0 a0 : Nat} {th : Int32} {S : BS} {H H1 : Heap} (h : MO g M s0 a0 th S H) (hq : ∀ i, i < 5 → M i < H.size → H1[M i]? = H[M i]?) : MO g M s0 a0 th S H1 := by
  obtain ⟨fb, fn, fc, h1, h2, h3, h4, h5, h6⟩ := h
  exact ⟨fb, fn, fc, h1.kept (hq 0 (by decide) h1.lt), h2.kept (hq 1 (by decide) h2.lt), h3.kept (hq 2 (by decide) h3.lt), h4.kept (hq 3 (by decide) h4.lt), h5.kept (hq 4 (by decide) h5.lt), h6⟩
theorem SX.kept {g : GT} {B : Nat → Nat} {m0 : Nat} {S : BS} {fi fw fl fh : Nat → Int32} {H H1 : Heap} (h : SX g B m0 S fi fw fl fh H) (hq : ∀ i, i < 5 → B i < H.size → H1[B i]? = H[B i]?) : SX g B m0 S fi fw fl fh H1 := by
  obtain ⟨h1, h2, h3, h4, h5⟩ := h
  exact ⟨h1.kept (hq 0 (by decide) h1.lt), h2.kept (hq 1 (by decide) h2.lt), h3.kept (hq 2 (by decide) h3.lt), h4.kept (hq 3 (by decide) h4.lt), h5.kept (hq 4 (by decide) h5.lt)⟩
theorem SP.kept {g : GT} {B : Nat → Nat} {m0 : Nat} {S : BS} {H H1 : Heap} (h : SP g B m0 S H) (hq : ∀ i, i < 5 → B i < H.size → H1[B i]? = H[B i]?) : SP g B m0 S H1 := by
  obtain ⟨fi, fw, fl, fh, h1, h2⟩ := h
  exact ⟨fi, fw, fl, fh, h1.kept hq, h2⟩
theorem SQ.kept {g : GT} {B : Nat → Nat} {m0 : Nat} {H H1 : Heap} (h : SQ g B m0 H) (hq : ∀ i, i < 5 → B i < H.size → H1[B i]? = H[B i]?) : SQ g B m0 H1 := by
  obtain ⟨x1, x2, x3, x4, x5, x6, x7, fi, fw, fl, fh, h1, h2, h3, h4, h5⟩ := h
  exact ⟨x1, x2, x3, x4, x5, x6, x7, fi, fw, fl, fh, h1.kept (hq 0 (by decide) h1.lt), h2.kept (hq 1 (by decide) h2.lt), h3.kept (hq 2 (by decide) h3.lt), h4.kept (hq 3 (by decide) h4.lt), h5.kept (hq 4 (by decide) h5.lt)⟩
theorem RM.of {g : GT} {T : Nat} {M B : Nat → Nat} {s0 a0 : Nat} {th : Int32} {S : BS} {H : Heap} (h : MO g M s0 a0 th S H) (h1 : SP g B (M 0) S H) (hok : OKS T S) : RM g T (M 0) (B 0) S H := by
  obtain ⟨fb, fn, fc, m1, m2, m3, m4, m5, m6⟩ := h
  obtain ⟨fi, fw, fl, fh, ⟨p1, p2, p3, p4, p5⟩, p6, -⟩ := h1
  exact ⟨th, M 1, M 2, M 3, M 4, s0, a0, fb, fn, fc, B 1, B 2, B 3, B 4, fi, fw, fl, fh, m1, m2, m3, m4, m5, p1, p2, p3, p4, p5, m6, p6, hok⟩
theorem upd_at (f : Nat → Int32) (k : Nat) (x : Int32) : upd f k x k = x := if_pos rfl
theorem upd_ne (f : Nat → Int32) {j k : Nat} (x : Int32) (h : j ≠ k) : upd f k x j = f j := if_neg h
theorem bPassing_is {S : BS} (hn : sN S ≤ 40) {k : Nat} (hk : k < sN S) (h1 : tSt (sTv S k) = 1) (hu : ∀ j, j < sN S → tSt (sTv S j) = 1 → j = k) : bPassing S = nI k := by
  rcases srch_or (pS S 1) (sN S) 0 with ⟨-, h2⟩ | ⟨j, -, h2, h3, h4, -⟩
  · have := h2 k (Nat.zero_le _) (by omega)
    simp [pS, h1] at this
  · have : j = k := hu j (by omega) (by simpa [pS] using h3)
    rw [← this]
    exact h4
theorem bPassing_no {S : BS} (h : ∀ j, j < sN S → tSt (sTv S j) ≠ 1) : bPassing S = -1 := by
  rcases srch_or (pS S 1) (sN S) 0 with ⟨h1, -⟩ | ⟨j, -, h2, h3, h4, -⟩
  · exact h1
  · exact absurd (by simpa [pS] using h3) (h j (by omega))
theorem bPassing_or (S : BS) : bPassing S = -1 ∨ ∃ k, k < sN S ∧ bPassing S = nI k ∧ tSt (sTv S k) = 1 := by
  rcases srch_or (pS S 1) (sN S) 0 with ⟨h1, -⟩ | ⟨j, -, h2, h3, h4, -⟩
  · exact Or.inl h1
  · exact Or.inr ⟨j, by omega, h4, by simpa [pS] using h3⟩
/-- a minute on, but for the waiting, of which the first d are counted -/
def JR (S : BS) (fi fw fl fh : Nat → Int32) (d : Nat) : Prop := ∀ k, k < sN S → fi k = nI (tSt (tGo (sMi S) (sTv S k))) ∧ fw k = (if k < d then tWa (tGo (sMi S) (sTv S k)) else tWa (sTv S k)) ∧ fl k = tLe (tGo (sMi S) (sTv S k)) ∧ fh k = tPa (tGo (sMi S) (sTv S k))
theorem tGo_n1 {mi : Int32} {t : TT} (h : tSt t ≠ 1) : tSt (tGo mi t) = tSt t ∧ tLe (tGo mi t) = tLe t ∧ tPa (tGo mi t) = tPa t := by
  unfold tGo
  split
  · exact ⟨rfl, rfl, rfl⟩
  · first | exact ⟨rfl, rfl, rfl⟩ | (rw [if_neg h]; exact ⟨rfl, rfl, rfl⟩)
theorem tGo_n0 {mi : Int32} {t : TT} (h : tSt t ≠ 0) : tWa (tGo mi t) = tWa t ∧ tSt (tGo mi t) ≠ 0 := by
  unfold tGo
  rw [if_neg h]
  split
  · split
    · exact ⟨rfl, by show (2 : Nat) ≠ 0; decide⟩
    · exact ⟨rfl, h⟩
  · exact ⟨rfl, h⟩
theorem tGo_0 {mi : Int32} {t : TT} (h : tSt t = 0) : tWa (tGo mi t) = tWa t + 1 ∧ tSt (tGo mi t) = 0 := by
  unfold tGo
  rw [if_pos h]
  exact ⟨rfl, h⟩
theorem tGo_on {mi : Int32} {t : TT} (h : tSt t = 1) (hle : ¬ tLe t - 1 ≤ 0) : tSt (tGo mi t) = 1 ∧ tLe (tGo mi t) = tLe t - 1 ∧ tPa (tGo mi t) = tPa t := by
  unfold tGo
  rw [if_neg (by rw [h]; decide), if_pos h, if_neg hle]
  exact ⟨h, rfl, rfl⟩
theorem tGo_end {mi : Int32} {t : TT} (h : tSt t = 1) (hle : tLe t - 1 ≤ 0) : tSt (tGo mi t) = 2 ∧ tLe (tGo mi t) = tLe t - 1 ∧ tPa (tGo mi t) = mi := by
  unfold tGo
  rw [if_neg (by rw [h]; decide), if_pos h, if_pos hle]
  exact ⟨rfl, rfl, rfl⟩
theorem le_0 {t : TT} (h : OKT t) (h1 : tSt t = 1) : tLe t - 1 ≤ 0 ↔ tLe t - 1 = 0 := by
  obtain ⟨j, hj1, hj2⟩ := i_in (n := 6) rfl (by have := (h.2.2.2 h1).1; rw [i_le] at this ⊢; exact Int.le_trans (by decide) this) (h.2.2.2 h1).2
  have key : ∀ j, j < 7 → 1 ≤ nI j → (nI j - 1 ≤ 0 ↔ nI j - 1 = 0) := by decide +kernel
  have := (h.2.2.2 h1).1
  rw [hj2] at this ⊢
  exact key j (by omega) this
theorem JR_none {S : BS} {fi fw fl fh : Nat → Int32} (hA : AR S fi fw fl fh) (h : ∀ j, j < sN S → tSt (sTv S j) ≠ 1) : JR S fi fw fl fh 0 := by
  intro k hk
  obtain ⟨a1, a2, a3, a4⟩ := hA k hk
  obtain ⟨b1, b2, b3⟩ := tGo_n1 (mi := sMi S) (h k hk)
  rw [b1, b2, b3, if_neg (Nat.not_lt_zero _)]
  exact ⟨a1, a2, a3, a4⟩
theorem JR_on {S : BS} {fi fw fl fh : Nat → Int32} {k : Nat} (hA : AR S fi fw fl fh) (h1 : tSt (sTv S k) = 1) (hu : ∀ j, j < sN S → tSt (sTv S j) = 1 → j = k) (hle : ¬ tLe (sTv S k) - 1 ≤ 0) : JR S fi fw (upd fl k (fl k - 1)) fh 0 := by
  intro j hj
  obtain ⟨a1, a2, a3, a4⟩ := hA j hj
  rw [if_neg (Nat.not_lt_zero _)]
  by_cases hjk : j = k
  · subst hjk
    obtain ⟨b1, b2, b3⟩ := tGo_on (mi := sMi S) h1 hle
    rw [b1, b2, b3, upd_at, a3]
    exact ⟨by rw [a1, h1], a2, rfl, a4⟩
  · obtain ⟨b1, b2, b3⟩ := tGo_n1 (mi := sMi S) (t := sTv S j) (fun e => hjk (hu j hj e))
    rw [b1, b2, b3, upd_ne _ _ hjk]
    exact ⟨a1, a2, a3, a4⟩
theorem JR_out {S : BS} {fi fw fl fh : Nat → Int32} {k : Nat} (hA : AR S fi fw fl fh) (h1 : tSt (sTv S k) = 1) (hu : ∀ j, j < sN S → tSt (sTv S j) = 1 → j = k) (hle : tLe (sTv S k) - 1 ≤ 0) : JR S (upd fi k 2) fw (upd fl k (fl k - 1)) (upd fh k (sMi S)) 0 := by
  intro j hj
  obtain ⟨a1, a2, a3, a4⟩ := hA j hj
  rw [if_neg (Nat.not_lt_zero _)]
  by_cases hjk : j = k
  · subst hjk
    obtain ⟨b1, b2, b3⟩ := tGo_end (mi := sMi S) h1 hle
    rw [b1, b2, b3, upd_at, upd_at, upd_at, a3]
    exact ⟨rfl, a2, rfl, rfl⟩
  · obtain ⟨b1, b2, b3⟩ := tGo_n1 (mi := sMi S) (t := sTv S j) (fun e => hjk (hu j hj e))
    rw [b1, b2, b3, upd_ne _ _ hjk, upd_ne _ _ hjk, upd_ne _ _ hjk]
    exact ⟨a1, a2, a3, a4⟩
theorem JR_st {S : BS} {fi fw fl fh : Nat → Int32} {d : Nat} (h : JR S fi fw fl fh d) (hd : d < sN S) (h4 : tSt (sTv S d) < 4) {x : Int32} (hx : x = fw d + (if fi d = 0 then 1 else 0)) : JR S fi (upd fw d x) fl fh (d + 1) := by
  intro k hk
  obtain ⟨a1, a2, a3, a4⟩ := h k hk
  refine ⟨a1, ?_, a3, a4⟩
  by_cases hkd : k = d
  · subst hkd
    rw [upd_at, hx, a2, a1, if_neg (Nat.lt_irrefl k), if_pos (Nat.lt_succ_self k)]
    by_cases h0 : tSt (sTv S k) = 0
    · obtain ⟨b1, b2⟩ := tGo_0 (mi := sMi S) h0
      rw [b1, b2, if_pos nI_0]
    · obtain ⟨b1, b2⟩ := tGo_n0 (mi := sMi S) h0
      have h4' : tSt (tGo (sMi S) (sTv S k)) < 4 := by
        unfold tGo
        split
        · exact h4
        · split
          · split
            · show (2 : Nat) < 4
              decide
            · exact h4
          · exact h4
      rw [b1, if_neg (fun e => b2 ((nI_st0 h4').mp e))]
      simp
  · rw [upd_ne _ _ hkd, a2]
    by_cases hlt : k < d
    · rw [if_pos hlt, if_pos (by omega)]
    · rw [if_neg hlt, if_neg (by omega)]
theorem JR_end {S : BS} {fi fw fl fh : Nat → Int32} (h : JR S fi fw fl fh (sN S)) : AR (bGo S) fi fw fl fh := by
  intro k hk
  obtain ⟨a1, a2, a3, a4⟩ := h k hk
  rw [if_pos (show k < sN S from hk)] at a2
  exact ⟨a1, a2, a3, a4⟩
theorem ZE.i {n k : Nat} {fi fw fl : Nat → Int32} (h : ZE n fi fw fl) (hk : k < n) (x : Int32) : ZE n (upd fi k x) fw fl := fun j h1 h2 => by rw [upd_ne _ _ (by omega)]; exact h j h1 h2
theorem ZE.w {n k : Nat} {fi fw fl : Nat → Int32} (h : ZE n fi fw fl) (hk : k < n) (x : Int32) : ZE n fi (upd fw k x) fl := fun j h1 h2 => by rw [upd_ne _ _ (by omega)]; exact h j h1 h2
theorem ZE.l {n k : Nat} {fi fw fl : Nat → Int32} (h : ZE n fi fw fl) (hk : k < n) (x : Int32) : ZE n fi fw (upd fl k x) := fun j h1 h2 => by rw [upd_ne _ _ (by omega)]; exact h j h1 h2
theorem bPassing_go0 {S : BS} (h : ∀ j, j < sN S → tSt (sTv S j) ≠ 1) : bPassing (bGo S) = -1 := bPassing_no (S := bGo S) (fun j hj e => h j hj (tGo_1 e))
theorem bPassing_out {S : BS} {k : Nat} (h1 : tSt (sTv S k) = 1) (hu : ∀ j, j < sN S → tSt (sTv S j) = 1 → j = k) (hle : tLe (sTv S k) - 1 ≤ 0) : bPassing (bGo S) = -1 := by
  refine bPassing_no (S := bGo S) (fun j hj e => ?_)
  have hjk := hu j hj (tGo_1 e)
  subst hjk
  exact absurd ((tGo_end (mi := sMi S) h1 hle).1.symm.trans e) (by decide)
theorem bPassing_on {S : BS} {k : Nat} (hn : sN S ≤ 40) (hk : k < sN S) (h1 : tSt (sTv S k) = 1) (hu : ∀ j, j < sN S → tSt (sTv S j) = 1 → j = k) (hle : ¬ tLe (sTv S k) - 1 ≤ 0) : bPassing (bGo S) = nI k :=
  bPassing_is (S := bGo S) hn hk (tGo_on (mi := sMi S) h1 hle).1 (fun j hj e => hu j hj (tGo_1 e))
theorem want {t : TT} (h : OKT t) : 60 * tBa t = tAngle t := by
  unfold tAngle
  rcases h.1 with e | e <;> rw [e] <;> rfl
theorem want_lt {t : TT} {an : Int32} (h : OKT t) (ha : 0 ≤ an ∧ an ≤ 60) (hne : ¬ an = tAngle t) : 60 * tBa t ≤ an ↔ tBa t = 0 := by
  obtain ⟨j, hj1, hj2⟩ := i_in (n := 60) rfl ha.1 ha.2
  have key : ∀ j, j < 61 → (0 ≤ nI j) ∧ (60 ≤ nI j → nI j = 60) := by decide +kernel
  unfold tAngle at hne
  rcases h.1 with e | e
  · rw [e, hj2]
    exact ⟨fun _ => rfl, fun _ => (key j (by omega)).1⟩
  · rw [e, if_neg (by decide)] at hne
    rw [e, hj2]
    rw [hj2] at hne
    exact ⟨fun h => absurd ((key j (by omega)).2 h) hne, fun h => absurd h (by decide)⟩
/-- what a minute leaves of a bridge -/
theorem own_step (S : BS) : sN (bStep S) = sN S ∧ sCd (bStep S) = sCd S ∧ ∀ k, tBa (sTv (bStep S) k) = tBa (sTv S k) ∧ tMi (sTv (bStep S) k) = tMi (sTv S k) ∧ tCa (sTv (bStep S) k) = tCa (sTv S k) := by
  have hg : ∀ mi t, tBa (tGo mi t) = tBa t ∧ tMi (tGo mi t) = tMi t ∧ tCa (tGo mi t) = tCa t := by
    intro mi t
    unfold tGo
    split
    · exact ⟨rfl, rfl, rfl⟩
    · split
      · split <;> exact ⟨rfl, rfl, rfl⟩
      · exact ⟨rfl, rfl, rfl⟩
  have hs : ∀ k0, sN (bServe S k0) = sN S ∧ sCd (bServe S k0) = sCd S ∧ ∀ k, tBa (sTv (bServe S k0) k) = tBa (sTv S k) ∧ tMi (sTv (bServe S k0) k) = tMi (sTv S k) ∧ tCa (sTv (bServe S k0) k) = tCa (sTv S k) := by
    intro k0
    unfold bServe
    split
    · refine ⟨rfl, rfl, fun k => ?_⟩
      by_cases hk : k = k0
      · subst hk
        show tBa (va_up (sTv S) k (tPass (sTv S k)) k) = _ ∧ tMi (va_up (sTv S) k (tPass (sTv S k)) k) = _ ∧ tCa (va_up (sTv S) k (tPass (sTv S k)) k) = _
        rw [va_up_self]
        exact ⟨rfl, rfl, rfl⟩
      · show tBa (va_up (sTv S) k0 (tPass (sTv S k0)) k) = _ ∧ tMi (va_up (sTv S) k0 (tPass (sTv S k0)) k) = _ ∧ tCa (va_up (sTv S) k0 (tPass (sTv S k0)) k) = _
        rw [va_up_ne _ _ hk]
        exact ⟨rfl, rfl, rfl⟩
    · split <;> exact ⟨rfl, rfl, fun k => ⟨rfl, rfl, rfl⟩⟩
  have hd : sN (bServed S) = sN S ∧ sCd (bServed S) = sCd S ∧ ∀ k, tBa (sTv (bServed S) k) = tBa (sTv S k) ∧ tMi (sTv (bServed S) k) = tMi (sTv S k) ∧ tCa (sTv (bServed S) k) = tCa (sTv S k) := by
    unfold bServed
    split
    · exact ⟨rfl, rfl, fun k => ⟨rfl, rfl, rfl⟩⟩
    · exact hs _
  refine ⟨hd.1, hd.2.1, fun k => ?_⟩
  have e := hg (sMi (bServed S)) (sTv (bServed S) k)
  exact ⟨e.1.trans (hd.2.2 k).1, e.2.1.trans (hd.2.2 k).2.1, e.2.2.trans (hd.2.2 k).2.2⟩
theorem MO.alike {g : GT} {M : Nat → Nat} {s0 a0 : Nat} {th : Int32} {S S1 : BS} {H : Heap} (h : MO g M s0 a0 th S H) (e : sN S1 = sN S ∧ sCd S1 = sCd S ∧ ∀ k, tBa (sTv S1 k) = tBa (sTv S k) ∧ tMi (sTv S1 k) = tMi (sTv S k) ∧ tCa (sTv S1 k) = tCa (sTv S k)) : MO g M s0 a0 th S1 H := by
  obtain ⟨fb, fn, fc, h1, h2, h3, h4, h5, h6⟩ := h
  refine ⟨fb, fn, fc, by rw [e.1]; exact h1, h2, h3, h4, by rw [e.2.1]; exact h5, fun k hk => ?_⟩
  rw [(e.2.2 k).1, (e.2.2 k).2.1, (e.2.2 k).2.2]
  exact h6 k (by rw [← e.1]; exact hk)
theorem MO.run {g : GT} {M : Nat → Nat} {s0 a0 : Nat} {th : Int32} {S : BS} {H : Heap} (h : MO g M s0 a0 th S H) : ∀ n, MO g M s0 a0 th (bRun S n) H
  | 0 => h
  | n + 1 => (MO.run h n).alike (own_step (bRun S n))
