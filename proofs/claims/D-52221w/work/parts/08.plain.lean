/-! THE BRIDGE AS A VALUE (no program in sight): what both sides compute. -/
/-- a traveller: barge, minutes, came, state (0 waits, 1 passes, 2 passed, 3 gone), waited, left, passed -/
abbrev TT : Type := Int32 × Int32 × Int32 × Nat × Int32 × Int32 × Int32
abbrev tBa (t : TT) : Int32 := t.1
abbrev tMi (t : TT) : Int32 := t.2.1
abbrev tCa (t : TT) : Int32 := t.2.2.1
abbrev tSt (t : TT) : Nat := t.2.2.2.1
abbrev tWa (t : TT) : Int32 := t.2.2.2.2.1
abbrev tLe (t : TT) : Int32 := t.2.2.2.2.2.1
abbrev tPa (t : TT) : Int32 := t.2.2.2.2.2.2
/-- a bridge: minute, angle, poise, ice, code, latest was a barge; cold; how many travellers; the travellers -/
abbrev BS : Type := (Int32 × Int32 × Int32 × Int32 × Nat × Int32) × (Nat → Int32) × Nat × (Nat → TT)
abbrev sMi (S : BS) : Int32 := S.1.1
abbrev sAn (S : BS) : Int32 := S.1.2.1
abbrev sPo (S : BS) : Int32 := S.1.2.2.1
abbrev sIc (S : BS) : Int32 := S.1.2.2.2.1
abbrev sCo (S : BS) : Nat := S.1.2.2.2.2.1
abbrev sLa (S : BS) : Int32 := S.1.2.2.2.2.2
abbrev sCd (S : BS) : Nat → Int32 := S.2.1
abbrev sN (S : BS) : Nat := S.2.2.1
abbrev sTv (S : BS) : Nat → TT := S.2.2.2
/-- the first place from k on, of f places, where p holds; -1 -/
def srch (p : Nat → Bool) : Nat → Nat → Int32
  | 0, _ => -1
  | f + 1, k => if p k then nI k else srch p f (k + 1)
/-- how many of the first n -/
def cnt (p : Nat → Bool) : Nat → Int32
  | 0 => 0
  | n + 1 => cnt p n + (if p n then 1 else 0)
/-- the sum of the first n -/
def sm (f : Nat → Int32) : Nat → Int32
  | 0 => 0
  | n + 1 => sm f n + f n
def pW (S : BS) (b : Int32) (k : Nat) : Bool := decide (tSt (sTv S k) = 0) && decide (tBa (sTv S k) = b)
def pS (S : BS) (j : Nat) (k : Nat) : Bool := decide (tSt (sTv S k) = j)
def bNot (b : Int32) : Int32 := if b = 0 then 1 else 0
def bFirst (S : BS) (b : Int32) : Int32 := srch (pW S b) (sN S) 0
def bPassing (S : BS) : Int32 := srch (pS S 1) (sN S) 0
def bEither (a b : Int32) : Int32 := if a = -1 then b else if b = -1 then a else if b < a then b else a
def bKind (S : BS) (b : Int32) : Int32 := if bFirst S b = -1 then bFirst S (bNot b) else bFirst S b
def bCode (S : BS) : Int32 := if sCo S = 0 then bEither (bFirst S 1) (bFirst S 0) else if sCo S = 1 then bKind S 1 else if sCo S = 2 then bKind S 0 else if sCo S = 3 then bKind S (bNot (sLa S)) else -1
def bNext (S : BS) : Int32 := if bPassing S = -1 then bCode S else -1
def bSp0 (S : BS) (up : Int32) : Int32 := if up = 0 then 6 - sPo S / 6 else 1 + sPo S / 6
def bSpeed (S : BS) (up : Int32) : Int32 := if sIc S < 5 then bSp0 S up else if 1 < bSp0 S up / 2 then bSp0 S up / 2 else 1
def bWaiting (S : BS) (b : Int32) : Int32 := cnt (pW S b) (sN S)
def bPassed (S : BS) : Int32 := cnt (pS S 2) (sN S)
def bWaited (S : BS) : Int32 := sm (fun k => tWa (sTv S k)) (sN S)
def tAngle (t : TT) : Int32 := if tBa t = 0 then 0 else 60
def tPass (t : TT) : TT := (tBa t, tMi t, tCa t, 1, tWa t, tMi t, tPa t)
/-- a traveller's minute -/
def tGo (mi : Int32) (t : TT) : TT :=
  if tSt t = 0 then (tBa t, tMi t, tCa t, tSt t, tWa t + 1, tLe t, tPa t)
  else if tSt t = 1 then (if tLe t - 1 ≤ 0 then (tBa t, tMi t, tCa t, 2, tWa t, tLe t - 1, mi) else (tBa t, tMi t, tCa t, tSt t, tWa t, tLe t - 1, tPa t))
  else t
def sAng (S : BS) (a : Int32) : BS := ((sMi S, a, sPo S, sIc S, sCo S, sLa S), S.2)
/-- traveller k is served -/
def bServe (S : BS) (k : Nat) : BS :=
  if sAn S = tAngle (sTv S k) then ((sMi S, sAn S, sPo S, sIc S, sCo S, tBa (sTv S k)), sCd S, sN S, va_up (sTv S) k (tPass (sTv S k)))
  else if tBa (sTv S k) = 0 then sAng S (if 0 < sAn S - bSpeed S 0 then sAn S - bSpeed S 0 else 0)
  else sAng S (if sAn S + bSpeed S 1 < 60 then sAn S + bSpeed S 1 else 60)
def bServed (S : BS) : BS := if bNext S = -1 then S else bServe S (bNext S).toNatClampNeg
def bGo (S : BS) : BS := (S.1, sCd S, sN S, fun k => tGo (sMi S) (sTv S k))
def bIce (S : BS) : Int32 := if sMi S - sMi S / 60 * 60 = 0 then (let x := sIc S + sCd S (sMi S / 60 - sMi S / 60 / 8 * 8).toNatClampNeg; let y := if x < 9 then x else 9; if 0 < y then y else 0) else sIc S
def bTick (S : BS) : BS := ((sMi S + 1, sAn S, sPo S, bIce S, sCo S, sLa S), S.2)
/-- a minute of the bridge -/
def bStep (S : BS) : BS := bTick (bGo (bServed S))
/-- what holds of every bridge that is reached: t minutes at most -/
def OKT (t : TT) : Prop := (tBa t = 0 ∨ tBa t = 1) ∧ (1 ≤ tMi t ∧ tMi t ≤ 6) ∧ tSt t < 4 ∧ (tSt t = 1 → 1 ≤ tLe t ∧ tLe t ≤ 6)
def OKS (T : Nat) (S : BS) : Prop := (∃ mi : Nat, mi ≤ T ∧ sMi S = nI mi) ∧ (0 ≤ sAn S ∧ sAn S ≤ 60) ∧ (0 ≤ sPo S ∧ sPo S ≤ 30) ∧ (0 ≤ sIc S ∧ sIc S ≤ 9) ∧ sCo S < 5 ∧ (sLa S = 0 ∨ sLa S = 1) ∧ (∀ k, -3 ≤ sCd S k ∧ sCd S k ≤ 3) ∧ sN S ≤ 40 ∧ (∀ k, k < sN S → OKT (sTv S k)) ∧ (∀ i j, i < sN S → j < sN S → tSt (sTv S i) = 1 → tSt (sTv S j) = 1 → i = j)
theorem srch_0 (p : Nat → Bool) (k : Nat) : srch p 0 k = -1 := rfl
theorem srch_t {p : Nat → Bool} {n k : Nat} (h : k < n) (hp : p k = true) : srch p (n - k) k = nI k := by
  obtain ⟨f, hf⟩ : ∃ f, n - k = f + 1 := ⟨n - k - 1, by omega⟩
  rw [hf, srch, if_pos hp]
theorem srch_f {p : Nat → Bool} {n k : Nat} (h : k < n) (hp : p k = false) : srch p (n - k) k = srch p (n - (k + 1)) (k + 1) := by
  obtain ⟨f, hf⟩ : ∃ f, n - k = f + 1 := ⟨n - k - 1, by omega⟩
  rw [hf, srch, if_neg (by rw [hp]; decide), show n - (k + 1) = f by omega]
/-- a search finds a place, or none -/
theorem srch_or (p : Nat → Bool) : ∀ f k, (srch p f k = -1 ∧ ∀ j, k ≤ j → j < k + f → p j = false) ∨ ∃ j, k ≤ j ∧ j < k + f ∧ p j = true ∧ srch p f k = nI j ∧ ∀ i, k ≤ i → i < j → p i = false := by
  intro f
  induction f with
  | zero => intro k; exact Or.inl ⟨rfl, fun j h1 h2 => by omega⟩
  | succ f ih =>
    intro k
    by_cases hp : p k = true
    · exact Or.inr ⟨k, Nat.le_refl _, by omega, hp, by rw [srch, if_pos hp], fun i h1 h2 => by omega⟩
    · have hpf : p k = false := by simpa using hp
      rw [srch, if_neg hp]
      rcases ih (k + 1) with ⟨h1, h2⟩ | ⟨j, h1, h2, h3, h4, h5⟩
      · refine Or.inl ⟨h1, fun j a b => ?_⟩
        by_cases hj : j = k
        · rw [hj]; exact hpf
        · exact h2 j (by omega) (by omega)
      · refine Or.inr ⟨j, by omega, by omega, h3, h4, fun i a b => ?_⟩
        by_cases hj : i = k
        · rw [hj]; exact hpf
        · exact h5 i (by omega) b
theorem nI_m1 {k : Nat} (h : k < 2 ^ 31) : nI k ≠ -1 := by
  intro e
  have := congrArg Int32.toInt e
  rw [nI_toInt h] at this
  have h2 : (-1 : Int32).toInt = -1 := by decide
  omega
theorem cnt_t {p : Nat → Bool} {n : Nat} (h : p n = true) : cnt p (n + 1) = cnt p n + 1 := by rw [cnt, if_pos h]
theorem cnt_f {p : Nat → Bool} {n : Nat} (h : p n = false) : cnt p (n + 1) = cnt p n + 0 := by rw [cnt, if_neg (by rw [h]; decide)]
theorem bool_n {b : Int32} (h : b = 0 ∨ b = 1) : narrow .boolean (.int b) = .int b := by rcases h with rfl | rfl <;> rfl
theorem bool_f {b : Int32} (h : b = 0 ∨ b = 1) : fits .boolean (.int b) = true := by rcases h with rfl | rfl <;> rfl
/-- the cells of a traveller and of a bridge -/
abbrev tvE (g : GT) (t : TT) : va_E := .inr (2, [.int (tBa t), .int (tMi t), .int (tCa t), .ref (gS g (tSt t)), .int (tWa t), .int (tLe t), .int (tPa t)])
abbrev brE (g : GT) (cd al : Nat) (S : BS) : va_E := .inr (1, [.int (sMi S), .int (sAn S), .int (sPo S), .int (sIc S), .ref (gC g (sCo S)), .int (sLa S), .ref cd, .ref al])
abbrev alE (mc : Int32) (el n : Nat) : va_E := .inr (3, [.int mc, .ref el, .int (nI n)])
abbrev rfA (g : GT) (n : Nat) (f : Nat → Option Nat) : va_E := .inl (gO g, n, .inr (.inr (.inr (.inr f))))
abbrev inA (g : GT) (n : Nat) (f : Nat → Int32) : va_E := .inl (gI g, n, .inl f)
/-- a bridge in the heap, to be read -/
def RB (g : GT) (T : Nat) (b : Nat) (S : BS) (H : Heap) : Prop := ∃ (cd al el cap : Nat) (mc : Int32) (arr : Nat → Option Nat) (ad : Nat → Nat),
  va_at (gD g) bbCl (b, brE g cd al S) H ∧ va_at (gD g) bbCl (cd, inA g 8 (sCd S)) H ∧ va_at (gD g) bbCl (al, alE mc el (sN S)) H ∧ (0 < sN S → va_at (gD g) bbCl (el, rfA g cap arr) H) ∧ (∀ k, k < sN S → arr k = some (ad k) ∧ va_at (gD g) bbCl (ad k, tvE g (sTv S k)) H) ∧ sN S ≤ cap ∧ cap ≤ 60 ∧ OKS T S
