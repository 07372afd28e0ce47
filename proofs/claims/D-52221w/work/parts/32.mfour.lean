/-! THE MODEL'S METHODS, one by one: what they answer (thrown, number, state). -/
set_option maxRecDepth 100000
abbrev Ans : Type := Int32 × Int32 × BS
/-- the model: its own cells, its state, the state ahead -/
def MX (g : GT) (M B C : Nat → Nat) (th : Int32) (S : BS) (H : Heap) : Prop := MO g M (B 0) (C 0) th S H ∧ SP g B (M 0) S H ∧ SQ g C (M 0) H
def FM (M B C : Nat → Nat) (q : Nat) : Prop := In5 M q ∨ In5 B q ∨ In5 C q
def MD (g : GT) (M B C : Nat → Nat) : Prop := Inj5 M ∧ Inj5 B ∧ Inj5 C ∧ Apart B M ∧ Apart C M ∧ Apart B C ∧ (∀ i, i < 5 → gA g (M i)) ∧ (∀ i, i < 5 → gA g (B i)) ∧ (∀ i, i < 5 → gA g (C i))
theorem MD.an {g : GT} {M B C : Nat → Nat} (h : MD g M B C) : ∀ q, FM M B C q → gA g q := by
  intro q e
  rcases e with ⟨i, h1, h2⟩ | ⟨i, h1, h2⟩ | ⟨i, h1, h2⟩
  · rw [h2]; exact h.2.2.2.2.2.2.1 i h1
  · rw [h2]; exact h.2.2.2.2.2.2.2.1 i h1
  · rw [h2]; exact h.2.2.2.2.2.2.2.2 i h1
def aCome (S : BS) (b v : Int32) : Ans := if 1 ≤ v ∧ v ≤ 6 then (if nI (sN S) = 40 then (2, 0, S) else (0, nI (sN S), sCome S b v)) else (1, 0, S)
def aLeave (S : BS) (k : Int32) : Ans := if 0 ≤ k ∧ k < nI (sN S) then (if tSt (sTv S k.toNatClampNeg) = 0 then (0, tWa (sTv S k.toNatClampNeg), sGone S k.toNatClampNeg) else (2, 0, S)) else (1, 0, S)
def aRing (S : BS) (v : Int32) : Ans := if 0 ≤ v ∧ v ≤ 4 then (0, nI (sCo S), sCod S v.toNatClampNeg) else (1, 0, S)
def aPoise (S : BS) (v : Int32) : Ans := if 0 ≤ v ∧ v ≤ 30 then (if sAn S = 0 ∨ sAn S = 60 then (0, sPo S, sPoi S v) else (2, 0, S)) else (1, 0, S)
def aCold (S : BS) (h v : Int32) : Ans := if 0 ≤ h ∧ h ≤ 7 then (if -3 ≤ v ∧ v ≤ 3 then (0, sCd S h.toNatClampNeg, sCol S h.toNatClampNeg v) else (2, 0, S)) else (1, 0, S)
def aCrack (S : BS) : Ans := (0, if 0 < sIc S - 3 then sIc S - 3 else 0, sIce S (if 0 < sIc S - 3 then sIc S - 3 else 0))
def aTrav (S : BS) (k w : Int32) : Ans := if (0 ≤ k ∧ k < nI (sN S)) ∧ 0 ≤ w ∧ w ≤ 6 then (0, tTold (sTv S k.toNatClampNeg) w.toNatClampNeg, S) else (1, 0, S)
def aCount (S : BS) (w : Int32) : Ans := if 0 ≤ w ∧ w ≤ 11 then (0, bCnt S w.toNatClampNeg, S) else (1, 0, S)
def aSpeed (S : BS) (up : Int32) : Ans := (0, bSpeed S up, S)
def aPass (S : BS) (n : Int32) : Ans := if 1 ≤ n ∧ n ≤ 240 then (0, bPassed (bRun S n.toNatClampNeg) - bPassed S, bRun S n.toNatClampNeg) else (1, 0, S)
def aWhen (S : BS) (k : Int32) : Ans := if 0 ≤ k ∧ k < nI (sN S) then (0, bWhen S k.toNatClampNeg, S) else (1, 0, S)
def aFore (S : BS) (n w : Int32) : Ans := if 1 ≤ n ∧ n ≤ 240 then (if 0 ≤ w ∧ w ≤ 3 then (0, bFore S n.toNatClampNeg w.toNatClampNeg, S) else (2, 0, S)) else (1, 0, S)
def aBestC (S : BS) (n : Int32) : Ans := if 1 ≤ n ∧ n ≤ 240 then (0, (bst (fCode S n.toNatClampNeg) 4).1, S) else (1, 0, S)
def aBestP (S : BS) (n : Int32) : Ans := if 1 ≤ n ∧ n ≤ 240 then (0, (bst (fPoise S n.toNatClampNeg) 31).1, S) else (1, 0, S)
theorem isT_ex {n : Nat} {k : Int32} (hn : n ≤ 40) (h : 0 ≤ k ∧ k < nI n) : ∃ j, j < n ∧ k = nI j := by
  obtain ⟨j, hj1, hj2⟩ := nI_of (x := k) (by rw [i_lt]; have := h.1; rw [i_le] at this; omega)
  refine ⟨j, ?_, hj2⟩
  rw [hj2] at h
  exact (nI_ltI hj1 (by omega)).mp h.2
theorem in1_ex {n : Int32} (h : 1 ≤ n ∧ n ≤ 240) : ∃ j, 1 ≤ j ∧ j ≤ 240 ∧ n = nI j := by
  obtain ⟨j, hj1, hj2⟩ := i_in (n := 240) rfl (by have := h.1; rw [i_le] at this ⊢; exact Int.le_trans (by decide) this) h.2
  refine ⟨j, ?_, hj1, hj2⟩
  have h1 := h.1
  rw [hj2] at h1
  exact (nI_leI (a := 1) (by decide) (by omega)).mp h1
theorem bPassing_congr {T : Nat} {S S1 : BS} (hok : OKS T S) (hn : sN S1 ≤ 40) (h1 : ∀ k, k < sN S1 → tSt (sTv S1 k) = 1 → k < sN S ∧ tSt (sTv S k) = 1) (h2 : ∀ k, k < sN S → tSt (sTv S k) = 1 → k < sN S1 ∧ tSt (sTv S1 k) = 1) : bPassing S1 = bPassing S := by
  rcases bPassing_or S with e | ⟨k, a1, a2, a3⟩
  · rw [e]
    exact bPassing_no (fun j hj e1 => bPassing_none e hok.2.2.2.2.2.2.2.1 j (h1 j hj e1).1 (h1 j hj e1).2)
  · rw [a2]
    exact bPassing_is hn (h2 k a1 a3).1 (h2 k a1 a3).2 (fun j hj e => hok.2.2.2.2.2.2.2.2.2 j k (h1 j hj e).1 a1 (h1 j hj e).2 a3)
theorem bPassing_come {T : Nat} {S : BS} {b v : Int32} (hok : OKS T S) (hn : sN S < 40) : bPassing (sCome S b v) = bPassing S := by
  refine bPassing_congr hok (show sN S + 1 ≤ 40 by omega) (fun k hk e => ?_) (fun k hk e => ⟨Nat.lt_succ_of_lt hk, ?_⟩)
  · have hk : k < sN S + 1 := hk
    have e : tSt (va_up (sTv S) (sN S) (b, v, sMi S, 0, 0, 0, -1) k) = 1 := e
    by_cases hkn : k = sN S
    · subst hkn
      rw [va_up_self] at e
      exact absurd e (by show ¬ (0 : Nat) = 1; decide)
    · rw [va_up_ne _ _ hkn] at e
      exact ⟨by omega, e⟩
  · show tSt (va_up (sTv S) (sN S) (b, v, sMi S, 0, 0, 0, -1) k) = 1
    rw [va_up_ne _ _ (by omega)]
    exact e
theorem bPassing_gone {T : Nat} {S : BS} {j : Nat} (hok : OKS T S) (h0 : tSt (sTv S j) = 0) : bPassing (sGone S j) = bPassing S := by
  refine bPassing_congr hok hok.2.2.2.2.2.2.2.1 (fun k hk e => ⟨hk, ?_⟩) (fun k hk e => ⟨hk, ?_⟩)
  · have e : tSt (va_up (sTv S) j (tGone (sTv S j)) k) = 1 := e
    by_cases hkn : k = j
    · subst hkn
      rw [va_up_self] at e
      exact absurd e (by show ¬ (3 : Nat) = 1; decide)
    · rw [va_up_ne _ _ hkn] at e
      exact e
  · show tSt (va_up (sTv S) j (tGone (sTv S j)) k) = 1
    rw [va_up_ne _ _ (by rintro rfl; rw [h0] at e; cases e)]
    exact e
theorem AR_come {S : BS} {b v : Int32} {fi fw fl fh : Nat → Int32} (hA : AR S fi fw fl fh) (hZ : ZE (sN S) fi fw fl) (hn : sN S < 40) : AR (sCome S b v) fi fw fl (upd fh (sN S) (-1)) := by
  intro k hk
  have hk : k < sN S + 1 := hk
  show fi k = nI (tSt (va_up (sTv S) (sN S) (b, v, sMi S, 0, 0, 0, -1) k)) ∧ fw k = tWa (va_up (sTv S) (sN S) (b, v, sMi S, 0, 0, 0, -1) k) ∧ fl k = tLe (va_up (sTv S) (sN S) (b, v, sMi S, 0, 0, 0, -1) k) ∧ upd fh (sN S) (-1) k = tPa (va_up (sTv S) (sN S) (b, v, sMi S, 0, 0, 0, -1) k)
  by_cases hkn : k = sN S
  · subst hkn
    rw [va_up_self, upd_at]
    obtain ⟨z1, z2, z3⟩ := hZ (sN S) (Nat.le_refl _) hn
    exact ⟨z1.trans nI_0.symm, z2, z3, rfl⟩
  · rw [va_up_ne _ _ hkn, upd_ne _ _ hkn]
    exact hA k (by omega)
theorem OR_come {S : BS} {b v : Int32} {fb fn fc : Nat → Int32} (hO : OR S fb fn fc) : OR (sCome S b v) (upd fb (sN S) b) (upd fn (sN S) v) (upd fc (sN S) (sMi S)) := by
  intro k hk
  have hk : k < sN S + 1 := hk
  show upd fb (sN S) b k = tBa (va_up (sTv S) (sN S) (b, v, sMi S, 0, 0, 0, -1) k) ∧ upd fn (sN S) v k = tMi (va_up (sTv S) (sN S) (b, v, sMi S, 0, 0, 0, -1) k) ∧ upd fc (sN S) (sMi S) k = tCa (va_up (sTv S) (sN S) (b, v, sMi S, 0, 0, 0, -1) k)
  by_cases hkn : k = sN S
  · subst hkn
    rw [va_up_self, upd_at, upd_at, upd_at]
    exact ⟨rfl, rfl, rfl⟩
  · rw [va_up_ne _ _ hkn, upd_ne _ _ hkn, upd_ne _ _ hkn, upd_ne _ _ hkn]
    exact hO k (by omega)
theorem ZE.mono {n : Nat} {fi fw fl : Nat → Int32} (h : ZE n fi fw fl) : ZE (n + 1) fi fw fl := fun k h1 h2 => h k (by omega) h2
theorem AR_gone {S : BS} {j : Nat} {fi fw fl fh : Nat → Int32} (hA : AR S fi fw fl fh) : AR (sGone S j) (upd fi j 3) fw fl fh := by
  intro k hk
  obtain ⟨a1, a2, a3, a4⟩ := hA k hk
  show upd fi j 3 k = nI (tSt (va_up (sTv S) j (tGone (sTv S j)) k)) ∧ fw k = tWa (va_up (sTv S) j (tGone (sTv S j)) k) ∧ fl k = tLe (va_up (sTv S) j (tGone (sTv S j)) k) ∧ fh k = tPa (va_up (sTv S) j (tGone (sTv S j)) k)
  by_cases hkn : k = j
  · subst hkn
    rw [va_up_self, upd_at]
    exact ⟨rfl, a2, a3, a4⟩
  · rw [va_up_ne _ _ hkn, upd_ne _ _ hkn]
    exact ⟨a1, a2, a3, a4⟩
theorem OR_gone {S : BS} {j : Nat} {fb fn fc : Nat → Int32} (hO : OR S fb fn fc) : OR (sGone S j) fb fn fc := by
  intro k hk
  show fb k = tBa (va_up (sTv S) j (tGone (sTv S j)) k) ∧ fn k = tMi (va_up (sTv S) j (tGone (sTv S j)) k) ∧ fc k = tCa (va_up (sTv S) j (tGone (sTv S j)) k)
  by_cases hkn : k = j
  · subst hkn
    rw [va_up_self]
    exact hO k hk
  · rw [va_up_ne _ _ hkn]
    exact hO k hk
theorem b_n1 {n : Nat} {k : Int32} (hn : n ≤ 40) : (0 ≤ k ∧ k ≤ nI n - 1) ↔ (0 ≤ k ∧ k < nI n) := by
  constructor
  · intro ⟨h0, h1⟩
    refine ⟨h0, ?_⟩
    cases n with
    | zero =>
      exfalso
      rw [i_le] at h0 h1
      have e : (nI 0 - 1).toInt = -1 := by decide
      have e0 : (0 : Int32).toInt = 0 := by decide
      omega
    | succ n =>
      rw [nI_pred] at h1
      rw [i_le] at h1
      rw [i_lt]
      have e1 := nI_toInt (n := n) (by omega)
      have e2 := nI_toInt (n := n + 1) (by omega)
      omega
  · intro ⟨h0, h1⟩
    refine ⟨h0, ?_⟩
    obtain ⟨j, hj1, hj2⟩ := isT_ex hn ⟨h0, h1⟩
    subst hj2
    cases n with
    | zero => omega
    | succ n => rw [nI_pred]; exact nI_le (by omega) (by omega)

set_option maxHeartbeats 4000000 in
theorem met_X4_isIn (l : Launch) (g : GT) (v lo hi : Int32) : Met l yX4_isIn (ws_ yX4_isIn cX4_isIn 3 (Option.some Jvm.ClassFile.FieldType.boolean)) ({ frames := 0, cells := 0, slots := 0, locals := 0 } : Room) (PcG g [.int v, .int lo, .int hi] (fun _ => True)) (vp_Si (fun r => r = if lo ≤ v ∧ v ≤ hi then 1 else 0)) 0 0 (fun _ => False) := by
  refine gg_met (cc := cX4_isIn) (maxL := 3) (ret := (Option.some Jvm.ClassFile.FieldType.boolean)) (by decide) (Nat.le_of_ble_eq_true rfl) ?_
  intro p e s m below meth c hx hb hr hlk hin hml hown hts hG hB ls hl
  have hown : s.vm.findClass RX4 = some m.cls := hown
  have hl : lv_has ls 3 [(0, .int v), (1, .int lo), (2, .int hi)] := hl
  refine lv_iload_n hx hb dX4_isIn_0 rfl (lv_at hl 0 rfl) ?_
  refine lv_iload_n hx hb dX4_isIn_1 rfl (lv_at hl 1 rfl) ?_
  refine lv_icmp_lt (tgt := 14) hx hb dX4_isIn_2 (by decide) (fun c_2 => ?_) (fun c_2 => ?_)
  · refine lv_iconst (v := 0) hx hb dX4_isIn_14 (by decide) ?_
    exact W.zret (v := 0) hx hb hr rfl (fun t9 h9 hW9 => ⟨_, rfl, (if_neg (fun e => Int32.not_lt.mpr e.1 c_2)).symm, h9⟩) (fun _ h => absurd h List.not_mem_nil) dX4_isIn_15
  · refine lv_iload_n hx hb dX4_isIn_5 rfl (lv_at hl 0 rfl) ?_
    refine lv_iload_n hx hb dX4_isIn_6 rfl (lv_at hl 2 rfl) ?_
    refine lv_icmp_gt (tgt := 14) hx hb dX4_isIn_7 (by decide) (fun c_7 => ?_) (fun c_7 => ?_)
    · refine lv_iconst (v := 0) hx hb dX4_isIn_14 (by decide) ?_
      exact W.zret (v := 0) hx hb hr rfl (fun t9 h9 hW9 => ⟨_, rfl, (if_neg (fun e => Int32.not_lt.mpr e.2 c_7)).symm, h9⟩) (fun _ h => absurd h List.not_mem_nil) dX4_isIn_15
    · refine lv_iconst (v := 1) hx hb dX4_isIn_10 (by decide) ?_
      refine lv_goto (tgt := 15) hx hb dX4_isIn_11 (by decide) ?_
      exact W.zret (v := 1) hx hb hr rfl (fun t9 h9 hW9 => ⟨_, rfl, (if_pos ⟨Int32.not_lt.mp c_2, Int32.not_lt.mp c_7⟩).symm, h9⟩) (fun _ h => absurd h List.not_mem_nil) dX4_isIn_15

set_option maxHeartbeats 4000000 in
theorem met_X4_no (l : Launch) (g : GT) (a n ib nd ca cd s0 a0 : Nat) (th : Int32) (v : Int32) (hN : gA g a) : Met l yX4_no (ws_ yX4_no cX4_no 2 (Option.some Jvm.ClassFile.FieldType.int)) ({ frames := 0, cells := 0, slots := 0, locals := 0 } : Room) (PcG g [.ref a, .int v] (fun H => va_at (gD g) bbCl (a, moE th n ib nd ca cd s0 a0) H)) (va_Qi (fun (r : Int32) (_ : Unit) => r = 0) (fun _ u => va_at (gD g) bbCl (a, moE v n ib nd ca cd s0 a0) u.heap) (fun q => q = a)) 0 0 (fun q => q = a) := by
  refine gg_met (cc := cX4_no) (maxL := 2) (ret := (Option.some Jvm.ClassFile.FieldType.int)) (by decide) (Nat.le_of_ble_eq_true rfl) ?_
  intro p e s m below meth c hx hb hr hlk hin hml hown hts hG hB ls hl
  have hown : s.vm.findClass RX4 = some m.cls := hown
  have hl : lv_has ls 2 [(0, .ref a), (1, .int v)] := hl
  have h_m := hB
  have hAN : ∀ q, q = a → gA g q := fun q e => by rw [e]; exact hN
  have hS : va_S (fun q => q = a) s.heap s.heap [] := va_S.rf
  refine lv_aload_n hx hb dX4_no_0 rfl (lv_at hl 0 rfl) ?_
  refine lv_iload_n hx hb dX4_no_1 rfl (lv_at hl 1 rfl) ?_
  refine gg_put (ci := 4) (v := .int v) (C := RX4) (T := TX4) (N := 8) hx hb hts in_X4 tyX4 tyX4_ok nmX4 hown hG h_m hS rfl rfl 0 (by decide) q716 rfl rfl rfl rfl (Nat.le_of_ble_eq_true rfl) dX4_no_2 (fun H locs h_m hbut hS => ?_)
  have h_m : va_at (gD g) bbCl (a, .inr (4, [.int v, .int (nI n), .ref ib, .ref nd, .ref ca, .ref cd, .ref s0, .ref a0])) H := h_m
  refine lv_iconst (v := 0) hx hb dX4_no_5 (by decide) ?_
  exact W.iret (v := 0) hx hb hr (fun t9 h9 hW9 => ⟨⟨_, (), rfl, rfl, by dsimp only; rw [h9]; exact h_m⟩, hS.F h9⟩) hS.2.2 dX4_no_6

set_option maxHeartbeats 4000000 in
theorem met_X4_isTraveller (l : Launch) (g : GT) (a n ib nd ca cd s0 a0 : Nat) (th : Int32) (k : Int32) (hn : n ≤ 40) : Met l yX4_isTraveller (ws_ yX4_isTraveller cX4_isTraveller 2 (Option.some Jvm.ClassFile.FieldType.boolean)) ({ frames := 1, cells := 0, slots := 0, locals := 22 } : Room) (PcG g [.ref a, .int k] (fun H => va_at (gD g) bbCl (a, moE th n ib nd ca cd s0 a0) H)) (vp_Si (fun r => r = if 0 ≤ k ∧ k < nI n then 1 else 0)) 0 0 (fun _ => False) := by
  refine gg_met (cc := cX4_isTraveller) (maxL := 2) (ret := (Option.some Jvm.ClassFile.FieldType.boolean)) (by decide) (Nat.le_of_ble_eq_true rfl) ?_
  intro p e s m below meth c hx hb hr hlk hin hml hown hts hG hB ls hl
  have hown : s.vm.findClass RX4 = some m.cls := hown
  have hl : lv_has ls 2 [(0, .ref a), (1, .int k)] := hl
  have h_m := hB
  refine lv_iload_n hx hb dX4_isTraveller_0 rfl (lv_at hl 1 rfl) ?_
  refine lv_iconst (v := 0) hx hb dX4_isTraveller_1 (by decide) ?_
  refine lv_aload_n hx hb dX4_isTraveller_2 rfl (lv_at hl 0 rfl) ?_
  refine gg_get (ci := 4) (C := RX4) (T := TX4) (N := 8) (v := .int (nI n)) hx hb hts in_X4 hown hG h_m rfl 1 (by decide) q717 rfl rfl dX4_isTraveller_3 ?_
  refine lv_iconst (v := 1) hx hb dX4_isTraveller_6 (by decide) ?_
  refine lv_isub hx hb dX4_isTraveller_7 ?_
  refine vp_callSi (va_Run.run (va_runS (As := [.int k, .int 0, .int (nI n - 1)]) (rest := []) ⟨hx, hb, hml, hown, hts⟩ (met_X4_isIn l g k 0 (nI n - 1)) (va_cwS 3 hts (lw_S q753 q754 q21 q755) rfl rfl rfl (by decide +kernel) ⟨Nat.le_of_ble_eq_true rfl, Nat.le_of_ble_eq_true rfl⟩) (gg_preS hG (Kp.rf hG) trivial) rfl rfl hl.1 rfl (lv_room (Nat.le_of_ble_eq_true rfl)) dX4_isTraveller_8 ⟨Nat.le_of_ble_eq_true rfl, Nat.le_of_ble_eq_true rfl⟩)) (fun r_1 hr_1 => ?_)
  exact W.zret (v := r_1) hx hb hr (by rw [hr_1]; split <;> rfl) (fun t9 h9 hW9 => ⟨_, rfl, (by rw [hr_1]; by_cases h : 0 ≤ k ∧ k < nI n; rw [if_pos h, if_pos ((b_n1 hn).mpr h)]; rw [if_neg h, if_neg (fun e => h ((b_n1 hn).mp e))]), h9⟩) (fun _ h => absurd h List.not_mem_nil) dX4_isTraveller_11

set_option maxHeartbeats 4000000 in
theorem met_X4_thrown (l : Launch) (g : GT) (a n ib nd ca cd s0 a0 : Nat) (th : Int32) : Met l yX4_thrown (ws_ yX4_thrown cX4_thrown 1 (Option.some Jvm.ClassFile.FieldType.int)) ({ frames := 0, cells := 0, slots := 0, locals := 0 } : Room) (PcG g [.ref a] (fun H => va_at (gD g) bbCl (a, moE th n ib nd ca cd s0 a0) H)) (vp_Si (fun r => r = th)) 0 0 (fun _ => False) := by
  refine gg_met (cc := cX4_thrown) (maxL := 1) (ret := (Option.some Jvm.ClassFile.FieldType.int)) (by decide) (Nat.le_of_ble_eq_true rfl) ?_
  intro p e s m below meth c hx hb hr hlk hin hml hown hts hG hB ls hl
  have hown : s.vm.findClass RX4 = some m.cls := hown
  have hl : lv_has ls 1 [(0, .ref a)] := hl
  have h_m := hB
  refine lv_aload_n hx hb dX4_thrown_0 rfl (lv_at hl 0 rfl) ?_
  refine gg_get (ci := 4) (C := RX4) (T := TX4) (N := 8) (v := .int th) hx hb hts in_X4 hown hG h_m rfl 0 (by decide) q716 rfl rfl dX4_thrown_1 ?_
  exact W.iret (v := th) hx hb hr (fun t9 h9 hW9 => ⟨_, rfl, rfl, h9⟩) (fun _ h => absurd h List.not_mem_nil) dX4_thrown_4

set_option maxHeartbeats 4000000 in
theorem met_X4_come (l : Launch) (g : GT) (T : Nat) (M B C : Nat → Nat) (th : Int32) (S : BS) (hok : OKS T S) (hD : MD g M B C) (b v : Int32) (hb01 : b = 0 ∨ b = 1) : Met l yX4_come (ws_ yX4_come cX4_come 3 (Option.some Jvm.ClassFile.FieldType.int)) ({ frames := 1, cells := 0, slots := 0, locals := 22 } : Room) (PcG g [.ref (M 0), .int b, .int v] (fun H => MX g M B C th S H)) (va_Qi (fun (r : Int32) (_ : Unit) => r = (aCome S b v).2.1) (fun _ u => MX g M B C (aCome S b v).1 (aCome S b v).2.2 u.heap) (FM M B C)) 0 0 (FM M B C) := by
  refine gg_met (cc := cX4_come) (maxL := 3) (ret := (Option.some Jvm.ClassFile.FieldType.int)) (by decide) (Nat.le_of_ble_eq_true rfl) ?_
  intro p e s m below meth c hx hb hr hlk hin hml hown hts hG hB ls hl
  have hown : s.vm.findClass RX4 = some m.cls := hown
  have hl : lv_has ls 3 [(0, .ref (M 0)), (1, .int b), (2, .int v)] := hl
  obtain ⟨hMO, hSP, hC⟩ := hB
  obtain ⟨fb, fn, fc, h_m, h_ib, h_nd, h_ca, h_cd, hOR⟩ := hMO
  obtain ⟨fi, fw, fl, fh, ⟨h_st, h_ai, h_aw, h_al, h_ah⟩, hAR, hZ⟩ := hSP
  have nM := hD.1.ne
  have nB := hD.2.1.ne
  have nBM := hD.2.2.2.1
  have nMB := hD.2.2.2.1.symm
  have nCM := hD.2.2.2.2.1
  have nCB := hD.2.2.2.2.2.1.symm
  have hAN : ∀ q, FM M B C q → gA g q := hD.an
  have hS : va_S (FM M B C) s.heap s.heap [] := va_S.rf
  have hn40 : sN S ≤ 40 := hok.2.2.2.2.2.2.2.1
  refine lv_aload_n hx hb dX4_come_0 rfl (lv_at hl 0 rfl) ?_
  refine lv_iconst (v := 0) hx hb dX4_come_1 (by decide) ?_
  refine gg_put (ci := 4) (v := .int 0) (C := RX4) (T := TX4) (N := 8) hx hb hts in_X4 tyX4 tyX4_ok nmX4 hown hG h_m hS (Or.inl ⟨0, by decide, rfl⟩) rfl 0 (by decide) q716 rfl rfl rfl rfl (Nat.le_of_ble_eq_true rfl) dX4_come_2 (fun H locs h_m hbut hS => ?_)
  have h_m : va_at (gD g) bbCl ((M 0), .inr (4, [.int 0, .int (nI (sN S)), .ref (M 1), .ref (M 2), .ref (M 3), .ref (M 4), .ref (B 0), .ref (C 0)])) H := h_m
  have h_ib := h_ib.but hbut (nM 1 0 (by decide) (by decide) (by decide))
  have h_nd := h_nd.but hbut (nM 2 0 (by decide) (by decide) (by decide))
  have h_ca := h_ca.but hbut (nM 3 0 (by decide) (by decide) (by decide))
  have h_cd := h_cd.but hbut (nM 4 0 (by decide) (by decide) (by decide))
  have h_st := h_st.but hbut (nBM 0 0 (by decide) (by decide))
  have h_ai := h_ai.but hbut (nBM 1 0 (by decide) (by decide))
  have h_aw := h_aw.but hbut (nBM 2 0 (by decide) (by decide))
  have h_al := h_al.but hbut (nBM 3 0 (by decide) (by decide))
  have h_ah := h_ah.but hbut (nBM 4 0 (by decide) (by decide))
  have hC := hC.kept (fun i hi9 _ => hbut.2 _ (nCM i 0 hi9 (by decide)))
  refine lv_iload_n hx hb dX4_come_5 rfl (lv_at hl 2 rfl) ?_
  refine lv_iconst (v := 1) hx hb dX4_come_6 (by decide) ?_
  refine lv_bipush (v := 6) hx hb dX4_come_7 (by decide) ?_
  refine vp_callSi (va_Run.run (va_runS (As := [.int v, .int 1, .int 6]) (rest := []) ⟨hx, hb, hml, hown, hts⟩ (met_X4_isIn l g v 1 6) (va_cwS 3 hts (lw_S q753 q754 q21 q755) rfl rfl rfl (by decide +kernel) ⟨Nat.le_of_ble_eq_true rfl, Nat.le_of_ble_eq_true rfl⟩) (gg_preS hG (hS.kp hG hAN) trivial) rfl rfl hl.1 rfl (lv_room (Nat.le_of_ble_eq_true rfl)) dX4_come_9 ⟨Nat.le_of_ble_eq_true rfl, Nat.le_of_ble_eq_true rfl⟩)) (fun r_1 hr_1 => ?_)
  refine lv_if_ne (tgt := 21) hx hb dX4_come_12 (by decide) (fun c_12 => ?_) (fun c_12 => ?_)
  · refine lv_aload_n hx hb dX4_come_21 rfl (lv_at hl 0 rfl) ?_
    refine gg_get (ci := 4) (C := RX4) (T := TX4) (N := 8) (v := .int (nI (sN S))) hx hb hts in_X4 hown hG h_m rfl 1 (by decide) q717 rfl rfl dX4_come_22 ?_
    refine lv_bipush (v := 40) hx hb dX4_come_25 (by decide) ?_
    refine lv_icmp_ne (tgt := 36) hx hb dX4_come_27 (by decide) (fun c_27 => ?_) (fun c_27 => ?_)
    · have hn39 : sN S < 40 := by rcases Nat.lt_or_ge (sN S) 40 with q | q; exact q; exact absurd (show nI (sN S) = nI 40 by rw [show sN S = 40 by omega]) c_27
      refine lv_aload_n hx hb dX4_come_36 rfl (lv_at hl 0 rfl) ?_
      refine gg_get (ci := 4) (C := RX4) (T := TX4) (N := 8) (v := .ref (M 1)) hx hb hts in_X4 hown hG h_m rfl 2 (by decide) q719 rfl rfl dX4_come_37 ?_
      refine lv_aload_n hx hb dX4_come_40 rfl (lv_at hl 0 rfl) ?_
      refine gg_get (ci := 4) (C := RX4) (T := TX4) (N := 8) (v := .int (nI (sN S))) hx hb hts in_X4 hown hG h_m rfl 1 (by decide) q717 rfl rfl dX4_come_41 ?_
      refine lv_iload_n hx hb dX4_come_44 rfl (lv_at hl 1 rfl) ?_
      refine lv_if_eq (tgt := 52) hx hb dX4_come_45 (by decide) (fun c_45 => ?_) (fun c_45 => ?_)
      · refine lv_iconst (v := 0) hx hb dX4_come_52 (by decide) ?_
        rw [show (0 : Int32) = b by exact c_45.symm]
        refine gg_iast hx hb hG h_ib hS (Or.inl ⟨1, by decide, rfl⟩) (sN S) hn39 (by decide) rfl dX4_come_53 (fun H locs h_ib hbut hS => ?_)
        have h_ib : va_at (gD g) bbCl ((M 1), .inl (gI g, 40, .inl (upd fb (sN S) b))) H := h_ib
        have h_m := h_m.but hbut (nM 0 1 (by decide) (by decide) (by decide))
        have h_nd := h_nd.but hbut (nM 2 1 (by decide) (by decide) (by decide))
        have h_ca := h_ca.but hbut (nM 3 1 (by decide) (by decide) (by decide))
        have h_cd := h_cd.but hbut (nM 4 1 (by decide) (by decide) (by decide))
        have h_st := h_st.but hbut (nBM 0 1 (by decide) (by decide))
        have h_ai := h_ai.but hbut (nBM 1 1 (by decide) (by decide))
        have h_aw := h_aw.but hbut (nBM 2 1 (by decide) (by decide))
        have h_al := h_al.but hbut (nBM 3 1 (by decide) (by decide))
        have h_ah := h_ah.but hbut (nBM 4 1 (by decide) (by decide))
        have hC := hC.kept (fun i hi9 _ => hbut.2 _ (nCM i 1 hi9 (by decide)))
        refine lv_aload_n hx hb dX4_come_54 rfl (lv_at hl 0 rfl) ?_
        refine gg_get (ci := 4) (C := RX4) (T := TX4) (N := 8) (v := .ref (M 2)) hx hb hts in_X4 hown hG h_m rfl 3 (by decide) q721 rfl rfl dX4_come_55 ?_
        refine lv_aload_n hx hb dX4_come_58 rfl (lv_at hl 0 rfl) ?_
        refine gg_get (ci := 4) (C := RX4) (T := TX4) (N := 8) (v := .int (nI (sN S))) hx hb hts in_X4 hown hG h_m rfl 1 (by decide) q717 rfl rfl dX4_come_59 ?_
        refine lv_iload_n hx hb dX4_come_62 rfl (lv_at hl 2 rfl) ?_
        refine gg_iast hx hb hG h_nd hS (Or.inl ⟨2, by decide, rfl⟩) (sN S) hn39 (by decide) rfl dX4_come_63 (fun H locs h_nd hbut hS => ?_)
        have h_nd : va_at (gD g) bbCl ((M 2), .inl (gI g, 40, .inl (upd fn (sN S) v))) H := h_nd
        have h_m := h_m.but hbut (nM 0 2 (by decide) (by decide) (by decide))
        have h_ib := h_ib.but hbut (nM 1 2 (by decide) (by decide) (by decide))
        have h_ca := h_ca.but hbut (nM 3 2 (by decide) (by decide) (by decide))
        have h_cd := h_cd.but hbut (nM 4 2 (by decide) (by decide) (by decide))
        have h_st := h_st.but hbut (nBM 0 2 (by decide) (by decide))
        have h_ai := h_ai.but hbut (nBM 1 2 (by decide) (by decide))
        have h_aw := h_aw.but hbut (nBM 2 2 (by decide) (by decide))
        have h_al := h_al.but hbut (nBM 3 2 (by decide) (by decide))
        have h_ah := h_ah.but hbut (nBM 4 2 (by decide) (by decide))
        have hC := hC.kept (fun i hi9 _ => hbut.2 _ (nCM i 2 hi9 (by decide)))
        refine lv_aload_n hx hb dX4_come_64 rfl (lv_at hl 0 rfl) ?_
        refine gg_get (ci := 4) (C := RX4) (T := TX4) (N := 8) (v := .ref (M 3)) hx hb hts in_X4 hown hG h_m rfl 4 (by decide) q723 rfl rfl dX4_come_65 ?_
        refine lv_aload_n hx hb dX4_come_68 rfl (lv_at hl 0 rfl) ?_
        refine gg_get (ci := 4) (C := RX4) (T := TX4) (N := 8) (v := .int (nI (sN S))) hx hb hts in_X4 hown hG h_m rfl 1 (by decide) q717 rfl rfl dX4_come_69 ?_
        refine lv_aload_n hx hb dX4_come_72 rfl (lv_at hl 0 rfl) ?_
        refine gg_get (ci := 4) (C := RX4) (T := TX4) (N := 8) (v := .ref (B 0)) hx hb hts in_X4 hown hG h_m rfl 6 (by decide) q726 rfl rfl dX4_come_73 ?_
        refine gg_getN (ci := 5) (C := RX5) (T := TX5) (N := 12) (v := .int (sMi S)) hx hb hts in_X5 hown hG h_st rfl 0 (by decide) q671 rfl rfl dX4_come_76 ?_
        refine gg_iast hx hb hG h_ca hS (Or.inl ⟨3, by decide, rfl⟩) (sN S) hn39 (by decide) rfl dX4_come_79 (fun H locs h_ca hbut hS => ?_)
        have h_ca : va_at (gD g) bbCl ((M 3), .inl (gI g, 40, .inl (upd fc (sN S) (sMi S)))) H := h_ca
        have h_m := h_m.but hbut (nM 0 3 (by decide) (by decide) (by decide))
        have h_ib := h_ib.but hbut (nM 1 3 (by decide) (by decide) (by decide))
        have h_nd := h_nd.but hbut (nM 2 3 (by decide) (by decide) (by decide))
        have h_cd := h_cd.but hbut (nM 4 3 (by decide) (by decide) (by decide))
        have h_st := h_st.but hbut (nBM 0 3 (by decide) (by decide))
        have h_ai := h_ai.but hbut (nBM 1 3 (by decide) (by decide))
        have h_aw := h_aw.but hbut (nBM 2 3 (by decide) (by decide))
        have h_al := h_al.but hbut (nBM 3 3 (by decide) (by decide))
        have h_ah := h_ah.but hbut (nBM 4 3 (by decide) (by decide))
        have hC := hC.kept (fun i hi9 _ => hbut.2 _ (nCM i 3 hi9 (by decide)))
        refine lv_aload_n hx hb dX4_come_80 rfl (lv_at hl 0 rfl) ?_
        refine gg_get (ci := 4) (C := RX4) (T := TX4) (N := 8) (v := .ref (B 0)) hx hb hts in_X4 hown hG h_m rfl 6 (by decide) q726 rfl rfl dX4_come_81 ?_
        refine gg_getN (ci := 5) (C := RX5) (T := TX5) (N := 12) (v := .ref (B 4)) hx hb hts in_X5 hown hG h_st rfl 10 (by decide) q689 rfl rfl dX4_come_84 ?_
        refine lv_aload_n hx hb dX4_come_87 rfl (lv_at hl 0 rfl) ?_
        refine gg_get (ci := 4) (C := RX4) (T := TX4) (N := 8) (v := .int (nI (sN S))) hx hb hts in_X4 hown hG h_m rfl 1 (by decide) q717 rfl rfl dX4_come_88 ?_
        refine lv_iconst (v := (-1)) hx hb dX4_come_91 (by decide) ?_
        refine gg_iast hx hb hG h_ah hS (Or.inr (Or.inl ⟨4, by decide, rfl⟩)) (sN S) hn39 (by decide) rfl dX4_come_92 (fun H locs h_ah hbut hS => ?_)
        have h_ah : va_at (gD g) bbCl ((B 4), .inl (gI g, 40, .inl (upd fh (sN S) (-1)))) H := h_ah
        have h_m := h_m.but hbut (nMB 0 4 (by decide) (by decide))
        have h_ib := h_ib.but hbut (nMB 1 4 (by decide) (by decide))
        have h_nd := h_nd.but hbut (nMB 2 4 (by decide) (by decide))
        have h_ca := h_ca.but hbut (nMB 3 4 (by decide) (by decide))
        have h_cd := h_cd.but hbut (nMB 4 4 (by decide) (by decide))
        have h_st := h_st.but hbut (nB 0 4 (by decide) (by decide) (by decide))
        have h_ai := h_ai.but hbut (nB 1 4 (by decide) (by decide) (by decide))
        have h_aw := h_aw.but hbut (nB 2 4 (by decide) (by decide) (by decide))
        have h_al := h_al.but hbut (nB 3 4 (by decide) (by decide) (by decide))
        have hC := hC.kept (fun i hi9 _ => hbut.2 _ (nCB i 4 hi9 (by decide)))
        refine lv_aload_n hx hb dX4_come_93 rfl (lv_at hl 0 rfl) ?_
        refine lv_dup hx hb dX4_come_94 rfl ?_
        refine gg_get (ci := 4) (C := RX4) (T := TX4) (N := 8) (v := .int (nI (sN S))) hx hb hts in_X4 hown hG h_m rfl 1 (by decide) q717 rfl rfl dX4_come_95 ?_
        refine lv_iconst (v := 1) hx hb dX4_come_98 (by decide) ?_
        refine lv_iadd hx hb dX4_come_99 ?_
        refine gg_put (ci := 4) (v := .int (nI (sN S) + 1)) (C := RX4) (T := TX4) (N := 8) hx hb hts in_X4 tyX4 tyX4_ok nmX4 hown hG h_m hS (Or.inl ⟨0, by decide, rfl⟩) rfl 1 (by decide) q717 rfl rfl rfl rfl (Nat.le_of_ble_eq_true rfl) dX4_come_100 (fun H locs h_m hbut hS => ?_)
        have h_m : va_at (gD g) bbCl ((M 0), .inr (4, [.int 0, .int (nI (sN S) + 1), .ref (M 1), .ref (M 2), .ref (M 3), .ref (M 4), .ref (B 0), .ref (C 0)])) H := h_m
        have h_ib := h_ib.but hbut (nM 1 0 (by decide) (by decide) (by decide))
        have h_nd := h_nd.but hbut (nM 2 0 (by decide) (by decide) (by decide))
        have h_ca := h_ca.but hbut (nM 3 0 (by decide) (by decide) (by decide))
        have h_cd := h_cd.but hbut (nM 4 0 (by decide) (by decide) (by decide))
        have h_st := h_st.but hbut (nBM 0 0 (by decide) (by decide))
        have h_ai := h_ai.but hbut (nBM 1 0 (by decide) (by decide))
        have h_aw := h_aw.but hbut (nBM 2 0 (by decide) (by decide))
        have h_al := h_al.but hbut (nBM 3 0 (by decide) (by decide))
        have h_ah := h_ah.but hbut (nBM 4 0 (by decide) (by decide))
        have hC := hC.kept (fun i hi9 _ => hbut.2 _ (nCM i 0 hi9 (by decide)))
        refine lv_aload_n hx hb dX4_come_103 rfl (lv_at hl 0 rfl) ?_
        refine gg_get (ci := 4) (C := RX4) (T := TX4) (N := 8) (v := .int (nI (sN S) + 1)) hx hb hts in_X4 hown hG h_m rfl 1 (by decide) q717 rfl rfl dX4_come_104 ?_
        refine lv_iconst (v := 1) hx hb dX4_come_107 (by decide) ?_
        refine lv_isub hx hb dX4_come_108 ?_
        rw [nI_1] at h_m
        have h_st : va_at (gD g) bbCl ((B 0), .inr (5, [.int (sMi S), .int (sAn S), .int (sPo S), .int (sIc S), .int (nI (sCo S)), .int (bPassing S), .int (sLa S), .ref (B 1), .ref (B 2), .ref (B 3), .ref (B 4), .ref (M 0)])) H := h_st
        rw [← bPassing_come (b := b) (v := v) hok hn39] at h_st
        have hE : aCome S b v = ((0, nI (sN S), sCome S b v) : Ans) := by unfold aCome; rw [if_pos (b01_t hr_1 c_12), if_neg c_27]
        exact W.iret (v := ((nI (sN S) + 1) - 1)) hx hb hr (fun t9 h9 hW9 => ⟨⟨_, (), rfl, (by rw [hE]; show nI (sN S) + 1 - 1 = nI (sN S); rw [nI_1]; exact nI_pred _), by dsimp only; rw [h9, hE]; exact ⟨⟨_, _, _, h_m, h_ib, h_nd, h_ca, h_cd, OR_come hOR⟩, ⟨_, _, _, _, ⟨h_st, h_ai, h_aw, h_al, h_ah⟩, AR_come hAR hZ hn39, hZ.mono⟩, hC⟩⟩, hS.F h9⟩) hS.2.2 dX4_come_109
      · refine lv_iconst (v := 1) hx hb dX4_come_48 (by decide) ?_
        refine lv_goto (tgt := 53) hx hb dX4_come_49 (by decide) ?_
        rw [show (1 : Int32) = b by rcases hb01 with e | e; exact absurd e c_45; exact e.symm]
        refine gg_iast hx hb hG h_ib hS (Or.inl ⟨1, by decide, rfl⟩) (sN S) hn39 (by decide) rfl dX4_come_53 (fun H locs h_ib hbut hS => ?_)
        have h_ib : va_at (gD g) bbCl ((M 1), .inl (gI g, 40, .inl (upd fb (sN S) b))) H := h_ib
        have h_m := h_m.but hbut (nM 0 1 (by decide) (by decide) (by decide))
        have h_nd := h_nd.but hbut (nM 2 1 (by decide) (by decide) (by decide))
        have h_ca := h_ca.but hbut (nM 3 1 (by decide) (by decide) (by decide))
        have h_cd := h_cd.but hbut (nM 4 1 (by decide) (by decide) (by decide))
        have h_st := h_st.but hbut (nBM 0 1 (by decide) (by decide))
        have h_ai := h_ai.but hbut (nBM 1 1 (by decide) (by decide))
        have h_aw := h_aw.but hbut (nBM 2 1 (by decide) (by decide))
        have h_al := h_al.but hbut (nBM 3 1 (by decide) (by decide))
        have h_ah := h_ah.but hbut (nBM 4 1 (by decide) (by decide))
        have hC := hC.kept (fun i hi9 _ => hbut.2 _ (nCM i 1 hi9 (by decide)))
        refine lv_aload_n hx hb dX4_come_54 rfl (lv_at hl 0 rfl) ?_
        refine gg_get (ci := 4) (C := RX4) (T := TX4) (N := 8) (v := .ref (M 2)) hx hb hts in_X4 hown hG h_m rfl 3 (by decide) q721 rfl rfl dX4_come_55 ?_
        refine lv_aload_n hx hb dX4_come_58 rfl (lv_at hl 0 rfl) ?_
        refine gg_get (ci := 4) (C := RX4) (T := TX4) (N := 8) (v := .int (nI (sN S))) hx hb hts in_X4 hown hG h_m rfl 1 (by decide) q717 rfl rfl dX4_come_59 ?_
        refine lv_iload_n hx hb dX4_come_62 rfl (lv_at hl 2 rfl) ?_
        refine gg_iast hx hb hG h_nd hS (Or.inl ⟨2, by decide, rfl⟩) (sN S) hn39 (by decide) rfl dX4_come_63 (fun H locs h_nd hbut hS => ?_)
        have h_nd : va_at (gD g) bbCl ((M 2), .inl (gI g, 40, .inl (upd fn (sN S) v))) H := h_nd
        have h_m := h_m.but hbut (nM 0 2 (by decide) (by decide) (by decide))
        have h_ib := h_ib.but hbut (nM 1 2 (by decide) (by decide) (by decide))
        have h_ca := h_ca.but hbut (nM 3 2 (by decide) (by decide) (by decide))
        have h_cd := h_cd.but hbut (nM 4 2 (by decide) (by decide) (by decide))
        have h_st := h_st.but hbut (nBM 0 2 (by decide) (by decide))
        have h_ai := h_ai.but hbut (nBM 1 2 (by decide) (by decide))
        have h_aw := h_aw.but hbut (nBM 2 2 (by decide) (by decide))
        have h_al := h_al.but hbut (nBM 3 2 (by decide) (by decide))
        have h_ah := h_ah.but hbut (nBM 4 2 (by decide) (by decide))
        have hC := hC.kept (fun i hi9 _ => hbut.2 _ (nCM i 2 hi9 (by decide)))
        refine lv_aload_n hx hb dX4_come_64 rfl (lv_at hl 0 rfl) ?_
        refine gg_get (ci := 4) (C := RX4) (T := TX4) (N := 8) (v := .ref (M 3)) hx hb hts in_X4 hown hG h_m rfl 4 (by decide) q723 rfl rfl dX4_come_65 ?_
        refine lv_aload_n hx hb dX4_come_68 rfl (lv_at hl 0 rfl) ?_
        refine gg_get (ci := 4) (C := RX4) (T := TX4) (N := 8) (v := .int (nI (sN S))) hx hb hts in_X4 hown hG h_m rfl 1 (by decide) q717 rfl rfl dX4_come_69 ?_
        refine lv_aload_n hx hb dX4_come_72 rfl (lv_at hl 0 rfl) ?_
        refine gg_get (ci := 4) (C := RX4) (T := TX4) (N := 8) (v := .ref (B 0)) hx hb hts in_X4 hown hG h_m rfl 6 (by decide) q726 rfl rfl dX4_come_73 ?_
        refine gg_getN (ci := 5) (C := RX5) (T := TX5) (N := 12) (v := .int (sMi S)) hx hb hts in_X5 hown hG h_st rfl 0 (by decide) q671 rfl rfl dX4_come_76 ?_
        refine gg_iast hx hb hG h_ca hS (Or.inl ⟨3, by decide, rfl⟩) (sN S) hn39 (by decide) rfl dX4_come_79 (fun H locs h_ca hbut hS => ?_)
        have h_ca : va_at (gD g) bbCl ((M 3), .inl (gI g, 40, .inl (upd fc (sN S) (sMi S)))) H := h_ca
        have h_m := h_m.but hbut (nM 0 3 (by decide) (by decide) (by decide))
        have h_ib := h_ib.but hbut (nM 1 3 (by decide) (by decide) (by decide))
        have h_nd := h_nd.but hbut (nM 2 3 (by decide) (by decide) (by decide))
        have h_cd := h_cd.but hbut (nM 4 3 (by decide) (by decide) (by decide))
        have h_st := h_st.but hbut (nBM 0 3 (by decide) (by decide))
        have h_ai := h_ai.but hbut (nBM 1 3 (by decide) (by decide))
        have h_aw := h_aw.but hbut (nBM 2 3 (by decide) (by decide))
        have h_al := h_al.but hbut (nBM 3 3 (by decide) (by decide))
        have h_ah := h_ah.but hbut (nBM 4 3 (by decide) (by decide))
        have hC := hC.kept (fun i hi9 _ => hbut.2 _ (nCM i 3 hi9 (by decide)))
        refine lv_aload_n hx hb dX4_come_80 rfl (lv_at hl 0 rfl) ?_
        refine gg_get (ci := 4) (C := RX4) (T := TX4) (N := 8) (v := .ref (B 0)) hx hb hts in_X4 hown hG h_m rfl 6 (by decide) q726 rfl rfl dX4_come_81 ?_
        refine gg_getN (ci := 5) (C := RX5) (T := TX5) (N := 12) (v := .ref (B 4)) hx hb hts in_X5 hown hG h_st rfl 10 (by decide) q689 rfl rfl dX4_come_84 ?_
        refine lv_aload_n hx hb dX4_come_87 rfl (lv_at hl 0 rfl) ?_
        refine gg_get (ci := 4) (C := RX4) (T := TX4) (N := 8) (v := .int (nI (sN S))) hx hb hts in_X4 hown hG h_m rfl 1 (by decide) q717 rfl rfl dX4_come_88 ?_
        refine lv_iconst (v := (-1)) hx hb dX4_come_91 (by decide) ?_
        refine gg_iast hx hb hG h_ah hS (Or.inr (Or.inl ⟨4, by decide, rfl⟩)) (sN S) hn39 (by decide) rfl dX4_come_92 (fun H locs h_ah hbut hS => ?_)
        have h_ah : va_at (gD g) bbCl ((B 4), .inl (gI g, 40, .inl (upd fh (sN S) (-1)))) H := h_ah
        have h_m := h_m.but hbut (nMB 0 4 (by decide) (by decide))
        have h_ib := h_ib.but hbut (nMB 1 4 (by decide) (by decide))
        have h_nd := h_nd.but hbut (nMB 2 4 (by decide) (by decide))
        have h_ca := h_ca.but hbut (nMB 3 4 (by decide) (by decide))
        have h_cd := h_cd.but hbut (nMB 4 4 (by decide) (by decide))
        have h_st := h_st.but hbut (nB 0 4 (by decide) (by decide) (by decide))
        have h_ai := h_ai.but hbut (nB 1 4 (by decide) (by decide) (by decide))
        have h_aw := h_aw.but hbut (nB 2 4 (by decide) (by decide) (by decide))
        have h_al := h_al.but hbut (nB 3 4 (by decide) (by decide) (by decide))
        have hC := hC.kept (fun i hi9 _ => hbut.2 _ (nCB i 4 hi9 (by decide)))
        refine lv_aload_n hx hb dX4_come_93 rfl (lv_at hl 0 rfl) ?_
        refine lv_dup hx hb dX4_come_94 rfl ?_
        refine gg_get (ci := 4) (C := RX4) (T := TX4) (N := 8) (v := .int (nI (sN S))) hx hb hts in_X4 hown hG h_m rfl 1 (by decide) q717 rfl rfl dX4_come_95 ?_
        refine lv_iconst (v := 1) hx hb dX4_come_98 (by decide) ?_
        refine lv_iadd hx hb dX4_come_99 ?_
        refine gg_put (ci := 4) (v := .int (nI (sN S) + 1)) (C := RX4) (T := TX4) (N := 8) hx hb hts in_X4 tyX4 tyX4_ok nmX4 hown hG h_m hS (Or.inl ⟨0, by decide, rfl⟩) rfl 1 (by decide) q717 rfl rfl rfl rfl (Nat.le_of_ble_eq_true rfl) dX4_come_100 (fun H locs h_m hbut hS => ?_)
        have h_m : va_at (gD g) bbCl ((M 0), .inr (4, [.int 0, .int (nI (sN S) + 1), .ref (M 1), .ref (M 2), .ref (M 3), .ref (M 4), .ref (B 0), .ref (C 0)])) H := h_m
        have h_ib := h_ib.but hbut (nM 1 0 (by decide) (by decide) (by decide))
        have h_nd := h_nd.but hbut (nM 2 0 (by decide) (by decide) (by decide))
        have h_ca := h_ca.but hbut (nM 3 0 (by decide) (by decide) (by decide))
        have h_cd := h_cd.but hbut (nM 4 0 (by decide) (by decide) (by decide))
        have h_st := h_st.but hbut (nBM 0 0 (by decide) (by decide))
        have h_ai := h_ai.but hbut (nBM 1 0 (by decide) (by decide))
        have h_aw := h_aw.but hbut (nBM 2 0 (by decide) (by decide))
        have h_al := h_al.but hbut (nBM 3 0 (by decide) (by decide))
        have h_ah := h_ah.but hbut (nBM 4 0 (by decide) (by decide))
        have hC := hC.kept (fun i hi9 _ => hbut.2 _ (nCM i 0 hi9 (by decide)))
        refine lv_aload_n hx hb dX4_come_103 rfl (lv_at hl 0 rfl) ?_
        refine gg_get (ci := 4) (C := RX4) (T := TX4) (N := 8) (v := .int (nI (sN S) + 1)) hx hb hts in_X4 hown hG h_m rfl 1 (by decide) q717 rfl rfl dX4_come_104 ?_
        refine lv_iconst (v := 1) hx hb dX4_come_107 (by decide) ?_
        refine lv_isub hx hb dX4_come_108 ?_
        rw [nI_1] at h_m
        have h_st : va_at (gD g) bbCl ((B 0), .inr (5, [.int (sMi S), .int (sAn S), .int (sPo S), .int (sIc S), .int (nI (sCo S)), .int (bPassing S), .int (sLa S), .ref (B 1), .ref (B 2), .ref (B 3), .ref (B 4), .ref (M 0)])) H := h_st
        rw [← bPassing_come (b := b) (v := v) hok hn39] at h_st
        have hE : aCome S b v = ((0, nI (sN S), sCome S b v) : Ans) := by unfold aCome; rw [if_pos (b01_t hr_1 c_12), if_neg c_27]
        exact W.iret (v := ((nI (sN S) + 1) - 1)) hx hb hr (fun t9 h9 hW9 => ⟨⟨_, (), rfl, (by rw [hE]; show nI (sN S) + 1 - 1 = nI (sN S); rw [nI_1]; exact nI_pred _), by dsimp only; rw [h9, hE]; exact ⟨⟨_, _, _, h_m, h_ib, h_nd, h_ca, h_cd, OR_come hOR⟩, ⟨_, _, _, _, ⟨h_st, h_ai, h_aw, h_al, h_ah⟩, AR_come hAR hZ hn39, hZ.mono⟩, hC⟩⟩, hS.F h9⟩) hS.2.2 dX4_come_109
    · refine lv_aload_n hx hb dX4_come_30 rfl (lv_at hl 0 rfl) ?_
      refine lv_iconst (v := 2) hx hb dX4_come_31 (by decide) ?_
      refine va_calli (va_runV (As := [.int 2]) (rest := []) ⟨hx, hb, hml, hown, hts⟩ (met_X4_no l g (M 0) (sN S) (M 1) (M 2) (M 3) (M 4) (B 0) (C 0) 0 2 (hAN _ (Or.inl ⟨0, by decide, rfl⟩))) (cwV 1 hts (lw_V q756 q758 qs6 q21 q759) rfl rfl rfl (by decide +kernel) ⟨Nat.le_of_ble_eq_true rfl, Nat.le_of_ble_eq_true rfl⟩) (gg_preV hG (hS.kp hG hAN) (gg_recv hG h_m rfl) h_m) rfl rfl hl.1 rfl (lv_room (Nat.le_of_ble_eq_true rfl)) dX4_come_32 ⟨Nat.le_of_ble_eq_true rfl, Nat.le_of_ble_eq_true rfl⟩) hS (fun q _ e => Or.inl ⟨0, by decide, e⟩) (fun q e => Or.inl ⟨0, by decide, e⟩) (fun r_n u t9 H1 locs ht hvm hr_n hQ hz1 hk1 hS => ?_)
      rw [ht] at hQ
      have h_ib := h_ib.kept (hk1 _ h_ib.lt (nM 1 0 (by decide) (by decide) (by decide)))
      have h_nd := h_nd.kept (hk1 _ h_nd.lt (nM 2 0 (by decide) (by decide) (by decide)))
      have h_ca := h_ca.kept (hk1 _ h_ca.lt (nM 3 0 (by decide) (by decide) (by decide)))
      have h_cd := h_cd.kept (hk1 _ h_cd.lt (nM 4 0 (by decide) (by decide) (by decide)))
      have h_st := h_st.kept (hk1 _ h_st.lt (nBM 0 0 (by decide) (by decide)))
      have h_ai := h_ai.kept (hk1 _ h_ai.lt (nBM 1 0 (by decide) (by decide)))
      have h_aw := h_aw.kept (hk1 _ h_aw.lt (nBM 2 0 (by decide) (by decide)))
      have h_al := h_al.kept (hk1 _ h_al.lt (nBM 3 0 (by decide) (by decide)))
      have h_ah := h_ah.kept (hk1 _ h_ah.lt (nBM 4 0 (by decide) (by decide)))
      have hC := hC.kept (fun i hi9 hl9 => hk1 _ hl9 (nCM i 0 hi9 (by decide)))
      have h_m := hQ
      generalize H1 = H at h_m h_ib h_nd h_ca h_cd h_st h_ai h_aw h_al h_ah hC hS ⊢
      have hE : aCome S b v = ((2, 0, S) : Ans) := by unfold aCome; rw [if_pos (b01_t hr_1 c_12), if_pos c_27]
      exact W.iret (v := r_n) hx hb hr (fun t9 h9 hW9 => ⟨⟨_, (), rfl, (hr_n.trans (congrArg (fun a : Ans => a.2.1) hE).symm), by dsimp only; rw [h9, hE]; exact ⟨⟨_, _, _, h_m, h_ib, h_nd, h_ca, h_cd, hOR⟩, ⟨_, _, _, _, ⟨h_st, h_ai, h_aw, h_al, h_ah⟩, hAR, hZ⟩, hC⟩⟩, hS.F h9⟩) hS.2.2 dX4_come_35
  · refine lv_aload_n hx hb dX4_come_15 rfl (lv_at hl 0 rfl) ?_
    refine lv_iconst (v := 1) hx hb dX4_come_16 (by decide) ?_
    refine va_calli (va_runV (As := [.int 1]) (rest := []) ⟨hx, hb, hml, hown, hts⟩ (met_X4_no l g (M 0) (sN S) (M 1) (M 2) (M 3) (M 4) (B 0) (C 0) 0 1 (hAN _ (Or.inl ⟨0, by decide, rfl⟩))) (cwV 1 hts (lw_V q756 q758 qs6 q21 q759) rfl rfl rfl (by decide +kernel) ⟨Nat.le_of_ble_eq_true rfl, Nat.le_of_ble_eq_true rfl⟩) (gg_preV hG (hS.kp hG hAN) (gg_recv hG h_m rfl) h_m) rfl rfl hl.1 rfl (lv_room (Nat.le_of_ble_eq_true rfl)) dX4_come_17 ⟨Nat.le_of_ble_eq_true rfl, Nat.le_of_ble_eq_true rfl⟩) hS (fun q _ e => Or.inl ⟨0, by decide, e⟩) (fun q e => Or.inl ⟨0, by decide, e⟩) (fun r_n u t9 H1 locs ht hvm hr_n hQ hz1 hk1 hS => ?_)
    rw [ht] at hQ
    have h_ib := h_ib.kept (hk1 _ h_ib.lt (nM 1 0 (by decide) (by decide) (by decide)))
    have h_nd := h_nd.kept (hk1 _ h_nd.lt (nM 2 0 (by decide) (by decide) (by decide)))
    have h_ca := h_ca.kept (hk1 _ h_ca.lt (nM 3 0 (by decide) (by decide) (by decide)))
    have h_cd := h_cd.kept (hk1 _ h_cd.lt (nM 4 0 (by decide) (by decide) (by decide)))
    have h_st := h_st.kept (hk1 _ h_st.lt (nBM 0 0 (by decide) (by decide)))
    have h_ai := h_ai.kept (hk1 _ h_ai.lt (nBM 1 0 (by decide) (by decide)))
    have h_aw := h_aw.kept (hk1 _ h_aw.lt (nBM 2 0 (by decide) (by decide)))
    have h_al := h_al.kept (hk1 _ h_al.lt (nBM 3 0 (by decide) (by decide)))
    have h_ah := h_ah.kept (hk1 _ h_ah.lt (nBM 4 0 (by decide) (by decide)))
    have hC := hC.kept (fun i hi9 hl9 => hk1 _ hl9 (nCM i 0 hi9 (by decide)))
    have h_m := hQ
    generalize H1 = H at h_m h_ib h_nd h_ca h_cd h_st h_ai h_aw h_al h_ah hC hS ⊢
    have hE : aCome S b v = ((1, 0, S) : Ans) := by unfold aCome; rw [if_neg (b01_f hr_1 c_12)]
    exact W.iret (v := r_n) hx hb hr (fun t9 h9 hW9 => ⟨⟨_, (), rfl, (hr_n.trans (congrArg (fun a : Ans => a.2.1) hE).symm), by dsimp only; rw [h9, hE]; exact ⟨⟨_, _, _, h_m, h_ib, h_nd, h_ca, h_cd, hOR⟩, ⟨_, _, _, _, ⟨h_st, h_ai, h_aw, h_al, h_ah⟩, hAR, hZ⟩, hC⟩⟩, hS.F h9⟩) hS.2.2 dX4_come_20

set_option maxHeartbeats 4000000 in
theorem met_X4_leave (l : Launch) (g : GT) (T : Nat) (M B C : Nat → Nat) (th : Int32) (S : BS) (hok : OKS T S) (hD : MD g M B C) (k : Int32) : Met l yX4_leave (ws_ yX4_leave cX4_leave 2 (Option.some Jvm.ClassFile.FieldType.int)) ({ frames := 2, cells := 0, slots := 0, locals := 43 } : Room) (PcG g [.ref (M 0), .int k] (fun H => MX g M B C th S H)) (va_Qi (fun (r : Int32) (_ : Unit) => r = (aLeave S k).2.1) (fun _ u => MX g M B C (aLeave S k).1 (aLeave S k).2.2 u.heap) (FM M B C)) 0 0 (FM M B C) := by
  refine gg_met (cc := cX4_leave) (maxL := 2) (ret := (Option.some Jvm.ClassFile.FieldType.int)) (by decide) (Nat.le_of_ble_eq_true rfl) ?_
  intro p e s m below meth c hx hb hr hlk hin hml hown hts hG hB ls hl
  have hown : s.vm.findClass RX4 = some m.cls := hown
  have hl : lv_has ls 2 [(0, .ref (M 0)), (1, .int k)] := hl
  obtain ⟨hMO, hSP, hC⟩ := hB
  obtain ⟨fb, fn, fc, h_m, h_ib, h_nd, h_ca, h_cd, hOR⟩ := hMO
  obtain ⟨fi, fw, fl, fh, ⟨h_st, h_ai, h_aw, h_al, h_ah⟩, hAR, hZ⟩ := hSP
  have nM := hD.1.ne
  have nB := hD.2.1.ne
  have nBM := hD.2.2.2.1
  have nMB := hD.2.2.2.1.symm
  have nCM := hD.2.2.2.2.1
  have nCB := hD.2.2.2.2.2.1.symm
  have hAN : ∀ q, FM M B C q → gA g q := hD.an
  have hS : va_S (FM M B C) s.heap s.heap [] := va_S.rf
  have hn40 : sN S ≤ 40 := hok.2.2.2.2.2.2.2.1
  refine lv_aload_n hx hb dX4_leave_0 rfl (lv_at hl 0 rfl) ?_
  refine lv_iconst (v := 0) hx hb dX4_leave_1 (by decide) ?_
  refine gg_put (ci := 4) (v := .int 0) (C := RX4) (T := TX4) (N := 8) hx hb hts in_X4 tyX4 tyX4_ok nmX4 hown hG h_m hS (Or.inl ⟨0, by decide, rfl⟩) rfl 0 (by decide) q716 rfl rfl rfl rfl (Nat.le_of_ble_eq_true rfl) dX4_leave_2 (fun H locs h_m hbut hS => ?_)
  have h_m : va_at (gD g) bbCl ((M 0), .inr (4, [.int 0, .int (nI (sN S)), .ref (M 1), .ref (M 2), .ref (M 3), .ref (M 4), .ref (B 0), .ref (C 0)])) H := h_m
  have h_ib := h_ib.but hbut (nM 1 0 (by decide) (by decide) (by decide))
  have h_nd := h_nd.but hbut (nM 2 0 (by decide) (by decide) (by decide))
  have h_ca := h_ca.but hbut (nM 3 0 (by decide) (by decide) (by decide))
  have h_cd := h_cd.but hbut (nM 4 0 (by decide) (by decide) (by decide))
  have h_st := h_st.but hbut (nBM 0 0 (by decide) (by decide))
  have h_ai := h_ai.but hbut (nBM 1 0 (by decide) (by decide))
  have h_aw := h_aw.but hbut (nBM 2 0 (by decide) (by decide))
  have h_al := h_al.but hbut (nBM 3 0 (by decide) (by decide))
  have h_ah := h_ah.but hbut (nBM 4 0 (by decide) (by decide))
  have hC := hC.kept (fun i hi9 _ => hbut.2 _ (nCM i 0 hi9 (by decide)))
  refine lv_aload_n hx hb dX4_leave_5 rfl (lv_at hl 0 rfl) ?_
  refine lv_iload_n hx hb dX4_leave_6 rfl (lv_at hl 1 rfl) ?_
  refine vp_callSi (va_Run.run (va_runV (As := [.int k]) (rest := []) ⟨hx, hb, hml, hown, hts⟩ (met_X4_isTraveller l g (M 0) (sN S) (M 1) (M 2) (M 3) (M 4) (B 0) (C 0) 0 k hn40) (cwV 1 hts (lw_V q764 q766 qs7 q21 q767) rfl rfl rfl (by decide +kernel) ⟨Nat.le_of_ble_eq_true rfl, Nat.le_of_ble_eq_true rfl⟩) (gg_preV hG (hS.kp hG hAN) (gg_recv hG h_m rfl) h_m) rfl rfl hl.1 rfl (lv_room (Nat.le_of_ble_eq_true rfl)) dX4_leave_7 ⟨Nat.le_of_ble_eq_true rfl, Nat.le_of_ble_eq_true rfl⟩)) (fun r_1 hr_1 => ?_)
  refine lv_if_ne (tgt := 19) hx hb dX4_leave_10 (by decide) (fun c_10 => ?_) (fun c_10 => ?_)
  · have hT := b01_t hr_1 c_10
    obtain ⟨j, hj, hkj⟩ := isT_ex hn40 hT
    subst hkj
    have hcl := nI_clamp (n := j) (by omega)
    obtain ⟨e_i, e_w, -, -⟩ := hAR j hj
    have hs4 := (hok.2.2.2.2.2.2.2.2.1 j hj).2.2.1
    refine lv_aload_n hx hb dX4_leave_19 rfl (lv_at hl 0 rfl) ?_
    refine gg_get (ci := 4) (C := RX4) (T := TX4) (N := 8) (v := .ref (B 0)) hx hb hts in_X4 hown hG h_m rfl 6 (by decide) q726 rfl rfl dX4_leave_20 ?_
    refine gg_getN (ci := 5) (C := RX5) (T := TX5) (N := 12) (v := .ref (B 1)) hx hb hts in_X5 hown hG h_st rfl 7 (by decide) q683 rfl rfl dX4_leave_23 ?_
    refine lv_iload_n hx hb dX4_leave_26 rfl (lv_at hl 1 rfl) ?_
    refine gg_iald hx hb hG h_ai j (show j < 40 by omega) (by decide) rfl dX4_leave_27 ?_
    refine lv_if_eq (tgt := 37) hx hb dX4_leave_28 (by decide) (fun c_28 => ?_) (fun c_28 => ?_)
    · refine lv_aload_n hx hb dX4_leave_37 rfl (lv_at hl 0 rfl) ?_
      refine gg_get (ci := 4) (C := RX4) (T := TX4) (N := 8) (v := .ref (B 0)) hx hb hts in_X4 hown hG h_m rfl 6 (by decide) q726 rfl rfl dX4_leave_38 ?_
      refine gg_getN (ci := 5) (C := RX5) (T := TX5) (N := 12) (v := .ref (B 1)) hx hb hts in_X5 hown hG h_st rfl 7 (by decide) q683 rfl rfl dX4_leave_41 ?_
      refine lv_iload_n hx hb dX4_leave_44 rfl (lv_at hl 1 rfl) ?_
      refine lv_iconst (v := 3) hx hb dX4_leave_45 (by decide) ?_
      refine gg_iast hx hb hG h_ai hS (Or.inr (Or.inl ⟨1, by decide, rfl⟩)) j (show j < 40 by omega) (by decide) rfl dX4_leave_46 (fun H locs h_ai hbut hS => ?_)
      have h_ai : va_at (gD g) bbCl ((B 1), .inl (gI g, 40, .inl (upd fi j 3))) H := h_ai
      have h_m := h_m.but hbut (nMB 0 1 (by decide) (by decide))
      have h_ib := h_ib.but hbut (nMB 1 1 (by decide) (by decide))
      have h_nd := h_nd.but hbut (nMB 2 1 (by decide) (by decide))
      have h_ca := h_ca.but hbut (nMB 3 1 (by decide) (by decide))
      have h_cd := h_cd.but hbut (nMB 4 1 (by decide) (by decide))
      have h_st := h_st.but hbut (nB 0 1 (by decide) (by decide) (by decide))
      have h_aw := h_aw.but hbut (nB 2 1 (by decide) (by decide) (by decide))
      have h_al := h_al.but hbut (nB 3 1 (by decide) (by decide) (by decide))
      have h_ah := h_ah.but hbut (nB 4 1 (by decide) (by decide) (by decide))
      have hC := hC.kept (fun i hi9 _ => hbut.2 _ (nCB i 1 hi9 (by decide)))
      refine lv_aload_n hx hb dX4_leave_47 rfl (lv_at hl 0 rfl) ?_
      refine gg_get (ci := 4) (C := RX4) (T := TX4) (N := 8) (v := .ref (B 0)) hx hb hts in_X4 hown hG h_m rfl 6 (by decide) q726 rfl rfl dX4_leave_48 ?_
      refine gg_getN (ci := 5) (C := RX5) (T := TX5) (N := 12) (v := .ref (B 2)) hx hb hts in_X5 hown hG h_st rfl 8 (by decide) q685 rfl rfl dX4_leave_51 ?_
      refine lv_iload_n hx hb dX4_leave_54 rfl (lv_at hl 1 rfl) ?_
      refine gg_iald hx hb hG h_aw j (show j < 40 by omega) (by decide) rfl dX4_leave_55 ?_
      have h0 : tSt (sTv S j) = 0 := (nI_st0 hs4).mp (e_i.symm.trans c_28)
      have h_st : va_at (gD g) bbCl ((B 0), .inr (5, [.int (sMi S), .int (sAn S), .int (sPo S), .int (sIc S), .int (nI (sCo S)), .int (bPassing S), .int (sLa S), .ref (B 1), .ref (B 2), .ref (B 3), .ref (B 4), .ref (M 0)])) H := h_st
      rw [← bPassing_gone (j := j) hok h0] at h_st
      have hE : aLeave S (nI j) = ((0, tWa (sTv S j), sGone S j) : Ans) := by unfold aLeave; rw [if_pos hT, hcl, if_pos h0]
      exact W.iret (v := (fw j)) hx hb hr (fun t9 h9 hW9 => ⟨⟨_, (), rfl, (e_w.trans (congrArg (fun a : Ans => a.2.1) hE).symm), by dsimp only; rw [h9, hE]; exact ⟨⟨_, _, _, h_m, h_ib, h_nd, h_ca, h_cd, OR_gone hOR⟩, ⟨_, _, _, _, ⟨h_st, h_ai, h_aw, h_al, h_ah⟩, AR_gone hAR, hZ.i hj _⟩, hC⟩⟩, hS.F h9⟩) hS.2.2 dX4_leave_56
    · refine lv_aload_n hx hb dX4_leave_31 rfl (lv_at hl 0 rfl) ?_
      refine lv_iconst (v := 2) hx hb dX4_leave_32 (by decide) ?_
      refine va_calli (va_runV (As := [.int 2]) (rest := []) ⟨hx, hb, hml, hown, hts⟩ (met_X4_no l g (M 0) (sN S) (M 1) (M 2) (M 3) (M 4) (B 0) (C 0) 0 2 (hAN _ (Or.inl ⟨0, by decide, rfl⟩))) (cwV 1 hts (lw_V q756 q758 qs6 q21 q759) rfl rfl rfl (by decide +kernel) ⟨Nat.le_of_ble_eq_true rfl, Nat.le_of_ble_eq_true rfl⟩) (gg_preV hG (hS.kp hG hAN) (gg_recv hG h_m rfl) h_m) rfl rfl hl.1 rfl (lv_room (Nat.le_of_ble_eq_true rfl)) dX4_leave_33 ⟨Nat.le_of_ble_eq_true rfl, Nat.le_of_ble_eq_true rfl⟩) hS (fun q _ e => Or.inl ⟨0, by decide, e⟩) (fun q e => Or.inl ⟨0, by decide, e⟩) (fun r_n u t9 H1 locs ht hvm hr_n hQ hz1 hk1 hS => ?_)
      rw [ht] at hQ
      have h_ib := h_ib.kept (hk1 _ h_ib.lt (nM 1 0 (by decide) (by decide) (by decide)))
      have h_nd := h_nd.kept (hk1 _ h_nd.lt (nM 2 0 (by decide) (by decide) (by decide)))
      have h_ca := h_ca.kept (hk1 _ h_ca.lt (nM 3 0 (by decide) (by decide) (by decide)))
      have h_cd := h_cd.kept (hk1 _ h_cd.lt (nM 4 0 (by decide) (by decide) (by decide)))
      have h_st := h_st.kept (hk1 _ h_st.lt (nBM 0 0 (by decide) (by decide)))
      have h_ai := h_ai.kept (hk1 _ h_ai.lt (nBM 1 0 (by decide) (by decide)))
      have h_aw := h_aw.kept (hk1 _ h_aw.lt (nBM 2 0 (by decide) (by decide)))
      have h_al := h_al.kept (hk1 _ h_al.lt (nBM 3 0 (by decide) (by decide)))
      have h_ah := h_ah.kept (hk1 _ h_ah.lt (nBM 4 0 (by decide) (by decide)))
      have hC := hC.kept (fun i hi9 hl9 => hk1 _ hl9 (nCM i 0 hi9 (by decide)))
      have h_m := hQ
      generalize H1 = H at h_m h_ib h_nd h_ca h_cd h_st h_ai h_aw h_al h_ah hC hS ⊢
      have hE : aLeave S (nI j) = ((2, 0, S) : Ans) := by unfold aLeave; rw [if_pos hT, hcl, if_neg (fun e => c_28 (by rw [e_i, e]; exact nI_0))]
      exact W.iret (v := r_n) hx hb hr (fun t9 h9 hW9 => ⟨⟨_, (), rfl, (hr_n.trans (congrArg (fun a : Ans => a.2.1) hE).symm), by dsimp only; rw [h9, hE]; exact ⟨⟨_, _, _, h_m, h_ib, h_nd, h_ca, h_cd, hOR⟩, ⟨_, _, _, _, ⟨h_st, h_ai, h_aw, h_al, h_ah⟩, hAR, hZ⟩, hC⟩⟩, hS.F h9⟩) hS.2.2 dX4_leave_36
  · refine lv_aload_n hx hb dX4_leave_13 rfl (lv_at hl 0 rfl) ?_
    refine lv_iconst (v := 1) hx hb dX4_leave_14 (by decide) ?_
    refine va_calli (va_runV (As := [.int 1]) (rest := []) ⟨hx, hb, hml, hown, hts⟩ (met_X4_no l g (M 0) (sN S) (M 1) (M 2) (M 3) (M 4) (B 0) (C 0) 0 1 (hAN _ (Or.inl ⟨0, by decide, rfl⟩))) (cwV 1 hts (lw_V q756 q758 qs6 q21 q759) rfl rfl rfl (by decide +kernel) ⟨Nat.le_of_ble_eq_true rfl, Nat.le_of_ble_eq_true rfl⟩) (gg_preV hG (hS.kp hG hAN) (gg_recv hG h_m rfl) h_m) rfl rfl hl.1 rfl (lv_room (Nat.le_of_ble_eq_true rfl)) dX4_leave_15 ⟨Nat.le_of_ble_eq_true rfl, Nat.le_of_ble_eq_true rfl⟩) hS (fun q _ e => Or.inl ⟨0, by decide, e⟩) (fun q e => Or.inl ⟨0, by decide, e⟩) (fun r_n u t9 H1 locs ht hvm hr_n hQ hz1 hk1 hS => ?_)
    rw [ht] at hQ
    have h_ib := h_ib.kept (hk1 _ h_ib.lt (nM 1 0 (by decide) (by decide) (by decide)))
    have h_nd := h_nd.kept (hk1 _ h_nd.lt (nM 2 0 (by decide) (by decide) (by decide)))
    have h_ca := h_ca.kept (hk1 _ h_ca.lt (nM 3 0 (by decide) (by decide) (by decide)))
    have h_cd := h_cd.kept (hk1 _ h_cd.lt (nM 4 0 (by decide) (by decide) (by decide)))
    have h_st := h_st.kept (hk1 _ h_st.lt (nBM 0 0 (by decide) (by decide)))
    have h_ai := h_ai.kept (hk1 _ h_ai.lt (nBM 1 0 (by decide) (by decide)))
    have h_aw := h_aw.kept (hk1 _ h_aw.lt (nBM 2 0 (by decide) (by decide)))
    have h_al := h_al.kept (hk1 _ h_al.lt (nBM 3 0 (by decide) (by decide)))
    have h_ah := h_ah.kept (hk1 _ h_ah.lt (nBM 4 0 (by decide) (by decide)))
    have hC := hC.kept (fun i hi9 hl9 => hk1 _ hl9 (nCM i 0 hi9 (by decide)))
    have h_m := hQ
    generalize H1 = H at h_m h_ib h_nd h_ca h_cd h_st h_ai h_aw h_al h_ah hC hS ⊢
    have hE : aLeave S k = ((1, 0, S) : Ans) := by unfold aLeave; rw [if_neg (b01_f hr_1 c_10)]
    exact W.iret (v := r_n) hx hb hr (fun t9 h9 hW9 => ⟨⟨_, (), rfl, (hr_n.trans (congrArg (fun a : Ans => a.2.1) hE).symm), by dsimp only; rw [h9, hE]; exact ⟨⟨_, _, _, h_m, h_ib, h_nd, h_ca, h_cd, hOR⟩, ⟨_, _, _, _, ⟨h_st, h_ai, h_aw, h_al, h_ah⟩, hAR, hZ⟩, hC⟩⟩, hS.F h9⟩) hS.2.2 dX4_leave_18

set_option maxHeartbeats 4000000 in
theorem met_X4_ring (l : Launch) (g : GT) (T : Nat) (M B C : Nat → Nat) (th : Int32) (S : BS) (hok : OKS T S) (hD : MD g M B C) (v : Int32) : Met l yX4_ring (ws_ yX4_ring cX4_ring 3 (Option.some Jvm.ClassFile.FieldType.int)) ({ frames := 1, cells := 0, slots := 0, locals := 22 } : Room) (PcG g [.ref (M 0), .int v] (fun H => MX g M B C th S H)) (va_Qi (fun (r : Int32) (_ : Unit) => r = (aRing S v).2.1) (fun _ u => MX g M B C (aRing S v).1 (aRing S v).2.2 u.heap) (FM M B C)) 0 0 (FM M B C) := by
  refine gg_met (cc := cX4_ring) (maxL := 3) (ret := (Option.some Jvm.ClassFile.FieldType.int)) (by decide) (Nat.le_of_ble_eq_true rfl) ?_
  intro p e s m below meth c hx hb hr hlk hin hml hown hts hG hB ls hl
  have hown : s.vm.findClass RX4 = some m.cls := hown
  have hl : lv_has ls 3 [(0, .ref (M 0)), (1, .int v)] := hl
  obtain ⟨hMO, hSP, hC⟩ := hB
  obtain ⟨fb, fn, fc, h_m, h_ib, h_nd, h_ca, h_cd, hOR⟩ := hMO
  obtain ⟨fi, fw, fl, fh, ⟨h_st, h_ai, h_aw, h_al, h_ah⟩, hAR, hZ⟩ := hSP
  have nM := hD.1.ne
  have nB := hD.2.1.ne
  have nBM := hD.2.2.2.1
  have nMB := hD.2.2.2.1.symm
  have nCM := hD.2.2.2.2.1
  have nCB := hD.2.2.2.2.2.1.symm
  have hAN : ∀ q, FM M B C q → gA g q := hD.an
  have hS : va_S (FM M B C) s.heap s.heap [] := va_S.rf
  have hn40 : sN S ≤ 40 := hok.2.2.2.2.2.2.2.1
  refine lv_aload_n hx hb dX4_ring_0 rfl (lv_at hl 0 rfl) ?_
  refine lv_iconst (v := 0) hx hb dX4_ring_1 (by decide) ?_
  refine gg_put (ci := 4) (v := .int 0) (C := RX4) (T := TX4) (N := 8) hx hb hts in_X4 tyX4 tyX4_ok nmX4 hown hG h_m hS (Or.inl ⟨0, by decide, rfl⟩) rfl 0 (by decide) q716 rfl rfl rfl rfl (Nat.le_of_ble_eq_true rfl) dX4_ring_2 (fun H locs h_m hbut hS => ?_)
  have h_m : va_at (gD g) bbCl ((M 0), .inr (4, [.int 0, .int (nI (sN S)), .ref (M 1), .ref (M 2), .ref (M 3), .ref (M 4), .ref (B 0), .ref (C 0)])) H := h_m
  have h_ib := h_ib.but hbut (nM 1 0 (by decide) (by decide) (by decide))
  have h_nd := h_nd.but hbut (nM 2 0 (by decide) (by decide) (by decide))
  have h_ca := h_ca.but hbut (nM 3 0 (by decide) (by decide) (by decide))
  have h_cd := h_cd.but hbut (nM 4 0 (by decide) (by decide) (by decide))
  have h_st := h_st.but hbut (nBM 0 0 (by decide) (by decide))
  have h_ai := h_ai.but hbut (nBM 1 0 (by decide) (by decide))
  have h_aw := h_aw.but hbut (nBM 2 0 (by decide) (by decide))
  have h_al := h_al.but hbut (nBM 3 0 (by decide) (by decide))
  have h_ah := h_ah.but hbut (nBM 4 0 (by decide) (by decide))
  have hC := hC.kept (fun i hi9 _ => hbut.2 _ (nCM i 0 hi9 (by decide)))
  refine lv_iload_n hx hb dX4_ring_5 rfl (lv_at hl 1 rfl) ?_
  refine lv_iconst (v := 0) hx hb dX4_ring_6 (by decide) ?_
  refine lv_iconst (v := 4) hx hb dX4_ring_7 (by decide) ?_
  refine vp_callSi (va_Run.run (va_runS (As := [.int v, .int 0, .int 4]) (rest := []) ⟨hx, hb, hml, hown, hts⟩ (met_X4_isIn l g v 0 4) (va_cwS 3 hts (lw_S q753 q754 q21 q755) rfl rfl rfl (by decide +kernel) ⟨Nat.le_of_ble_eq_true rfl, Nat.le_of_ble_eq_true rfl⟩) (gg_preS hG (hS.kp hG hAN) trivial) rfl rfl hl.1 rfl (lv_room (Nat.le_of_ble_eq_true rfl)) dX4_ring_8 ⟨Nat.le_of_ble_eq_true rfl, Nat.le_of_ble_eq_true rfl⟩)) (fun r_1 hr_1 => ?_)
  refine lv_if_ne (tgt := 20) hx hb dX4_ring_11 (by decide) (fun c_11 => ?_) (fun c_11 => ?_)
  · have hT := b01_t hr_1 c_11
    obtain ⟨j, hj, hkj⟩ := i_in (n := 4) rfl hT.1 hT.2
    subst hkj
    have hcl := nI_clamp (n := j) (by omega)
    refine lv_aload_n hx hb dX4_ring_20 rfl (lv_at hl 0 rfl) ?_
    refine gg_get (ci := 4) (C := RX4) (T := TX4) (N := 8) (v := .ref (B 0)) hx hb hts in_X4 hown hG h_m rfl 6 (by decide) q726 rfl rfl dX4_ring_21 ?_
    refine gg_getN (ci := 5) (C := RX5) (T := TX5) (N := 12) (v := .int (nI (sCo S))) hx hb hts in_X5 hown hG h_st rfl 4 (by decide) q679 rfl rfl dX4_ring_24 ?_
    refine lv_istore_n (lv' := [(2, .int (nI (sCo S))), (0, .ref (M 0)), (1, .int (nI j))]) hx hb dX4_ring_27 rfl hl (by decide) rfl (fun ls hl => ?_)
    refine lv_aload_n hx hb dX4_ring_28 rfl (lv_at hl 1 rfl) ?_
    refine gg_get (ci := 4) (C := RX4) (T := TX4) (N := 8) (v := .ref (B 0)) hx hb hts in_X4 hown hG h_m rfl 6 (by decide) q726 rfl rfl dX4_ring_29 ?_
    refine lv_iload_n hx hb dX4_ring_32 rfl (lv_at hl 2 rfl) ?_
    refine gg_putN (ci := 5) (v := .int (nI j)) (C := RX5) (T := TX5) (N := 12) hx hb hts in_X5 tyX5 tyX5_ok nmX5 hown hG h_st hS (Or.inr (Or.inl ⟨0, by decide, rfl⟩)) rfl 4 (by decide) q679 rfl rfl rfl rfl (Nat.le_of_ble_eq_true rfl) dX4_ring_33 (fun H locs h_st hbut hS => ?_)
    have h_st : va_at (gD g) bbCl ((B 0), .inr (5, [.int (sMi S), .int (sAn S), .int (sPo S), .int (sIc S), .int (nI j), .int (bPassing S), .int (sLa S), .ref (B 1), .ref (B 2), .ref (B 3), .ref (B 4), .ref (M 0)])) H := h_st
    have h_m := h_m.but hbut (nMB 0 0 (by decide) (by decide))
    have h_ib := h_ib.but hbut (nMB 1 0 (by decide) (by decide))
    have h_nd := h_nd.but hbut (nMB 2 0 (by decide) (by decide))
    have h_ca := h_ca.but hbut (nMB 3 0 (by decide) (by decide))
    have h_cd := h_cd.but hbut (nMB 4 0 (by decide) (by decide))
    have h_ai := h_ai.but hbut (nB 1 0 (by decide) (by decide) (by decide))
    have h_aw := h_aw.but hbut (nB 2 0 (by decide) (by decide) (by decide))
    have h_al := h_al.but hbut (nB 3 0 (by decide) (by decide) (by decide))
    have h_ah := h_ah.but hbut (nB 4 0 (by decide) (by decide) (by decide))
    have hC := hC.kept (fun i hi9 _ => hbut.2 _ (nCB i 0 hi9 (by decide)))
    refine lv_iload_n hx hb dX4_ring_36 rfl (lv_at hl 0 rfl) ?_
    have hE : aRing S (nI j) = ((0, nI (sCo S), sCod S j) : Ans) := by unfold aRing; rw [if_pos hT, hcl]
    exact W.iret (v := (nI (sCo S))) hx hb hr (fun t9 h9 hW9 => ⟨⟨_, (), rfl, (congrArg (fun a : Ans => a.2.1) hE).symm, by dsimp only; rw [h9, hE]; exact ⟨⟨_, _, _, h_m, h_ib, h_nd, h_ca, h_cd, hOR⟩, ⟨_, _, _, _, ⟨h_st, h_ai, h_aw, h_al, h_ah⟩, hAR, hZ⟩, hC⟩⟩, hS.F h9⟩) hS.2.2 dX4_ring_37
  · refine lv_aload_n hx hb dX4_ring_14 rfl (lv_at hl 0 rfl) ?_
    refine lv_iconst (v := 1) hx hb dX4_ring_15 (by decide) ?_
    refine va_calli (va_runV (As := [.int 1]) (rest := []) ⟨hx, hb, hml, hown, hts⟩ (met_X4_no l g (M 0) (sN S) (M 1) (M 2) (M 3) (M 4) (B 0) (C 0) 0 1 (hAN _ (Or.inl ⟨0, by decide, rfl⟩))) (cwV 1 hts (lw_V q756 q758 qs6 q21 q759) rfl rfl rfl (by decide +kernel) ⟨Nat.le_of_ble_eq_true rfl, Nat.le_of_ble_eq_true rfl⟩) (gg_preV hG (hS.kp hG hAN) (gg_recv hG h_m rfl) h_m) rfl rfl hl.1 rfl (lv_room (Nat.le_of_ble_eq_true rfl)) dX4_ring_16 ⟨Nat.le_of_ble_eq_true rfl, Nat.le_of_ble_eq_true rfl⟩) hS (fun q _ e => Or.inl ⟨0, by decide, e⟩) (fun q e => Or.inl ⟨0, by decide, e⟩) (fun r_n u t9 H1 locs ht hvm hr_n hQ hz1 hk1 hS => ?_)
    rw [ht] at hQ
    have h_ib := h_ib.kept (hk1 _ h_ib.lt (nM 1 0 (by decide) (by decide) (by decide)))
    have h_nd := h_nd.kept (hk1 _ h_nd.lt (nM 2 0 (by decide) (by decide) (by decide)))
    have h_ca := h_ca.kept (hk1 _ h_ca.lt (nM 3 0 (by decide) (by decide) (by decide)))
    have h_cd := h_cd.kept (hk1 _ h_cd.lt (nM 4 0 (by decide) (by decide) (by decide)))
    have h_st := h_st.kept (hk1 _ h_st.lt (nBM 0 0 (by decide) (by decide)))
    have h_ai := h_ai.kept (hk1 _ h_ai.lt (nBM 1 0 (by decide) (by decide)))
    have h_aw := h_aw.kept (hk1 _ h_aw.lt (nBM 2 0 (by decide) (by decide)))
    have h_al := h_al.kept (hk1 _ h_al.lt (nBM 3 0 (by decide) (by decide)))
    have h_ah := h_ah.kept (hk1 _ h_ah.lt (nBM 4 0 (by decide) (by decide)))
    have hC := hC.kept (fun i hi9 hl9 => hk1 _ hl9 (nCM i 0 hi9 (by decide)))
    have h_m := hQ
    generalize H1 = H at h_m h_ib h_nd h_ca h_cd h_st h_ai h_aw h_al h_ah hC hS ⊢
    have hE : aRing S v = ((1, 0, S) : Ans) := by unfold aRing; rw [if_neg (b01_f hr_1 c_11)]
    exact W.iret (v := r_n) hx hb hr (fun t9 h9 hW9 => ⟨⟨_, (), rfl, (hr_n.trans (congrArg (fun a : Ans => a.2.1) hE).symm), by dsimp only; rw [h9, hE]; exact ⟨⟨_, _, _, h_m, h_ib, h_nd, h_ca, h_cd, hOR⟩, ⟨_, _, _, _, ⟨h_st, h_ai, h_aw, h_al, h_ah⟩, hAR, hZ⟩, hC⟩⟩, hS.F h9⟩) hS.2.2 dX4_ring_19

set_option maxHeartbeats 4000000 in
theorem met_X4_poise (l : Launch) (g : GT) (T : Nat) (M B C : Nat → Nat) (th : Int32) (S : BS) (hok : OKS T S) (hD : MD g M B C) (v : Int32) : Met l yX4_poise (ws_ yX4_poise cX4_poise 3 (Option.some Jvm.ClassFile.FieldType.int)) ({ frames := 1, cells := 0, slots := 0, locals := 22 } : Room) (PcG g [.ref (M 0), .int v] (fun H => MX g M B C th S H)) (va_Qi (fun (r : Int32) (_ : Unit) => r = (aPoise S v).2.1) (fun _ u => MX g M B C (aPoise S v).1 (aPoise S v).2.2 u.heap) (FM M B C)) 0 0 (FM M B C) := by
  refine gg_met (cc := cX4_poise) (maxL := 3) (ret := (Option.some Jvm.ClassFile.FieldType.int)) (by decide) (Nat.le_of_ble_eq_true rfl) ?_
  intro p e s m below meth c hx hb hr hlk hin hml hown hts hG hB ls hl
  have hown : s.vm.findClass RX4 = some m.cls := hown
  have hl : lv_has ls 3 [(0, .ref (M 0)), (1, .int v)] := hl
  obtain ⟨hMO, hSP, hC⟩ := hB
  obtain ⟨fb, fn, fc, h_m, h_ib, h_nd, h_ca, h_cd, hOR⟩ := hMO
  obtain ⟨fi, fw, fl, fh, ⟨h_st, h_ai, h_aw, h_al, h_ah⟩, hAR, hZ⟩ := hSP
  have nM := hD.1.ne
  have nB := hD.2.1.ne
  have nBM := hD.2.2.2.1
  have nMB := hD.2.2.2.1.symm
  have nCM := hD.2.2.2.2.1
  have nCB := hD.2.2.2.2.2.1.symm
  have hAN : ∀ q, FM M B C q → gA g q := hD.an
  have hS : va_S (FM M B C) s.heap s.heap [] := va_S.rf
  have hn40 : sN S ≤ 40 := hok.2.2.2.2.2.2.2.1
  refine lv_aload_n hx hb dX4_poise_0 rfl (lv_at hl 0 rfl) ?_
  refine lv_iconst (v := 0) hx hb dX4_poise_1 (by decide) ?_
  refine gg_put (ci := 4) (v := .int 0) (C := RX4) (T := TX4) (N := 8) hx hb hts in_X4 tyX4 tyX4_ok nmX4 hown hG h_m hS (Or.inl ⟨0, by decide, rfl⟩) rfl 0 (by decide) q716 rfl rfl rfl rfl (Nat.le_of_ble_eq_true rfl) dX4_poise_2 (fun H locs h_m hbut hS => ?_)
  have h_m : va_at (gD g) bbCl ((M 0), .inr (4, [.int 0, .int (nI (sN S)), .ref (M 1), .ref (M 2), .ref (M 3), .ref (M 4), .ref (B 0), .ref (C 0)])) H := h_m
  have h_ib := h_ib.but hbut (nM 1 0 (by decide) (by decide) (by decide))
  have h_nd := h_nd.but hbut (nM 2 0 (by decide) (by decide) (by decide))
  have h_ca := h_ca.but hbut (nM 3 0 (by decide) (by decide) (by decide))
  have h_cd := h_cd.but hbut (nM 4 0 (by decide) (by decide) (by decide))
  have h_st := h_st.but hbut (nBM 0 0 (by decide) (by decide))
  have h_ai := h_ai.but hbut (nBM 1 0 (by decide) (by decide))
  have h_aw := h_aw.but hbut (nBM 2 0 (by decide) (by decide))
  have h_al := h_al.but hbut (nBM 3 0 (by decide) (by decide))
  have h_ah := h_ah.but hbut (nBM 4 0 (by decide) (by decide))
  have hC := hC.kept (fun i hi9 _ => hbut.2 _ (nCM i 0 hi9 (by decide)))
  refine lv_iload_n hx hb dX4_poise_5 rfl (lv_at hl 1 rfl) ?_
  refine lv_iconst (v := 0) hx hb dX4_poise_6 (by decide) ?_
  refine lv_bipush (v := 30) hx hb dX4_poise_7 (by decide) ?_
  refine vp_callSi (va_Run.run (va_runS (As := [.int v, .int 0, .int 30]) (rest := []) ⟨hx, hb, hml, hown, hts⟩ (met_X4_isIn l g v 0 30) (va_cwS 3 hts (lw_S q753 q754 q21 q755) rfl rfl rfl (by decide +kernel) ⟨Nat.le_of_ble_eq_true rfl, Nat.le_of_ble_eq_true rfl⟩) (gg_preS hG (hS.kp hG hAN) trivial) rfl rfl hl.1 rfl (lv_room (Nat.le_of_ble_eq_true rfl)) dX4_poise_9 ⟨Nat.le_of_ble_eq_true rfl, Nat.le_of_ble_eq_true rfl⟩)) (fun r_1 hr_1 => ?_)
  refine lv_if_ne (tgt := 21) hx hb dX4_poise_12 (by decide) (fun c_12 => ?_) (fun c_12 => ?_)
  · refine lv_aload_n hx hb dX4_poise_21 rfl (lv_at hl 0 rfl) ?_
    refine gg_get (ci := 4) (C := RX4) (T := TX4) (N := 8) (v := .ref (B 0)) hx hb hts in_X4 hown hG h_m rfl 6 (by decide) q726 rfl rfl dX4_poise_22 ?_
    refine gg_getN (ci := 5) (C := RX5) (T := TX5) (N := 12) (v := .int (sAn S)) hx hb hts in_X5 hown hG h_st rfl 1 (by decide) q673 rfl rfl dX4_poise_25 ?_
    refine lv_if_eq (tgt := 49) hx hb dX4_poise_28 (by decide) (fun c_28 => ?_) (fun c_28 => ?_)
    · refine lv_aload_n hx hb dX4_poise_49 rfl (lv_at hl 0 rfl) ?_
      refine gg_get (ci := 4) (C := RX4) (T := TX4) (N := 8) (v := .ref (B 0)) hx hb hts in_X4 hown hG h_m rfl 6 (by decide) q726 rfl rfl dX4_poise_50 ?_
      refine gg_getN (ci := 5) (C := RX5) (T := TX5) (N := 12) (v := .int (sPo S)) hx hb hts in_X5 hown hG h_st rfl 2 (by decide) q675 rfl rfl dX4_poise_53 ?_
      refine lv_istore_n (lv' := [(2, .int (sPo S)), (0, .ref (M 0)), (1, .int v)]) hx hb dX4_poise_56 rfl hl (by decide) rfl (fun ls hl => ?_)
      refine lv_aload_n hx hb dX4_poise_57 rfl (lv_at hl 1 rfl) ?_
      refine gg_get (ci := 4) (C := RX4) (T := TX4) (N := 8) (v := .ref (B 0)) hx hb hts in_X4 hown hG h_m rfl 6 (by decide) q726 rfl rfl dX4_poise_58 ?_
      refine lv_iload_n hx hb dX4_poise_61 rfl (lv_at hl 2 rfl) ?_
      refine gg_putN (ci := 5) (v := .int v) (C := RX5) (T := TX5) (N := 12) hx hb hts in_X5 tyX5 tyX5_ok nmX5 hown hG h_st hS (Or.inr (Or.inl ⟨0, by decide, rfl⟩)) rfl 2 (by decide) q675 rfl rfl rfl rfl (Nat.le_of_ble_eq_true rfl) dX4_poise_62 (fun H locs h_st hbut hS => ?_)
      have h_st : va_at (gD g) bbCl ((B 0), .inr (5, [.int (sMi S), .int (sAn S), .int v, .int (sIc S), .int (nI (sCo S)), .int (bPassing S), .int (sLa S), .ref (B 1), .ref (B 2), .ref (B 3), .ref (B 4), .ref (M 0)])) H := h_st
      have h_m := h_m.but hbut (nMB 0 0 (by decide) (by decide))
      have h_ib := h_ib.but hbut (nMB 1 0 (by decide) (by decide))
      have h_nd := h_nd.but hbut (nMB 2 0 (by decide) (by decide))
      have h_ca := h_ca.but hbut (nMB 3 0 (by decide) (by decide))
      have h_cd := h_cd.but hbut (nMB 4 0 (by decide) (by decide))
      have h_ai := h_ai.but hbut (nB 1 0 (by decide) (by decide) (by decide))
      have h_aw := h_aw.but hbut (nB 2 0 (by decide) (by decide) (by decide))
      have h_al := h_al.but hbut (nB 3 0 (by decide) (by decide) (by decide))
      have h_ah := h_ah.but hbut (nB 4 0 (by decide) (by decide) (by decide))
      have hC := hC.kept (fun i hi9 _ => hbut.2 _ (nCB i 0 hi9 (by decide)))
      refine lv_iload_n hx hb dX4_poise_65 rfl (lv_at hl 0 rfl) ?_
      have hE : aPoise S v = ((0, sPo S, sPoi S v) : Ans) := by unfold aPoise; rw [if_pos (b01_t hr_1 c_12), if_pos (Or.inl c_28)]
      exact W.iret (v := (sPo S)) hx hb hr (fun t9 h9 hW9 => ⟨⟨_, (), rfl, (congrArg (fun a : Ans => a.2.1) hE).symm, by dsimp only; rw [h9, hE]; exact ⟨⟨_, _, _, h_m, h_ib, h_nd, h_ca, h_cd, hOR⟩, ⟨_, _, _, _, ⟨h_st, h_ai, h_aw, h_al, h_ah⟩, hAR, hZ⟩, hC⟩⟩, hS.F h9⟩) hS.2.2 dX4_poise_66
    · refine lv_aload_n hx hb dX4_poise_31 rfl (lv_at hl 0 rfl) ?_
      refine gg_get (ci := 4) (C := RX4) (T := TX4) (N := 8) (v := .ref (B 0)) hx hb hts in_X4 hown hG h_m rfl 6 (by decide) q726 rfl rfl dX4_poise_32 ?_
      refine gg_getN (ci := 5) (C := RX5) (T := TX5) (N := 12) (v := .int (sAn S)) hx hb hts in_X5 hown hG h_st rfl 1 (by decide) q673 rfl rfl dX4_poise_35 ?_
      refine lv_bipush (v := 60) hx hb dX4_poise_38 (by decide) ?_
      refine lv_icmp_eq (tgt := 49) hx hb dX4_poise_40 (by decide) (fun c_40 => ?_) (fun c_40 => ?_)
      · refine lv_aload_n hx hb dX4_poise_49 rfl (lv_at hl 0 rfl) ?_
        refine gg_get (ci := 4) (C := RX4) (T := TX4) (N := 8) (v := .ref (B 0)) hx hb hts in_X4 hown hG h_m rfl 6 (by decide) q726 rfl rfl dX4_poise_50 ?_
        refine gg_getN (ci := 5) (C := RX5) (T := TX5) (N := 12) (v := .int (sPo S)) hx hb hts in_X5 hown hG h_st rfl 2 (by decide) q675 rfl rfl dX4_poise_53 ?_
        refine lv_istore_n (lv' := [(2, .int (sPo S)), (0, .ref (M 0)), (1, .int v)]) hx hb dX4_poise_56 rfl hl (by decide) rfl (fun ls hl => ?_)
        refine lv_aload_n hx hb dX4_poise_57 rfl (lv_at hl 1 rfl) ?_
        refine gg_get (ci := 4) (C := RX4) (T := TX4) (N := 8) (v := .ref (B 0)) hx hb hts in_X4 hown hG h_m rfl 6 (by decide) q726 rfl rfl dX4_poise_58 ?_
        refine lv_iload_n hx hb dX4_poise_61 rfl (lv_at hl 2 rfl) ?_
        refine gg_putN (ci := 5) (v := .int v) (C := RX5) (T := TX5) (N := 12) hx hb hts in_X5 tyX5 tyX5_ok nmX5 hown hG h_st hS (Or.inr (Or.inl ⟨0, by decide, rfl⟩)) rfl 2 (by decide) q675 rfl rfl rfl rfl (Nat.le_of_ble_eq_true rfl) dX4_poise_62 (fun H locs h_st hbut hS => ?_)
        have h_st : va_at (gD g) bbCl ((B 0), .inr (5, [.int (sMi S), .int (sAn S), .int v, .int (sIc S), .int (nI (sCo S)), .int (bPassing S), .int (sLa S), .ref (B 1), .ref (B 2), .ref (B 3), .ref (B 4), .ref (M 0)])) H := h_st
        have h_m := h_m.but hbut (nMB 0 0 (by decide) (by decide))
        have h_ib := h_ib.but hbut (nMB 1 0 (by decide) (by decide))
        have h_nd := h_nd.but hbut (nMB 2 0 (by decide) (by decide))
        have h_ca := h_ca.but hbut (nMB 3 0 (by decide) (by decide))
        have h_cd := h_cd.but hbut (nMB 4 0 (by decide) (by decide))
        have h_ai := h_ai.but hbut (nB 1 0 (by decide) (by decide) (by decide))
        have h_aw := h_aw.but hbut (nB 2 0 (by decide) (by decide) (by decide))
        have h_al := h_al.but hbut (nB 3 0 (by decide) (by decide) (by decide))
        have h_ah := h_ah.but hbut (nB 4 0 (by decide) (by decide) (by decide))
        have hC := hC.kept (fun i hi9 _ => hbut.2 _ (nCB i 0 hi9 (by decide)))
        refine lv_iload_n hx hb dX4_poise_65 rfl (lv_at hl 0 rfl) ?_
        have hE : aPoise S v = ((0, sPo S, sPoi S v) : Ans) := by unfold aPoise; rw [if_pos (b01_t hr_1 c_12), if_pos (Or.inr c_40)]
        exact W.iret (v := (sPo S)) hx hb hr (fun t9 h9 hW9 => ⟨⟨_, (), rfl, (congrArg (fun a : Ans => a.2.1) hE).symm, by dsimp only; rw [h9, hE]; exact ⟨⟨_, _, _, h_m, h_ib, h_nd, h_ca, h_cd, hOR⟩, ⟨_, _, _, _, ⟨h_st, h_ai, h_aw, h_al, h_ah⟩, hAR, hZ⟩, hC⟩⟩, hS.F h9⟩) hS.2.2 dX4_poise_66
      · refine lv_aload_n hx hb dX4_poise_43 rfl (lv_at hl 0 rfl) ?_
        refine lv_iconst (v := 2) hx hb dX4_poise_44 (by decide) ?_
        refine va_calli (va_runV (As := [.int 2]) (rest := []) ⟨hx, hb, hml, hown, hts⟩ (met_X4_no l g (M 0) (sN S) (M 1) (M 2) (M 3) (M 4) (B 0) (C 0) 0 2 (hAN _ (Or.inl ⟨0, by decide, rfl⟩))) (cwV 1 hts (lw_V q756 q758 qs6 q21 q759) rfl rfl rfl (by decide +kernel) ⟨Nat.le_of_ble_eq_true rfl, Nat.le_of_ble_eq_true rfl⟩) (gg_preV hG (hS.kp hG hAN) (gg_recv hG h_m rfl) h_m) rfl rfl hl.1 rfl (lv_room (Nat.le_of_ble_eq_true rfl)) dX4_poise_45 ⟨Nat.le_of_ble_eq_true rfl, Nat.le_of_ble_eq_true rfl⟩) hS (fun q _ e => Or.inl ⟨0, by decide, e⟩) (fun q e => Or.inl ⟨0, by decide, e⟩) (fun r_n u t9 H1 locs ht hvm hr_n hQ hz1 hk1 hS => ?_)
        rw [ht] at hQ
        have h_ib := h_ib.kept (hk1 _ h_ib.lt (nM 1 0 (by decide) (by decide) (by decide)))
        have h_nd := h_nd.kept (hk1 _ h_nd.lt (nM 2 0 (by decide) (by decide) (by decide)))
        have h_ca := h_ca.kept (hk1 _ h_ca.lt (nM 3 0 (by decide) (by decide) (by decide)))
        have h_cd := h_cd.kept (hk1 _ h_cd.lt (nM 4 0 (by decide) (by decide) (by decide)))
        have h_st := h_st.kept (hk1 _ h_st.lt (nBM 0 0 (by decide) (by decide)))
        have h_ai := h_ai.kept (hk1 _ h_ai.lt (nBM 1 0 (by decide) (by decide)))
        have h_aw := h_aw.kept (hk1 _ h_aw.lt (nBM 2 0 (by decide) (by decide)))
        have h_al := h_al.kept (hk1 _ h_al.lt (nBM 3 0 (by decide) (by decide)))
        have h_ah := h_ah.kept (hk1 _ h_ah.lt (nBM 4 0 (by decide) (by decide)))
        have hC := hC.kept (fun i hi9 hl9 => hk1 _ hl9 (nCM i 0 hi9 (by decide)))
        have h_m := hQ
        generalize H1 = H at h_m h_ib h_nd h_ca h_cd h_st h_ai h_aw h_al h_ah hC hS ⊢
        have hE : aPoise S v = ((2, 0, S) : Ans) := by unfold aPoise; rw [if_pos (b01_t hr_1 c_12), if_neg (fun e => e.elim c_28 c_40)]
        exact W.iret (v := r_n) hx hb hr (fun t9 h9 hW9 => ⟨⟨_, (), rfl, (hr_n.trans (congrArg (fun a : Ans => a.2.1) hE).symm), by dsimp only; rw [h9, hE]; exact ⟨⟨_, _, _, h_m, h_ib, h_nd, h_ca, h_cd, hOR⟩, ⟨_, _, _, _, ⟨h_st, h_ai, h_aw, h_al, h_ah⟩, hAR, hZ⟩, hC⟩⟩, hS.F h9⟩) hS.2.2 dX4_poise_48
  · refine lv_aload_n hx hb dX4_poise_15 rfl (lv_at hl 0 rfl) ?_
    refine lv_iconst (v := 1) hx hb dX4_poise_16 (by decide) ?_
    refine va_calli (va_runV (As := [.int 1]) (rest := []) ⟨hx, hb, hml, hown, hts⟩ (met_X4_no l g (M 0) (sN S) (M 1) (M 2) (M 3) (M 4) (B 0) (C 0) 0 1 (hAN _ (Or.inl ⟨0, by decide, rfl⟩))) (cwV 1 hts (lw_V q756 q758 qs6 q21 q759) rfl rfl rfl (by decide +kernel) ⟨Nat.le_of_ble_eq_true rfl, Nat.le_of_ble_eq_true rfl⟩) (gg_preV hG (hS.kp hG hAN) (gg_recv hG h_m rfl) h_m) rfl rfl hl.1 rfl (lv_room (Nat.le_of_ble_eq_true rfl)) dX4_poise_17 ⟨Nat.le_of_ble_eq_true rfl, Nat.le_of_ble_eq_true rfl⟩) hS (fun q _ e => Or.inl ⟨0, by decide, e⟩) (fun q e => Or.inl ⟨0, by decide, e⟩) (fun r_n u t9 H1 locs ht hvm hr_n hQ hz1 hk1 hS => ?_)
    rw [ht] at hQ
    have h_ib := h_ib.kept (hk1 _ h_ib.lt (nM 1 0 (by decide) (by decide) (by decide)))
    have h_nd := h_nd.kept (hk1 _ h_nd.lt (nM 2 0 (by decide) (by decide) (by decide)))
    have h_ca := h_ca.kept (hk1 _ h_ca.lt (nM 3 0 (by decide) (by decide) (by decide)))
    have h_cd := h_cd.kept (hk1 _ h_cd.lt (nM 4 0 (by decide) (by decide) (by decide)))
    have h_st := h_st.kept (hk1 _ h_st.lt (nBM 0 0 (by decide) (by decide)))
    have h_ai := h_ai.kept (hk1 _ h_ai.lt (nBM 1 0 (by decide) (by decide)))
    have h_aw := h_aw.kept (hk1 _ h_aw.lt (nBM 2 0 (by decide) (by decide)))
    have h_al := h_al.kept (hk1 _ h_al.lt (nBM 3 0 (by decide) (by decide)))
    have h_ah := h_ah.kept (hk1 _ h_ah.lt (nBM 4 0 (by decide) (by decide)))
    have hC := hC.kept (fun i hi9 hl9 => hk1 _ hl9 (nCM i 0 hi9 (by decide)))
    have h_m := hQ
    generalize H1 = H at h_m h_ib h_nd h_ca h_cd h_st h_ai h_aw h_al h_ah hC hS ⊢
    have hE : aPoise S v = ((1, 0, S) : Ans) := by unfold aPoise; rw [if_neg (b01_f hr_1 c_12)]
    exact W.iret (v := r_n) hx hb hr (fun t9 h9 hW9 => ⟨⟨_, (), rfl, (hr_n.trans (congrArg (fun a : Ans => a.2.1) hE).symm), by dsimp only; rw [h9, hE]; exact ⟨⟨_, _, _, h_m, h_ib, h_nd, h_ca, h_cd, hOR⟩, ⟨_, _, _, _, ⟨h_st, h_ai, h_aw, h_al, h_ah⟩, hAR, hZ⟩, hC⟩⟩, hS.F h9⟩) hS.2.2 dX4_poise_20

set_option maxHeartbeats 4000000 in
theorem met_X4_setCold (l : Launch) (g : GT) (T : Nat) (M B C : Nat → Nat) (th : Int32) (S : BS) (hok : OKS T S) (hD : MD g M B C) (h v : Int32) : Met l yX4_setCold (ws_ yX4_setCold cX4_setCold 4 (Option.some Jvm.ClassFile.FieldType.int)) ({ frames := 1, cells := 0, slots := 0, locals := 22 } : Room) (PcG g [.ref (M 0), .int h, .int v] (fun H => MX g M B C th S H)) (va_Qi (fun (r : Int32) (_ : Unit) => r = (aCold S h v).2.1) (fun _ u => MX g M B C (aCold S h v).1 (aCold S h v).2.2 u.heap) (FM M B C)) 0 0 (FM M B C) := by
  refine gg_met (cc := cX4_setCold) (maxL := 4) (ret := (Option.some Jvm.ClassFile.FieldType.int)) (by decide) (Nat.le_of_ble_eq_true rfl) ?_
  intro p e s m below meth c hx hb hr hlk hin hml hown hts hG hB ls hl
  have hown : s.vm.findClass RX4 = some m.cls := hown
  have hl : lv_has ls 4 [(0, .ref (M 0)), (1, .int h), (2, .int v)] := hl
  obtain ⟨hMO, hSP, hC⟩ := hB
  obtain ⟨fb, fn, fc, h_m, h_ib, h_nd, h_ca, h_cd, hOR⟩ := hMO
  obtain ⟨fi, fw, fl, fh, ⟨h_st, h_ai, h_aw, h_al, h_ah⟩, hAR, hZ⟩ := hSP
  have nM := hD.1.ne
  have nB := hD.2.1.ne
  have nBM := hD.2.2.2.1
  have nMB := hD.2.2.2.1.symm
  have nCM := hD.2.2.2.2.1
  have nCB := hD.2.2.2.2.2.1.symm
  have hAN : ∀ q, FM M B C q → gA g q := hD.an
  have hS : va_S (FM M B C) s.heap s.heap [] := va_S.rf
  have hn40 : sN S ≤ 40 := hok.2.2.2.2.2.2.2.1
  refine lv_aload_n hx hb dX4_setCold_0 rfl (lv_at hl 0 rfl) ?_
  refine lv_iconst (v := 0) hx hb dX4_setCold_1 (by decide) ?_
  refine gg_put (ci := 4) (v := .int 0) (C := RX4) (T := TX4) (N := 8) hx hb hts in_X4 tyX4 tyX4_ok nmX4 hown hG h_m hS (Or.inl ⟨0, by decide, rfl⟩) rfl 0 (by decide) q716 rfl rfl rfl rfl (Nat.le_of_ble_eq_true rfl) dX4_setCold_2 (fun H locs h_m hbut hS => ?_)
  have h_m : va_at (gD g) bbCl ((M 0), .inr (4, [.int 0, .int (nI (sN S)), .ref (M 1), .ref (M 2), .ref (M 3), .ref (M 4), .ref (B 0), .ref (C 0)])) H := h_m
  have h_ib := h_ib.but hbut (nM 1 0 (by decide) (by decide) (by decide))
  have h_nd := h_nd.but hbut (nM 2 0 (by decide) (by decide) (by decide))
  have h_ca := h_ca.but hbut (nM 3 0 (by decide) (by decide) (by decide))
  have h_cd := h_cd.but hbut (nM 4 0 (by decide) (by decide) (by decide))
  have h_st := h_st.but hbut (nBM 0 0 (by decide) (by decide))
  have h_ai := h_ai.but hbut (nBM 1 0 (by decide) (by decide))
  have h_aw := h_aw.but hbut (nBM 2 0 (by decide) (by decide))
  have h_al := h_al.but hbut (nBM 3 0 (by decide) (by decide))
  have h_ah := h_ah.but hbut (nBM 4 0 (by decide) (by decide))
  have hC := hC.kept (fun i hi9 _ => hbut.2 _ (nCM i 0 hi9 (by decide)))
  refine lv_iload_n hx hb dX4_setCold_5 rfl (lv_at hl 1 rfl) ?_
  refine lv_iconst (v := 0) hx hb dX4_setCold_6 (by decide) ?_
  refine lv_bipush (v := 7) hx hb dX4_setCold_7 (by decide) ?_
  refine vp_callSi (va_Run.run (va_runS (As := [.int h, .int 0, .int 7]) (rest := []) ⟨hx, hb, hml, hown, hts⟩ (met_X4_isIn l g h 0 7) (va_cwS 3 hts (lw_S q753 q754 q21 q755) rfl rfl rfl (by decide +kernel) ⟨Nat.le_of_ble_eq_true rfl, Nat.le_of_ble_eq_true rfl⟩) (gg_preS hG (hS.kp hG hAN) trivial) rfl rfl hl.1 rfl (lv_room (Nat.le_of_ble_eq_true rfl)) dX4_setCold_9 ⟨Nat.le_of_ble_eq_true rfl, Nat.le_of_ble_eq_true rfl⟩)) (fun r_1 hr_1 => ?_)
  refine lv_if_ne (tgt := 21) hx hb dX4_setCold_12 (by decide) (fun c_12 => ?_) (fun c_12 => ?_)
  · have hT := b01_t hr_1 c_12
    obtain ⟨j, hj, hkj⟩ := i_in (n := 7) rfl hT.1 hT.2
    subst hkj
    have hcl := nI_clamp (n := j) (by omega)
    refine lv_iload_n hx hb dX4_setCold_21 rfl (lv_at hl 2 rfl) ?_
    refine lv_bipush (v := (-3)) hx hb dX4_setCold_22 (by decide) ?_
    refine lv_iconst (v := 3) hx hb dX4_setCold_24 (by decide) ?_
    refine vp_callSi (va_Run.run (va_runS (As := [.int v, .int (-3), .int 3]) (rest := []) ⟨hx, hb, hml, hown, hts⟩ (met_X4_isIn l g v (-3) 3) (va_cwS 3 hts (lw_S q753 q754 q21 q755) rfl rfl rfl (by decide +kernel) ⟨Nat.le_of_ble_eq_true rfl, Nat.le_of_ble_eq_true rfl⟩) (gg_preS hG (hS.kp hG hAN) trivial) rfl rfl hl.1 rfl (lv_room (Nat.le_of_ble_eq_true rfl)) dX4_setCold_25 ⟨Nat.le_of_ble_eq_true rfl, Nat.le_of_ble_eq_true rfl⟩)) (fun r_2 hr_2 => ?_)
    refine lv_if_ne (tgt := 37) hx hb dX4_setCold_28 (by decide) (fun c_28 => ?_) (fun c_28 => ?_)
    · refine lv_aload_n hx hb dX4_setCold_37 rfl (lv_at hl 0 rfl) ?_
      refine gg_get (ci := 4) (C := RX4) (T := TX4) (N := 8) (v := .ref (M 4)) hx hb hts in_X4 hown hG h_m rfl 5 (by decide) q724 rfl rfl dX4_setCold_38 ?_
      refine lv_iload_n hx hb dX4_setCold_41 rfl (lv_at hl 1 rfl) ?_
      refine gg_iald hx hb hG h_cd j (show j < 8 by omega) (by decide) rfl dX4_setCold_42 ?_
      refine lv_istore_n (lv' := [(3, .int ((sCd S) j)), (0, .ref (M 0)), (1, .int (nI j)), (2, .int v)]) hx hb dX4_setCold_43 rfl hl (by decide) rfl (fun ls hl => ?_)
      refine lv_aload_n hx hb dX4_setCold_44 rfl (lv_at hl 1 rfl) ?_
      refine gg_get (ci := 4) (C := RX4) (T := TX4) (N := 8) (v := .ref (M 4)) hx hb hts in_X4 hown hG h_m rfl 5 (by decide) q724 rfl rfl dX4_setCold_45 ?_
      refine lv_iload_n hx hb dX4_setCold_48 rfl (lv_at hl 2 rfl) ?_
      refine lv_iload_n hx hb dX4_setCold_49 rfl (lv_at hl 3 rfl) ?_
      refine gg_iast hx hb hG h_cd hS (Or.inl ⟨4, by decide, rfl⟩) j (show j < 8 by omega) (by decide) rfl dX4_setCold_50 (fun H locs h_cd hbut hS => ?_)
      have h_cd : va_at (gD g) bbCl ((M 4), .inl (gI g, 8, .inl (upd (sCd S) j v))) H := h_cd
      have h_m := h_m.but hbut (nM 0 4 (by decide) (by decide) (by decide))
      have h_ib := h_ib.but hbut (nM 1 4 (by decide) (by decide) (by decide))
      have h_nd := h_nd.but hbut (nM 2 4 (by decide) (by decide) (by decide))
      have h_ca := h_ca.but hbut (nM 3 4 (by decide) (by decide) (by decide))
      have h_st := h_st.but hbut (nBM 0 4 (by decide) (by decide))
      have h_ai := h_ai.but hbut (nBM 1 4 (by decide) (by decide))
      have h_aw := h_aw.but hbut (nBM 2 4 (by decide) (by decide))
      have h_al := h_al.but hbut (nBM 3 4 (by decide) (by decide))
      have h_ah := h_ah.but hbut (nBM 4 4 (by decide) (by decide))
      have hC := hC.kept (fun i hi9 _ => hbut.2 _ (nCM i 4 hi9 (by decide)))
      refine lv_iload_n hx hb dX4_setCold_51 rfl (lv_at hl 0 rfl) ?_
      have hE : aCold S (nI j) v = ((0, sCd S j, sCol S j v) : Ans) := by unfold aCold; rw [if_pos hT, hcl, if_pos (b01_t hr_2 c_28)]
      exact W.iret (v := ((sCd S) j)) hx hb hr (fun t9 h9 hW9 => ⟨⟨_, (), rfl, (congrArg (fun a : Ans => a.2.1) hE).symm, by dsimp only; rw [h9, hE]; exact ⟨⟨_, _, _, h_m, h_ib, h_nd, h_ca, h_cd, hOR⟩, ⟨_, _, _, _, ⟨h_st, h_ai, h_aw, h_al, h_ah⟩, hAR, hZ⟩, hC⟩⟩, hS.F h9⟩) hS.2.2 dX4_setCold_52
    · refine lv_aload_n hx hb dX4_setCold_31 rfl (lv_at hl 0 rfl) ?_
      refine lv_iconst (v := 2) hx hb dX4_setCold_32 (by decide) ?_
      refine va_calli (va_runV (As := [.int 2]) (rest := []) ⟨hx, hb, hml, hown, hts⟩ (met_X4_no l g (M 0) (sN S) (M 1) (M 2) (M 3) (M 4) (B 0) (C 0) 0 2 (hAN _ (Or.inl ⟨0, by decide, rfl⟩))) (cwV 1 hts (lw_V q756 q758 qs6 q21 q759) rfl rfl rfl (by decide +kernel) ⟨Nat.le_of_ble_eq_true rfl, Nat.le_of_ble_eq_true rfl⟩) (gg_preV hG (hS.kp hG hAN) (gg_recv hG h_m rfl) h_m) rfl rfl hl.1 rfl (lv_room (Nat.le_of_ble_eq_true rfl)) dX4_setCold_33 ⟨Nat.le_of_ble_eq_true rfl, Nat.le_of_ble_eq_true rfl⟩) hS (fun q _ e => Or.inl ⟨0, by decide, e⟩) (fun q e => Or.inl ⟨0, by decide, e⟩) (fun r_n u t9 H1 locs ht hvm hr_n hQ hz1 hk1 hS => ?_)
      rw [ht] at hQ
      have h_ib := h_ib.kept (hk1 _ h_ib.lt (nM 1 0 (by decide) (by decide) (by decide)))
      have h_nd := h_nd.kept (hk1 _ h_nd.lt (nM 2 0 (by decide) (by decide) (by decide)))
      have h_ca := h_ca.kept (hk1 _ h_ca.lt (nM 3 0 (by decide) (by decide) (by decide)))
      have h_cd := h_cd.kept (hk1 _ h_cd.lt (nM 4 0 (by decide) (by decide) (by decide)))
      have h_st := h_st.kept (hk1 _ h_st.lt (nBM 0 0 (by decide) (by decide)))
      have h_ai := h_ai.kept (hk1 _ h_ai.lt (nBM 1 0 (by decide) (by decide)))
      have h_aw := h_aw.kept (hk1 _ h_aw.lt (nBM 2 0 (by decide) (by decide)))
      have h_al := h_al.kept (hk1 _ h_al.lt (nBM 3 0 (by decide) (by decide)))
      have h_ah := h_ah.kept (hk1 _ h_ah.lt (nBM 4 0 (by decide) (by decide)))
      have hC := hC.kept (fun i hi9 hl9 => hk1 _ hl9 (nCM i 0 hi9 (by decide)))
      have h_m := hQ
      generalize H1 = H at h_m h_ib h_nd h_ca h_cd h_st h_ai h_aw h_al h_ah hC hS ⊢
      have hE : aCold S (nI j) v = ((2, 0, S) : Ans) := by unfold aCold; rw [if_pos hT, hcl, if_neg (b01_f hr_2 c_28)]
      exact W.iret (v := r_n) hx hb hr (fun t9 h9 hW9 => ⟨⟨_, (), rfl, (hr_n.trans (congrArg (fun a : Ans => a.2.1) hE).symm), by dsimp only; rw [h9, hE]; exact ⟨⟨_, _, _, h_m, h_ib, h_nd, h_ca, h_cd, hOR⟩, ⟨_, _, _, _, ⟨h_st, h_ai, h_aw, h_al, h_ah⟩, hAR, hZ⟩, hC⟩⟩, hS.F h9⟩) hS.2.2 dX4_setCold_36
  · refine lv_aload_n hx hb dX4_setCold_15 rfl (lv_at hl 0 rfl) ?_
    refine lv_iconst (v := 1) hx hb dX4_setCold_16 (by decide) ?_
    refine va_calli (va_runV (As := [.int 1]) (rest := []) ⟨hx, hb, hml, hown, hts⟩ (met_X4_no l g (M 0) (sN S) (M 1) (M 2) (M 3) (M 4) (B 0) (C 0) 0 1 (hAN _ (Or.inl ⟨0, by decide, rfl⟩))) (cwV 1 hts (lw_V q756 q758 qs6 q21 q759) rfl rfl rfl (by decide +kernel) ⟨Nat.le_of_ble_eq_true rfl, Nat.le_of_ble_eq_true rfl⟩) (gg_preV hG (hS.kp hG hAN) (gg_recv hG h_m rfl) h_m) rfl rfl hl.1 rfl (lv_room (Nat.le_of_ble_eq_true rfl)) dX4_setCold_17 ⟨Nat.le_of_ble_eq_true rfl, Nat.le_of_ble_eq_true rfl⟩) hS (fun q _ e => Or.inl ⟨0, by decide, e⟩) (fun q e => Or.inl ⟨0, by decide, e⟩) (fun r_n u t9 H1 locs ht hvm hr_n hQ hz1 hk1 hS => ?_)
    rw [ht] at hQ
    have h_ib := h_ib.kept (hk1 _ h_ib.lt (nM 1 0 (by decide) (by decide) (by decide)))
    have h_nd := h_nd.kept (hk1 _ h_nd.lt (nM 2 0 (by decide) (by decide) (by decide)))
    have h_ca := h_ca.kept (hk1 _ h_ca.lt (nM 3 0 (by decide) (by decide) (by decide)))
    have h_cd := h_cd.kept (hk1 _ h_cd.lt (nM 4 0 (by decide) (by decide) (by decide)))
    have h_st := h_st.kept (hk1 _ h_st.lt (nBM 0 0 (by decide) (by decide)))
    have h_ai := h_ai.kept (hk1 _ h_ai.lt (nBM 1 0 (by decide) (by decide)))
    have h_aw := h_aw.kept (hk1 _ h_aw.lt (nBM 2 0 (by decide) (by decide)))
    have h_al := h_al.kept (hk1 _ h_al.lt (nBM 3 0 (by decide) (by decide)))
    have h_ah := h_ah.kept (hk1 _ h_ah.lt (nBM 4 0 (by decide) (by decide)))
    have hC := hC.kept (fun i hi9 hl9 => hk1 _ hl9 (nCM i 0 hi9 (by decide)))
    have h_m := hQ
    generalize H1 = H at h_m h_ib h_nd h_ca h_cd h_st h_ai h_aw h_al h_ah hC hS ⊢
    have hE : aCold S h v = ((1, 0, S) : Ans) := by unfold aCold; rw [if_neg (b01_f hr_1 c_12)]
    exact W.iret (v := r_n) hx hb hr (fun t9 h9 hW9 => ⟨⟨_, (), rfl, (hr_n.trans (congrArg (fun a : Ans => a.2.1) hE).symm), by dsimp only; rw [h9, hE]; exact ⟨⟨_, _, _, h_m, h_ib, h_nd, h_ca, h_cd, hOR⟩, ⟨_, _, _, _, ⟨h_st, h_ai, h_aw, h_al, h_ah⟩, hAR, hZ⟩, hC⟩⟩, hS.F h9⟩) hS.2.2 dX4_setCold_20

set_option maxHeartbeats 4000000 in
theorem met_X4_crack (l : Launch) (g : GT) (T : Nat) (M B C : Nat → Nat) (th : Int32) (S : BS) (hok : OKS T S) (hD : MD g M B C)  : Met l yX4_crack (ws_ yX4_crack cX4_crack 1 (Option.some Jvm.ClassFile.FieldType.int)) ({ frames := 1, cells := 0, slots := 0, locals := 21 } : Room) (PcG g [.ref (M 0)] (fun H => MX g M B C th S H)) (va_Qi (fun (r : Int32) (_ : Unit) => r = (aCrack S).2.1) (fun _ u => MX g M B C (aCrack S).1 (aCrack S).2.2 u.heap) (FM M B C)) 0 0 (FM M B C) := by
  refine gg_met (cc := cX4_crack) (maxL := 1) (ret := (Option.some Jvm.ClassFile.FieldType.int)) (by decide) (Nat.le_of_ble_eq_true rfl) ?_
  intro p e s m below meth c hx hb hr hlk hin hml hown hts hG hB ls hl
  have hown : s.vm.findClass RX4 = some m.cls := hown
  have hl : lv_has ls 1 [(0, .ref (M 0))] := hl
  obtain ⟨hMO, hSP, hC⟩ := hB
  obtain ⟨fb, fn, fc, h_m, h_ib, h_nd, h_ca, h_cd, hOR⟩ := hMO
  obtain ⟨fi, fw, fl, fh, ⟨h_st, h_ai, h_aw, h_al, h_ah⟩, hAR, hZ⟩ := hSP
  have nM := hD.1.ne
  have nB := hD.2.1.ne
  have nBM := hD.2.2.2.1
  have nMB := hD.2.2.2.1.symm
  have nCM := hD.2.2.2.2.1
  have nCB := hD.2.2.2.2.2.1.symm
  have hAN : ∀ q, FM M B C q → gA g q := hD.an
  have hS : va_S (FM M B C) s.heap s.heap [] := va_S.rf
  have hn40 : sN S ≤ 40 := hok.2.2.2.2.2.2.2.1
  refine lv_aload_n hx hb dX4_crack_0 rfl (lv_at hl 0 rfl) ?_
  refine lv_iconst (v := 0) hx hb dX4_crack_1 (by decide) ?_
  refine gg_put (ci := 4) (v := .int 0) (C := RX4) (T := TX4) (N := 8) hx hb hts in_X4 tyX4 tyX4_ok nmX4 hown hG h_m hS (Or.inl ⟨0, by decide, rfl⟩) rfl 0 (by decide) q716 rfl rfl rfl rfl (Nat.le_of_ble_eq_true rfl) dX4_crack_2 (fun H locs h_m hbut hS => ?_)
  have h_m : va_at (gD g) bbCl ((M 0), .inr (4, [.int 0, .int (nI (sN S)), .ref (M 1), .ref (M 2), .ref (M 3), .ref (M 4), .ref (B 0), .ref (C 0)])) H := h_m
  have h_ib := h_ib.but hbut (nM 1 0 (by decide) (by decide) (by decide))
  have h_nd := h_nd.but hbut (nM 2 0 (by decide) (by decide) (by decide))
  have h_ca := h_ca.but hbut (nM 3 0 (by decide) (by decide) (by decide))
  have h_cd := h_cd.but hbut (nM 4 0 (by decide) (by decide) (by decide))
  have h_st := h_st.but hbut (nBM 0 0 (by decide) (by decide))
  have h_ai := h_ai.but hbut (nBM 1 0 (by decide) (by decide))
  have h_aw := h_aw.but hbut (nBM 2 0 (by decide) (by decide))
  have h_al := h_al.but hbut (nBM 3 0 (by decide) (by decide))
  have h_ah := h_ah.but hbut (nBM 4 0 (by decide) (by decide))
  have hC := hC.kept (fun i hi9 _ => hbut.2 _ (nCM i 0 hi9 (by decide)))
  refine lv_aload_n hx hb dX4_crack_5 rfl (lv_at hl 0 rfl) ?_
  refine gg_get (ci := 4) (C := RX4) (T := TX4) (N := 8) (v := .ref (B 0)) hx hb hts in_X4 hown hG h_m rfl 6 (by decide) q726 rfl rfl dX4_crack_6 ?_
  refine lv_iconst (v := 0) hx hb dX4_crack_9 (by decide) ?_
  refine lv_aload_n hx hb dX4_crack_10 rfl (lv_at hl 0 rfl) ?_
  refine gg_get (ci := 4) (C := RX4) (T := TX4) (N := 8) (v := .ref (B 0)) hx hb hts in_X4 hown hG h_m rfl 6 (by decide) q726 rfl rfl dX4_crack_11 ?_
  refine gg_getN (ci := 5) (C := RX5) (T := TX5) (N := 12) (v := .int (sIc S)) hx hb hts in_X5 hown hG h_st rfl 3 (by decide) q677 rfl rfl dX4_crack_14 ?_
  refine lv_iconst (v := 3) hx hb dX4_crack_17 (by decide) ?_
  refine lv_isub hx hb dX4_crack_18 ?_
  refine va_mmax hx hb (by rw [hml]; exact hl.1.symm) hown (hts _ q784) (hts _ q124) (hts _ q31) (hts _ q125) (Nat.le_of_ble_eq_true rfl) (Nat.le_of_ble_eq_true rfl) (Nat.zero_le _) (Nat.zero_le _) dX4_crack_19 ?_
  refine gg_putN (ci := 5) (v := .int (if 0 < (sIc S - 3) then (sIc S - 3) else 0)) (C := RX5) (T := TX5) (N := 12) hx hb hts in_X5 tyX5 tyX5_ok nmX5 hown hG h_st hS (Or.inr (Or.inl ⟨0, by decide, rfl⟩)) rfl 3 (by decide) q677 rfl rfl rfl rfl (Nat.le_of_ble_eq_true rfl) dX4_crack_22 (fun H locs h_st hbut hS => ?_)
  have h_st : va_at (gD g) bbCl ((B 0), .inr (5, [.int (sMi S), .int (sAn S), .int (sPo S), .int (if 0 < (sIc S - 3) then (sIc S - 3) else 0), .int (nI (sCo S)), .int (bPassing S), .int (sLa S), .ref (B 1), .ref (B 2), .ref (B 3), .ref (B 4), .ref (M 0)])) H := h_st
  have h_m := h_m.but hbut (nMB 0 0 (by decide) (by decide))
  have h_ib := h_ib.but hbut (nMB 1 0 (by decide) (by decide))
  have h_nd := h_nd.but hbut (nMB 2 0 (by decide) (by decide))
  have h_ca := h_ca.but hbut (nMB 3 0 (by decide) (by decide))
  have h_cd := h_cd.but hbut (nMB 4 0 (by decide) (by decide))
  have h_ai := h_ai.but hbut (nB 1 0 (by decide) (by decide) (by decide))
  have h_aw := h_aw.but hbut (nB 2 0 (by decide) (by decide) (by decide))
  have h_al := h_al.but hbut (nB 3 0 (by decide) (by decide) (by decide))
  have h_ah := h_ah.but hbut (nB 4 0 (by decide) (by decide) (by decide))
  have hC := hC.kept (fun i hi9 _ => hbut.2 _ (nCB i 0 hi9 (by decide)))
  refine lv_aload_n hx hb dX4_crack_25 rfl (lv_at hl 0 rfl) ?_
  refine gg_get (ci := 4) (C := RX4) (T := TX4) (N := 8) (v := .ref (B 0)) hx hb hts in_X4 hown hG h_m rfl 6 (by decide) q726 rfl rfl dX4_crack_26 ?_
  refine gg_getN (ci := 5) (C := RX5) (T := TX5) (N := 12) (v := .int (if 0 < (sIc S - 3) then (sIc S - 3) else 0)) hx hb hts in_X5 hown hG h_st rfl 3 (by decide) q677 rfl rfl dX4_crack_29 ?_
  have hE : aCrack S = ((0, (if 0 < sIc S - 3 then sIc S - 3 else 0), sIce S (if 0 < sIc S - 3 then sIc S - 3 else 0)) : Ans) := by rfl
  exact W.iret (v := (if 0 < (sIc S - 3) then (sIc S - 3) else 0)) hx hb hr (fun t9 h9 hW9 => ⟨⟨_, (), rfl, (congrArg (fun a : Ans => a.2.1) hE).symm, by dsimp only; rw [h9, hE]; exact ⟨⟨_, _, _, h_m, h_ib, h_nd, h_ca, h_cd, hOR⟩, ⟨_, _, _, _, ⟨h_st, h_ai, h_aw, h_al, h_ah⟩, hAR, hZ⟩, hC⟩⟩, hS.F h9⟩) hS.2.2 dX4_crack_32

set_option maxHeartbeats 4000000 in
theorem met_X4_speed (l : Launch) (g : GT) (T : Nat) (M B C : Nat → Nat) (th : Int32) (S : BS) (hok : OKS T S) (hD : MD g M B C) (up : Int32) : Met l yX4_speed (ws_ yX4_speed cX4_speed 2 (Option.some Jvm.ClassFile.FieldType.int)) ({ frames := 2, cells := 0, slots := 0, locals := 43 } : Room) (PcG g [.ref (M 0), .int up] (fun H => MX g M B C th S H)) (va_Qi (fun (r : Int32) (_ : Unit) => r = (aSpeed S up).2.1) (fun _ u => MX g M B C (aSpeed S up).1 (aSpeed S up).2.2 u.heap) (FM M B C)) 0 0 (FM M B C) := by
  refine gg_met (cc := cX4_speed) (maxL := 2) (ret := (Option.some Jvm.ClassFile.FieldType.int)) (by decide) (Nat.le_of_ble_eq_true rfl) ?_
  intro p e s m below meth c hx hb hr hlk hin hml hown hts hG hB ls hl
  have hown : s.vm.findClass RX4 = some m.cls := hown
  have hl : lv_has ls 2 [(0, .ref (M 0)), (1, .int up)] := hl
  obtain ⟨hMO, hSP, hC⟩ := hB
  obtain ⟨fb, fn, fc, h_m, h_ib, h_nd, h_ca, h_cd, hOR⟩ := hMO
  obtain ⟨fi, fw, fl, fh, ⟨h_st, h_ai, h_aw, h_al, h_ah⟩, hAR, hZ⟩ := hSP
  have nM := hD.1.ne
  have nB := hD.2.1.ne
  have nBM := hD.2.2.2.1
  have nMB := hD.2.2.2.1.symm
  have nCM := hD.2.2.2.2.1
  have nCB := hD.2.2.2.2.2.1.symm
  have hAN : ∀ q, FM M B C q → gA g q := hD.an
  have hS : va_S (FM M B C) s.heap s.heap [] := va_S.rf
  have hn40 : sN S ≤ 40 := hok.2.2.2.2.2.2.2.1
  refine lv_aload_n hx hb dX4_speed_0 rfl (lv_at hl 0 rfl) ?_
  refine lv_iconst (v := 0) hx hb dX4_speed_1 (by decide) ?_
  refine gg_put (ci := 4) (v := .int 0) (C := RX4) (T := TX4) (N := 8) hx hb hts in_X4 tyX4 tyX4_ok nmX4 hown hG h_m hS (Or.inl ⟨0, by decide, rfl⟩) rfl 0 (by decide) q716 rfl rfl rfl rfl (Nat.le_of_ble_eq_true rfl) dX4_speed_2 (fun H locs h_m hbut hS => ?_)
  have h_m : va_at (gD g) bbCl ((M 0), .inr (4, [.int 0, .int (nI (sN S)), .ref (M 1), .ref (M 2), .ref (M 3), .ref (M 4), .ref (B 0), .ref (C 0)])) H := h_m
  have h_ib := h_ib.but hbut (nM 1 0 (by decide) (by decide) (by decide))
  have h_nd := h_nd.but hbut (nM 2 0 (by decide) (by decide) (by decide))
  have h_ca := h_ca.but hbut (nM 3 0 (by decide) (by decide) (by decide))
  have h_cd := h_cd.but hbut (nM 4 0 (by decide) (by decide) (by decide))
  have h_st := h_st.but hbut (nBM 0 0 (by decide) (by decide))
  have h_ai := h_ai.but hbut (nBM 1 0 (by decide) (by decide))
  have h_aw := h_aw.but hbut (nBM 2 0 (by decide) (by decide))
  have h_al := h_al.but hbut (nBM 3 0 (by decide) (by decide))
  have h_ah := h_ah.but hbut (nBM 4 0 (by decide) (by decide))
  have hC := hC.kept (fun i hi9 _ => hbut.2 _ (nCM i 0 hi9 (by decide)))
  refine lv_aload_n hx hb dX4_speed_5 rfl (lv_at hl 0 rfl) ?_
  refine gg_get (ci := 4) (C := RX4) (T := TX4) (N := 8) (v := .ref (B 0)) hx hb hts in_X4 hown hG h_m rfl 6 (by decide) q726 rfl rfl dX4_speed_6 ?_
  refine lv_iload_n hx hb dX4_speed_9 rfl (lv_at hl 1 rfl) ?_
  refine vp_callSi (va_Run.run (va_runV (As := [.int up]) (rest := []) ⟨hx, hb, hml, hown, hts⟩ (met_X5_speed l g T (M 0) (B 0) S up) (cwV 1 hts (lw_V q821 q822 q823 q22 q824) rfl rfl rfl (by decide +kernel) ⟨Nat.le_of_ble_eq_true rfl, Nat.le_of_ble_eq_true rfl⟩) (gg_preV hG (hS.kp hG hAN) (gg_recv hG h_st rfl) (RM.of (th := 0) ⟨fb, fn, fc, h_m, h_ib, h_nd, h_ca, h_cd, hOR⟩ ⟨fi, fw, fl, fh, ⟨h_st, h_ai, h_aw, h_al, h_ah⟩, hAR, hZ⟩ hok)) rfl rfl hl.1 rfl (lv_room (Nat.le_of_ble_eq_true rfl)) dX4_speed_10 ⟨Nat.le_of_ble_eq_true rfl, Nat.le_of_ble_eq_true rfl⟩)) (fun r_1 hr_1 => ?_)
  have hE : aSpeed S up = ((0, bSpeed S up, S) : Ans) := by rfl
  exact W.iret (v := r_1) hx hb hr (fun t9 h9 hW9 => ⟨⟨_, (), rfl, hr_1, by dsimp only; rw [h9, hE]; exact ⟨⟨_, _, _, h_m, h_ib, h_nd, h_ca, h_cd, hOR⟩, ⟨_, _, _, _, ⟨h_st, h_ai, h_aw, h_al, h_ah⟩, hAR, hZ⟩, hC⟩⟩, hS.F h9⟩) hS.2.2 dX4_speed_13

set_option maxHeartbeats 4000000 in
theorem met_X4_count (l : Launch) (g : GT) (T : Nat) (M B C : Nat → Nat) (th : Int32) (S : BS) (hok : OKS T S) (hD : MD g M B C) (w : Int32) : Met l yX4_count (ws_ yX4_count cX4_count 2 (Option.some Jvm.ClassFile.FieldType.int)) ({ frames := 3, cells := 0, slots := 0, locals := 64 } : Room) (PcG g [.ref (M 0), .int w] (fun H => MX g M B C th S H)) (va_Qi (fun (r : Int32) (_ : Unit) => r = (aCount S w).2.1) (fun _ u => MX g M B C (aCount S w).1 (aCount S w).2.2 u.heap) (FM M B C)) 0 0 (FM M B C) := by
  refine gg_met (cc := cX4_count) (maxL := 2) (ret := (Option.some Jvm.ClassFile.FieldType.int)) (by decide) (Nat.le_of_ble_eq_true rfl) ?_
  intro p e s m below meth c hx hb hr hlk hin hml hown hts hG hB ls hl
  have hown : s.vm.findClass RX4 = some m.cls := hown
  have hl : lv_has ls 2 [(0, .ref (M 0)), (1, .int w)] := hl
  obtain ⟨hMO, hSP, hC⟩ := hB
  obtain ⟨fb, fn, fc, h_m, h_ib, h_nd, h_ca, h_cd, hOR⟩ := hMO
  obtain ⟨fi, fw, fl, fh, ⟨h_st, h_ai, h_aw, h_al, h_ah⟩, hAR, hZ⟩ := hSP
  have nM := hD.1.ne
  have nB := hD.2.1.ne
  have nBM := hD.2.2.2.1
  have nMB := hD.2.2.2.1.symm
  have nCM := hD.2.2.2.2.1
  have nCB := hD.2.2.2.2.2.1.symm
  have hAN : ∀ q, FM M B C q → gA g q := hD.an
  have hS : va_S (FM M B C) s.heap s.heap [] := va_S.rf
  have hn40 : sN S ≤ 40 := hok.2.2.2.2.2.2.2.1
  refine lv_aload_n hx hb dX4_count_0 rfl (lv_at hl 0 rfl) ?_
  refine lv_iconst (v := 0) hx hb dX4_count_1 (by decide) ?_
  refine gg_put (ci := 4) (v := .int 0) (C := RX4) (T := TX4) (N := 8) hx hb hts in_X4 tyX4 tyX4_ok nmX4 hown hG h_m hS (Or.inl ⟨0, by decide, rfl⟩) rfl 0 (by decide) q716 rfl rfl rfl rfl (Nat.le_of_ble_eq_true rfl) dX4_count_2 (fun H locs h_m hbut hS => ?_)
  have h_m : va_at (gD g) bbCl ((M 0), .inr (4, [.int 0, .int (nI (sN S)), .ref (M 1), .ref (M 2), .ref (M 3), .ref (M 4), .ref (B 0), .ref (C 0)])) H := h_m
  have h_ib := h_ib.but hbut (nM 1 0 (by decide) (by decide) (by decide))
  have h_nd := h_nd.but hbut (nM 2 0 (by decide) (by decide) (by decide))
  have h_ca := h_ca.but hbut (nM 3 0 (by decide) (by decide) (by decide))
  have h_cd := h_cd.but hbut (nM 4 0 (by decide) (by decide) (by decide))
  have h_st := h_st.but hbut (nBM 0 0 (by decide) (by decide))
  have h_ai := h_ai.but hbut (nBM 1 0 (by decide) (by decide))
  have h_aw := h_aw.but hbut (nBM 2 0 (by decide) (by decide))
  have h_al := h_al.but hbut (nBM 3 0 (by decide) (by decide))
  have h_ah := h_ah.but hbut (nBM 4 0 (by decide) (by decide))
  have hC := hC.kept (fun i hi9 _ => hbut.2 _ (nCM i 0 hi9 (by decide)))
  refine lv_iload_n hx hb dX4_count_5 rfl (lv_at hl 1 rfl) ?_
  refine lv_iconst (v := 0) hx hb dX4_count_6 (by decide) ?_
  refine lv_bipush (v := 11) hx hb dX4_count_7 (by decide) ?_
  refine vp_callSi (va_Run.run (va_runS (As := [.int w, .int 0, .int 11]) (rest := []) ⟨hx, hb, hml, hown, hts⟩ (met_X4_isIn l g w 0 11) (va_cwS 3 hts (lw_S q753 q754 q21 q755) rfl rfl rfl (by decide +kernel) ⟨Nat.le_of_ble_eq_true rfl, Nat.le_of_ble_eq_true rfl⟩) (gg_preS hG (hS.kp hG hAN) trivial) rfl rfl hl.1 rfl (lv_room (Nat.le_of_ble_eq_true rfl)) dX4_count_9 ⟨Nat.le_of_ble_eq_true rfl, Nat.le_of_ble_eq_true rfl⟩)) (fun r_1 hr_1 => ?_)
  refine lv_if_eq (tgt := 26) hx hb dX4_count_12 (by decide) (fun c_12 => ?_) (fun c_12 => ?_)
  · refine lv_aload_n hx hb dX4_count_26 rfl (lv_at hl 0 rfl) ?_
    refine lv_iconst (v := 1) hx hb dX4_count_27 (by decide) ?_
    refine va_calli (va_runV (As := [.int 1]) (rest := []) ⟨hx, hb, hml, hown, hts⟩ (met_X4_no l g (M 0) (sN S) (M 1) (M 2) (M 3) (M 4) (B 0) (C 0) 0 1 (hAN _ (Or.inl ⟨0, by decide, rfl⟩))) (cwV 1 hts (lw_V q756 q758 qs6 q21 q759) rfl rfl rfl (by decide +kernel) ⟨Nat.le_of_ble_eq_true rfl, Nat.le_of_ble_eq_true rfl⟩) (gg_preV hG (hS.kp hG hAN) (gg_recv hG h_m rfl) h_m) rfl rfl hl.1 rfl (lv_room (Nat.le_of_ble_eq_true rfl)) dX4_count_28 ⟨Nat.le_of_ble_eq_true rfl, Nat.le_of_ble_eq_true rfl⟩) hS (fun q _ e => Or.inl ⟨0, by decide, e⟩) (fun q e => Or.inl ⟨0, by decide, e⟩) (fun r_n u t9 H1 locs ht hvm hr_n hQ hz1 hk1 hS => ?_)
    rw [ht] at hQ
    have h_ib := h_ib.kept (hk1 _ h_ib.lt (nM 1 0 (by decide) (by decide) (by decide)))
    have h_nd := h_nd.kept (hk1 _ h_nd.lt (nM 2 0 (by decide) (by decide) (by decide)))
    have h_ca := h_ca.kept (hk1 _ h_ca.lt (nM 3 0 (by decide) (by decide) (by decide)))
    have h_cd := h_cd.kept (hk1 _ h_cd.lt (nM 4 0 (by decide) (by decide) (by decide)))
    have h_st := h_st.kept (hk1 _ h_st.lt (nBM 0 0 (by decide) (by decide)))
    have h_ai := h_ai.kept (hk1 _ h_ai.lt (nBM 1 0 (by decide) (by decide)))
    have h_aw := h_aw.kept (hk1 _ h_aw.lt (nBM 2 0 (by decide) (by decide)))
    have h_al := h_al.kept (hk1 _ h_al.lt (nBM 3 0 (by decide) (by decide)))
    have h_ah := h_ah.kept (hk1 _ h_ah.lt (nBM 4 0 (by decide) (by decide)))
    have hC := hC.kept (fun i hi9 hl9 => hk1 _ hl9 (nCM i 0 hi9 (by decide)))
    have h_m := hQ
    generalize H1 = H at h_m h_ib h_nd h_ca h_cd h_st h_ai h_aw h_al h_ah hC hS ⊢
    have hE : aCount S w = ((1, 0, S) : Ans) := by unfold aCount; rw [if_neg (b01_f hr_1 c_12)]
    exact W.iret (v := r_n) hx hb hr (fun t9 h9 hW9 => ⟨⟨_, (), rfl, (hr_n.trans (congrArg (fun a : Ans => a.2.1) hE).symm), by dsimp only; rw [h9, hE]; exact ⟨⟨_, _, _, h_m, h_ib, h_nd, h_ca, h_cd, hOR⟩, ⟨_, _, _, _, ⟨h_st, h_ai, h_aw, h_al, h_ah⟩, hAR, hZ⟩, hC⟩⟩, hS.F h9⟩) hS.2.2 dX4_count_31
  · have hT := b01_t hr_1 c_12
    obtain ⟨j, hj, hkj⟩ := i_in (n := 11) rfl hT.1 hT.2
    subst hkj
    have hcl := nI_clamp (n := j) (by omega)
    refine lv_aload_n hx hb dX4_count_15 rfl (lv_at hl 0 rfl) ?_
    refine gg_get (ci := 4) (C := RX4) (T := TX4) (N := 8) (v := .ref (B 0)) hx hb hts in_X4 hown hG h_m rfl 6 (by decide) q726 rfl rfl dX4_count_16 ?_
    refine lv_iload_n hx hb dX4_count_19 rfl (lv_at hl 1 rfl) ?_
    refine vp_callSi (va_Run.run (va_runV (As := [.int (nI j)]) (rest := []) ⟨hx, hb, hml, hown, hts⟩ (met_X5_counted l g T (M 0) (B 0) S j (by omega)) (cwV 1 hts (lw_V q797 q798 q799 q22 q800) rfl rfl rfl (by decide +kernel) ⟨Nat.le_of_ble_eq_true rfl, Nat.le_of_ble_eq_true rfl⟩) (gg_preV hG (hS.kp hG hAN) (gg_recv hG h_st rfl) (RM.of (th := 0) ⟨fb, fn, fc, h_m, h_ib, h_nd, h_ca, h_cd, hOR⟩ ⟨fi, fw, fl, fh, ⟨h_st, h_ai, h_aw, h_al, h_ah⟩, hAR, hZ⟩ hok)) rfl rfl hl.1 rfl (lv_room (Nat.le_of_ble_eq_true rfl)) dX4_count_20 ⟨Nat.le_of_ble_eq_true rfl, Nat.le_of_ble_eq_true rfl⟩)) (fun r_2 hr_2 => ?_)
    refine lv_goto (tgt := 31) hx hb dX4_count_23 (by decide) ?_
    have hE : aCount S (nI j) = ((0, bCnt S j, S) : Ans) := by unfold aCount; rw [if_pos hT, hcl]
    exact W.iret (v := r_2) hx hb hr (fun t9 h9 hW9 => ⟨⟨_, (), rfl, (hr_2.trans (congrArg (fun a : Ans => a.2.1) hE).symm), by dsimp only; rw [h9, hE]; exact ⟨⟨_, _, _, h_m, h_ib, h_nd, h_ca, h_cd, hOR⟩, ⟨_, _, _, _, ⟨h_st, h_ai, h_aw, h_al, h_ah⟩, hAR, hZ⟩, hC⟩⟩, hS.F h9⟩) hS.2.2 dX4_count_31
