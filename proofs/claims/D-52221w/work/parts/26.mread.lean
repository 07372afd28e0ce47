/-! THE MODEL'S STATE: its cells, and what is read of them. -/
set_option maxRecDepth 100000
abbrev stE (S : BS) (ai aw al ah m : Nat) : va_E := .inr (5, [.int (sMi S), .int (sAn S), .int (sPo S), .int (sIc S), .int (nI (sCo S)), .int (bPassing S), .int (sLa S), .ref ai, .ref aw, .ref al, .ref ah, .ref m])
abbrev moE (th : Int32) (n ib nd ca cd s0 a0 : Nat) : va_E := .inr (4, [.int th, .int (nI n), .ref ib, .ref nd, .ref ca, .ref cd, .ref s0, .ref a0])
/-- the rows of the states, of the travellers' own numbers -/
def AR (S : BS) (fi fw fl fh : Nat → Int32) : Prop := ∀ k, k < sN S → fi k = nI (tSt (sTv S k)) ∧ fw k = tWa (sTv S k) ∧ fl k = tLe (sTv S k) ∧ fh k = tPa (sTv S k)
def OR (S : BS) (fb fn fc : Nat → Int32) : Prop := ∀ k, k < sN S → fb k = tBa (sTv S k) ∧ fn k = tMi (sTv S k) ∧ fc k = tCa (sTv S k)
/-- a state of the model in the heap, to be read -/
def RM (g : GT) (T m0 st : Nat) (S : BS) (H : Heap) : Prop := ∃ (th : Int32) (ib nd ca cd s0 a0 : Nat) (fb fn fc : Nat → Int32) (ai aw al ah : Nat) (fi fw fl fh : Nat → Int32),
  va_at (gD g) bbCl (m0, moE th (sN S) ib nd ca cd s0 a0) H ∧ va_at (gD g) bbCl (ib, inA g 40 fb) H ∧ va_at (gD g) bbCl (nd, inA g 40 fn) H ∧ va_at (gD g) bbCl (ca, inA g 40 fc) H ∧ va_at (gD g) bbCl (cd, inA g 8 (sCd S)) H ∧
  va_at (gD g) bbCl (st, stE S ai aw al ah m0) H ∧ va_at (gD g) bbCl (ai, inA g 40 fi) H ∧ va_at (gD g) bbCl (aw, inA g 40 fw) H ∧ va_at (gD g) bbCl (al, inA g 40 fl) H ∧ va_at (gD g) bbCl (ah, inA g 40 fh) H ∧ OR S fb fn fc ∧ AR S fi fw fl fh ∧ OKS T S
theorem nI_st0 {n : Nat} (h : n < 4) : nI n = 0 ↔ n = 0 := nI_eq (b := 0) (by omega) (by decide)
/-- one that waits, of a kind or of both -/
def pK (S : BS) (kind : Int32) (k : Nat) : Bool := decide (tSt (sTv S k) = 0) && (decide (kind = 2) || decide (tBa (sTv S k) = kind))
def mFirst (S : BS) (kind : Int32) : Int32 := srch (pK S kind) (sN S) 0
def pA (S : BS) (w : Nat) (kind : Int32) (k : Nat) : Bool := decide (tSt (sTv S k) = w) && (decide (kind = 2) || decide (tBa (sTv S k) = kind))
def mAre (S : BS) (w : Nat) (kind : Int32) : Int32 := cnt (pA S w kind) (sN S)
theorem srch_congr {p q : Nat → Bool} : ∀ (f k : Nat), (∀ j, k ≤ j → j < k + f → p j = q j) → srch p f k = srch q f k
  | 0, _, _ => rfl
  | f + 1, k, h => by
    rw [srch, srch, h k (Nat.le_refl _) (by omega), srch_congr f (k + 1) (fun j h1 h2 => h j (by omega) (by omega))]
theorem cnt_congr {p q : Nat → Bool} : ∀ (n : Nat), (∀ j, j < n → p j = q j) → cnt p n = cnt q n
  | 0, _ => rfl
  | n + 1, h => by rw [cnt, cnt, h n (by omega), cnt_congr n (fun j hj => h j (by omega))]
theorem mFirst_k {S : BS} {b : Int32} (hb : ¬ b = 2) : mFirst S b = bFirst S b := by
  refine srch_congr _ _ (fun j _ _ => ?_)
  simp [pK, pW, hb]
theorem mAre_k {S : BS} {b : Int32} (hb : ¬ b = 2) : mAre S 0 b = bWaiting S b := by
  refine cnt_congr _ (fun j _ => ?_)
  simp [pA, pW, hb]
theorem mAre_2 {S : BS} : mAre S 2 2 = bPassed S := by
  refine cnt_congr _ (fun j _ => ?_)
  simp [pA, pS]
/-- the first of both kinds is the lesser of the two firsts -/
theorem mFirst_2 {T : Nat} {S : BS} (hok : OKS T S) : mFirst S 2 = bEither (bFirst S 1) (bFirst S 0) := by
  have hn := hok.2.2.2.2.2.2.2.1
  have hba := hok.2.2.2.2.2.2.2.2.1
  have r0 := srch_or (pW S 0) (sN S) 0
  have r1 := srch_or (pW S 1) (sN S) 0
  have r2 := srch_or (pK S 2) (sN S) 0
  have key : ∀ j, j < sN S → (pK S 2 j = true ↔ pW S 0 j = true ∨ pW S 1 j = true) := by
    intro j hj
    rcases (hba j hj).1 with e | e <;> simp [pK, pW, e]
  unfold mFirst bEither bFirst
  rcases r2 with ⟨a1, a2⟩ | ⟨j, a1, a2, a3, a4, a5⟩
  · have z0 : srch (pW S 0) (sN S) 0 = -1 := by
      rcases r0 with ⟨b1, -⟩ | ⟨i, b1, b2, b3, b4, -⟩
      · exact b1
      · have := a2 i (Nat.zero_le _) b2
        rw [(key i (by omega)).mpr (Or.inl b3)] at this
        cases this
    have z1 : srch (pW S 1) (sN S) 0 = -1 := by
      rcases r1 with ⟨b1, -⟩ | ⟨i, b1, b2, b3, b4, -⟩
      · exact b1
      · have := a2 i (Nat.zero_le _) b2
        rw [(key i (by omega)).mpr (Or.inr b3)] at this
        cases this
    rw [a1, z0, z1]
    decide
  · have noless : ∀ i, i < j → pW S 0 i = false ∧ pW S 1 i = false := by
      intro i hi
      have h1 := a5 i (Nat.zero_le _) hi
      have h2 := key i (by omega)
      rw [h1] at h2
      constructor
      · cases h : pW S 0 i with
        | false => rfl
        | true => exact absurd (h2.mpr (Or.inl h)) (by decide)
      · cases h : pW S 1 i with
        | false => rfl
        | true => exact absurd (h2.mpr (Or.inr h)) (by decide)
    have at0 : ∀ b i, pW S b i = true → (∀ i', i' < i → pW S b i' = false) → i < sN S → srch (pW S b) (sN S) 0 = nI i := by
      intro b i h1 h2 h3
      rcases srch_or (pW S b) (sN S) 0 with ⟨-, b2⟩ | ⟨i2, b1, b2, b3, b4, b5⟩
      · have := b2 i (Nat.zero_le _) (by omega)
        rw [h1] at this
        cases this
      · have : i2 = i := by
          rcases Nat.lt_trichotomy i2 i with q | q | q
          · have := h2 i2 q
            rw [b3] at this
            cases this
          · exact q
          · have := b5 i (Nat.zero_le _) q
            rw [h1] at this
            cases this
        rw [b4, this]
    have hj : j < sN S := by omega
    rcases (key j hj).mp a3 with h | h
    · have e0 := at0 0 j h (fun i hi => (noless i hi).1) hj
      rw [a4, e0]
      rcases r1 with ⟨b1, -⟩ | ⟨i, b1, b2, b3, b4, -⟩
      · rw [if_pos b1]
      · have hij : ¬ i < j := fun q => by have := (noless i q).2; rw [b3] at this; cases this
        rw [b4, if_neg (nI_m1 (by omega)), if_neg (nI_m1 (by omega))]
        by_cases hji : j < i
        · rw [if_pos (nI_lt hji (by omega))]
        · rw [if_neg (nI_nlt (by omega) (by omega)), show i = j by omega]
    · have e1 := at0 1 j h (fun i hi => (noless i hi).2) hj
      rw [a4, e1, if_neg (nI_m1 (by omega))]
      rcases r0 with ⟨b1, -⟩ | ⟨i, b1, b2, b3, b4, -⟩
      · rw [if_pos b1]
      · have hij : ¬ i < j := fun q => by have := (noless i q).1; rw [b3] at this; cases this
        rw [b4, if_neg (nI_m1 (by omega)), if_neg (nI_nlt (by omega) (by omega))]

set_option maxHeartbeats 4000000 in
theorem met_X5_speed (l : Launch) (g : GT) (T m0 st : Nat) (S : BS) (x : Int32) : Met l yX5_speed (ws_ yX5_speed cX5_speed 3 (Option.some Jvm.ClassFile.FieldType.int)) ({ frames := 1, cells := 0, slots := 0, locals := 21 } : Room) (PcG g [.ref st, .int x] (fun H => RM g T m0 st S H)) (vp_Si (fun r => r = bSpeed S x)) 0 0 (fun _ => False) := by
  refine gg_met (cc := cX5_speed) (maxL := 3) (ret := (Option.some Jvm.ClassFile.FieldType.int)) (by decide) (Nat.le_of_ble_eq_true rfl) ?_
  intro p e s m below meth c hx hb hr hlk hin hml hown hts hG hB ls hl
  have hown : s.vm.findClass RX5 = some m.cls := hown
  have hl : lv_has ls 3 [(0, .ref st), (1, .int x)] := hl
  have hB0 := hB
  obtain ⟨th, ib, nd, ca, cd, s0, a0, fb, fn, fc, ai, aw, al, ah, fi, fw, fl, fh, h_m, h_ib, h_nd, h_ca, h_cd, h_st, h_ai, h_aw, h_al, h_ah, hOR, hAR, hok⟩ := hB
  have hn40 : sN S ≤ 40 := hok.2.2.2.2.2.2.2.1
  refine lv_iload_n hx hb dX5_speed_0 rfl (lv_at hl 1 rfl) ?_
  refine lv_if_eq (tgt := 16) hx hb dX5_speed_1 (by decide) (fun c_1 => ?_) (fun c_1 => ?_)
  · refine lv_bipush (v := 6) hx hb dX5_speed_16 (by decide) ?_
    refine lv_aload_n hx hb dX5_speed_18 rfl (lv_at hl 0 rfl) ?_
    refine gg_get (ci := 5) (C := RX5) (T := TX5) (N := 12) (v := .int (sPo S)) hx hb hts in_X5 hown hG h_st rfl 2 (by decide) q674 rfl rfl dX5_speed_19 ?_
    refine lv_bipush (v := 6) hx hb dX5_speed_22 (by decide) ?_
    refine lv_idiv hx hb dX5_speed_24 (by decide) ?_
    refine lv_isub hx hb dX5_speed_25 ?_
    refine lv_istore_n (lv' := [(2, .int (6 - (sPo S / 6))), (0, .ref st), (1, .int x)]) hx hb dX5_speed_26 rfl hl (by decide) rfl (fun ls hl => ?_)
    refine lv_aload_n hx hb dX5_speed_27 rfl (lv_at hl 1 rfl) ?_
    refine gg_get (ci := 5) (C := RX5) (T := TX5) (N := 12) (v := .int (sIc S)) hx hb hts in_X5 hown hG h_st rfl 3 (by decide) q676 rfl rfl dX5_speed_28 ?_
    refine lv_iconst (v := 5) hx hb dX5_speed_31 (by decide) ?_
    refine lv_icmp_ge (tgt := 39) hx hb dX5_speed_32 (by decide) (fun c_32 => ?_) (fun c_32 => ?_)
    · refine lv_iconst (v := 1) hx hb dX5_speed_39 (by decide) ?_
      refine lv_iload_n hx hb dX5_speed_40 rfl (lv_at hl 0 rfl) ?_
      refine lv_iconst (v := 2) hx hb dX5_speed_41 (by decide) ?_
      refine lv_idiv hx hb dX5_speed_42 (by decide) ?_
      refine va_mmax hx hb (by rw [hml]; exact hl.1.symm) hown (hts _ q825) (hts _ q124) (hts _ q31) (hts _ q125) (Nat.le_of_ble_eq_true rfl) (Nat.le_of_ble_eq_true rfl) (Nat.zero_le _) (Nat.zero_le _) dX5_speed_43 ?_
      exact W.iret (v := (if 1 < ((6 - (sPo S / 6)) / 2) then ((6 - (sPo S / 6)) / 2) else 1)) hx hb hr (fun t9 h9 hW9 => ⟨_, rfl, (by simp only [bSpeed, bSp0, c_1, if_neg (Int32.not_lt.mpr c_32), if_true, if_false]), h9⟩) (fun _ h => absurd h List.not_mem_nil) dX5_speed_46
    · refine lv_iload_n hx hb dX5_speed_35 rfl (lv_at hl 0 rfl) ?_
      refine lv_goto (tgt := 46) hx hb dX5_speed_36 (by decide) ?_
      exact W.iret (v := (6 - (sPo S / 6))) hx hb hr (fun t9 h9 hW9 => ⟨_, rfl, (by simp only [bSpeed, bSp0, c_1, if_pos (Int32.not_le.mp c_32), if_true, if_false]), h9⟩) (fun _ h => absurd h List.not_mem_nil) dX5_speed_46
  · refine lv_iconst (v := 1) hx hb dX5_speed_4 (by decide) ?_
    refine lv_aload_n hx hb dX5_speed_5 rfl (lv_at hl 0 rfl) ?_
    refine gg_get (ci := 5) (C := RX5) (T := TX5) (N := 12) (v := .int (sPo S)) hx hb hts in_X5 hown hG h_st rfl 2 (by decide) q674 rfl rfl dX5_speed_6 ?_
    refine lv_bipush (v := 6) hx hb dX5_speed_9 (by decide) ?_
    refine lv_idiv hx hb dX5_speed_11 (by decide) ?_
    refine lv_iadd hx hb dX5_speed_12 ?_
    refine lv_goto (tgt := 26) hx hb dX5_speed_13 (by decide) ?_
    refine lv_istore_n (lv' := [(2, .int (1 + (sPo S / 6))), (0, .ref st), (1, .int x)]) hx hb dX5_speed_26 rfl hl (by decide) rfl (fun ls hl => ?_)
    refine lv_aload_n hx hb dX5_speed_27 rfl (lv_at hl 1 rfl) ?_
    refine gg_get (ci := 5) (C := RX5) (T := TX5) (N := 12) (v := .int (sIc S)) hx hb hts in_X5 hown hG h_st rfl 3 (by decide) q676 rfl rfl dX5_speed_28 ?_
    refine lv_iconst (v := 5) hx hb dX5_speed_31 (by decide) ?_
    refine lv_icmp_ge (tgt := 39) hx hb dX5_speed_32 (by decide) (fun c_32 => ?_) (fun c_32 => ?_)
    · refine lv_iconst (v := 1) hx hb dX5_speed_39 (by decide) ?_
      refine lv_iload_n hx hb dX5_speed_40 rfl (lv_at hl 0 rfl) ?_
      refine lv_iconst (v := 2) hx hb dX5_speed_41 (by decide) ?_
      refine lv_idiv hx hb dX5_speed_42 (by decide) ?_
      refine va_mmax hx hb (by rw [hml]; exact hl.1.symm) hown (hts _ q825) (hts _ q124) (hts _ q31) (hts _ q125) (Nat.le_of_ble_eq_true rfl) (Nat.le_of_ble_eq_true rfl) (Nat.zero_le _) (Nat.zero_le _) dX5_speed_43 ?_
      exact W.iret (v := (if 1 < ((1 + (sPo S / 6)) / 2) then ((1 + (sPo S / 6)) / 2) else 1)) hx hb hr (fun t9 h9 hW9 => ⟨_, rfl, (by simp only [bSpeed, bSp0, c_1, if_neg (Int32.not_lt.mpr c_32), if_true, if_false]), h9⟩) (fun _ h => absurd h List.not_mem_nil) dX5_speed_46
    · refine lv_iload_n hx hb dX5_speed_35 rfl (lv_at hl 0 rfl) ?_
      refine lv_goto (tgt := 46) hx hb dX5_speed_36 (by decide) ?_
      exact W.iret (v := (1 + (sPo S / 6))) hx hb hr (fun t9 h9 hW9 => ⟨_, rfl, (by simp only [bSpeed, bSp0, c_1, if_pos (Int32.not_le.mp c_32), if_true, if_false]), h9⟩) (fun _ h => absurd h List.not_mem_nil) dX5_speed_46

set_option maxHeartbeats 4000000 in
theorem met_X5_first (l : Launch) (g : GT) (T m0 st : Nat) (S : BS) (x : Int32) : Met l yX5_first (ws_ yX5_first cX5_first 3 (Option.some Jvm.ClassFile.FieldType.int)) ({ frames := 0, cells := 0, slots := 0, locals := 0 } : Room) (PcG g [.ref st, .int x] (fun H => RM g T m0 st S H)) (vp_Si (fun r => r = mFirst S x)) 0 0 (fun _ => False) := by
  refine gg_met (cc := cX5_first) (maxL := 3) (ret := (Option.some Jvm.ClassFile.FieldType.int)) (by decide) (Nat.le_of_ble_eq_true rfl) ?_
  intro p e s m below meth c hx hb hr hlk hin hml hown hts hG hB ls hl
  have hown : s.vm.findClass RX5 = some m.cls := hown
  have hl : lv_has ls 3 [(0, .ref st), (1, .int x)] := hl
  have hB0 := hB
  obtain ⟨th, ib, nd, ca, cd, s0, a0, fb, fn, fc, ai, aw, al, ah, fi, fw, fl, fh, h_m, h_ib, h_nd, h_ca, h_cd, h_st, h_ai, h_aw, h_al, h_ah, hOR, hAR, hok⟩ := hB
  have hn40 : sN S ≤ 40 := hok.2.2.2.2.2.2.2.1
  refine lv_iconst (v := 0) hx hb dX5_first_0 (by decide) ?_
  refine lv_istore_n (lv' := [(2, .int 0), (0, .ref st), (1, .int x)]) hx hb dX5_first_1 rfl hl (by decide) rfl (fun ls hl => ?_)
  have loop : ∀ (d k : Nat) , k ≤ sN S → sN S + 1 ≤ k + d → mFirst S x = srch (pK S x) (sN S - k) k → ∀ ls : Array Slot, lv_has ls 3 [(2, .int (nI k)), (0, .ref st), (1, .int x)] → W p l e ({ frames := 0, cells := 0, slots := 0, locals := 0 } : Room) s m ([.ref st, .int x] : List Value).toArray below meth c s.heap [] 0 0 (MQ below (vp_Si (fun r => r = mFirst S x)) ([.ref st, .int x] : List Value).toArray s 0 0 (fun _ => False)) (F0 m 2 ls []) := by
    intro d
    induction d with
    | zero => intro k  h1 h2; exact absurd h2 (by omega)
    | succ d ih =>
      intro k  hkn hkd hI ls hl
      refine lv_iload_n hx hb dX5_first_2 rfl (lv_at hl 0 rfl) ?_
      refine lv_aload_n hx hb dX5_first_3 rfl (lv_at hl 1 rfl) ?_
      refine gg_get (ci := 5) (C := RX5) (T := TX5) (N := 12) (v := .ref m0) hx hb hts in_X5 hown hG h_st rfl 11 (by decide) q690 rfl rfl dX5_first_4 ?_
      refine gg_getN (ci := 4) (C := RX4) (T := TX4) (N := 8) (v := .int (nI (sN S))) hx hb hts in_X4 hown hG h_m rfl 1 (by decide) q718 rfl rfl dX5_first_7 ?_
      refine lv_icmp_ge (tgt := 48) hx hb dX5_first_10 (by decide) (fun c_10 => ?_) (fun c_10 => ?_)
      · have hk : k = sN S := by rcases Nat.lt_or_ge k (sN S) with q | q; exact absurd c_10 (nI_ge q (by omega)); omega
        refine lv_iconst (v := (-1)) hx hb dX5_first_48 (by decide) ?_
        exact W.iret (v := (-1)) hx hb hr (fun t9 h9 hW9 => ⟨_, rfl, (by rw [hI, hk, Nat.sub_self]; rfl), h9⟩) (fun _ h => absurd h List.not_mem_nil) dX5_first_49
      · have hk : k < sN S := by rcases Nat.lt_or_ge k (sN S) with q | q; exact q; exact absurd (nI_le q (by omega)) c_10
        obtain ⟨e_i, e_w, e_l, e_h⟩ := hAR k hk
        obtain ⟨e_b, e_n, e_c⟩ := hOR k hk
        have hst4 := (hok.2.2.2.2.2.2.2.2.1 k hk).2.2.1
        refine lv_aload_n hx hb dX5_first_13 rfl (lv_at hl 1 rfl) ?_
        refine gg_get (ci := 5) (C := RX5) (T := TX5) (N := 12) (v := .ref ai) hx hb hts in_X5 hown hG h_st rfl 7 (by decide) q682 rfl rfl dX5_first_14 ?_
        refine lv_iload_n hx hb dX5_first_17 rfl (lv_at hl 0 rfl) ?_
        refine gg_iald hx hb hG h_ai k (show k < 40 by omega) (by decide) rfl dX5_first_18 ?_
        refine lv_if_ne (tgt := 42) hx hb dX5_first_19 (by decide) (fun c_19 => ?_) (fun c_19 => ?_)
        · refine lv_iinc (v := nI (k + 1)) (lv' := [(2, .int (nI (k + 1))), (0, .ref st), (1, .int x)]) hx hb dX5_first_42 hl (k := 0) rfl (nI_1 k) (by decide) rfl (fun ls hl => ?_)
          refine lv_goto (tgt := 2) hx hb dX5_first_45 (by decide) ?_
          exact ih (k + 1)  (by omega) (by omega) (by rw [hI]; exact srch_f hk (by simp [pK, show ¬ tSt (sTv S k) = 0 from fun e => c_19 (by rw [e_i, e]; exact nI_0)])) ls (lv_sub hl [0, 1, 2] rfl)
        · refine lv_iload_n hx hb dX5_first_22 rfl (lv_at hl 2 rfl) ?_
          refine lv_iconst (v := 2) hx hb dX5_first_23 (by decide) ?_
          refine lv_icmp_eq (tgt := 40) hx hb dX5_first_24 (by decide) (fun c_24 => ?_) (fun c_24 => ?_)
          · refine lv_iload_n hx hb dX5_first_40 rfl (lv_at hl 0 rfl) ?_
            exact W.iret (v := (nI k)) hx hb hr (fun t9 h9 hW9 => ⟨_, rfl, (by rw [hI]; exact (srch_t hk (by simp [pK, (nI_st0 hst4).mp (e_i.symm.trans c_19), c_24])).symm), h9⟩) (fun _ h => absurd h List.not_mem_nil) dX5_first_41
          · refine lv_aload_n hx hb dX5_first_27 rfl (lv_at hl 1 rfl) ?_
            refine gg_get (ci := 5) (C := RX5) (T := TX5) (N := 12) (v := .ref m0) hx hb hts in_X5 hown hG h_st rfl 11 (by decide) q690 rfl rfl dX5_first_28 ?_
            refine gg_getN (ci := 4) (C := RX4) (T := TX4) (N := 8) (v := .ref ib) hx hb hts in_X4 hown hG h_m rfl 2 (by decide) q720 rfl rfl dX5_first_31 ?_
            refine lv_iload_n hx hb dX5_first_34 rfl (lv_at hl 0 rfl) ?_
            refine gg_iald hx hb hG h_ib k (show k < 40 by omega) (by decide) rfl dX5_first_35 ?_
            refine lv_iload_n hx hb dX5_first_36 rfl (lv_at hl 2 rfl) ?_
            refine lv_icmp_ne (tgt := 42) hx hb dX5_first_37 (by decide) (fun c_37 => ?_) (fun c_37 => ?_)
            · refine lv_iinc (v := nI (k + 1)) (lv' := [(2, .int (nI (k + 1))), (0, .ref st), (1, .int x)]) hx hb dX5_first_42 hl (k := 0) rfl (nI_1 k) (by decide) rfl (fun ls hl => ?_)
              refine lv_goto (tgt := 2) hx hb dX5_first_45 (by decide) ?_
              exact ih (k + 1)  (by omega) (by omega) (by rw [hI]; exact srch_f hk (by simp [pK, c_24, show ¬ tBa (sTv S k) = x from fun e => c_37 (e_b.trans e)])) ls (lv_sub hl [0, 1, 2] rfl)
            · refine lv_iload_n hx hb dX5_first_40 rfl (lv_at hl 0 rfl) ?_
              exact W.iret (v := (nI k)) hx hb hr (fun t9 h9 hW9 => ⟨_, rfl, (by rw [hI]; exact (srch_t hk (by simp [pK, (nI_st0 hst4).mp (e_i.symm.trans c_19), e_b.symm.trans c_37])).symm), h9⟩) (fun _ h => absurd h List.not_mem_nil) dX5_first_41
  exact loop (sN S + 1) 0 (Nat.zero_le _) (by omega) rfl ls (lv_sub hl [0, 1, 2] rfl)

set_option maxHeartbeats 4000000 in
theorem met_X5_are (l : Launch) (g : GT) (T m0 st : Nat) (S : BS) (w : Nat) (hw : w < 4) (x : Int32) : Met l yX5_are (ws_ yX5_are cX5_are 5 (Option.some Jvm.ClassFile.FieldType.int)) ({ frames := 0, cells := 0, slots := 0, locals := 0 } : Room) (PcG g [.ref st, .int (nI w), .int x] (fun H => RM g T m0 st S H)) (vp_Si (fun r => r = mAre S w x)) 0 0 (fun _ => False) := by
  refine gg_met (cc := cX5_are) (maxL := 5) (ret := (Option.some Jvm.ClassFile.FieldType.int)) (by decide) (Nat.le_of_ble_eq_true rfl) ?_
  intro p e s m below meth c hx hb hr hlk hin hml hown hts hG hB ls hl
  have hown : s.vm.findClass RX5 = some m.cls := hown
  have hl : lv_has ls 5 [(0, .ref st), (1, .int (nI w)), (2, .int x)] := hl
  have hB0 := hB
  obtain ⟨th, ib, nd, ca, cd, s0, a0, fb, fn, fc, ai, aw, al, ah, fi, fw, fl, fh, h_m, h_ib, h_nd, h_ca, h_cd, h_st, h_ai, h_aw, h_al, h_ah, hOR, hAR, hok⟩ := hB
  have hn40 : sN S ≤ 40 := hok.2.2.2.2.2.2.2.1
  refine lv_iconst (v := 0) hx hb dX5_are_0 (by decide) ?_
  refine lv_istore_n (lv' := [(3, .int 0), (0, .ref st), (1, .int (nI w)), (2, .int x)]) hx hb dX5_are_1 rfl hl (by decide) rfl (fun ls hl => ?_)
  refine lv_iconst (v := 0) hx hb dX5_are_2 (by decide) ?_
  refine lv_istore (lv' := [(4, .int 0), (3, .int 0), (0, .ref st), (1, .int (nI w)), (2, .int x)]) hx hb dX5_are_3 hl (by decide) rfl (fun ls hl => ?_)
  have loop : ∀ (d k : Nat) (many : Int32) , k ≤ sN S → sN S + 1 ≤ k + d → many = cnt (pA S w x) k → ∀ ls : Array Slot, lv_has ls 5 [(4, .int (nI k)), (3, .int many), (0, .ref st), (1, .int (nI w)), (2, .int x)] → W p l e ({ frames := 0, cells := 0, slots := 0, locals := 0 } : Room) s m ([.ref st, .int (nI w), .int x] : List Value).toArray below meth c s.heap [] 0 0 (MQ below (vp_Si (fun r => r = mAre S w x)) ([.ref st, .int (nI w), .int x] : List Value).toArray s 0 0 (fun _ => False)) (F0 m 5 ls []) := by
    intro d
    induction d with
    | zero => intro k many h1 h2; exact absurd h2 (by omega)
    | succ d ih =>
      intro k many hkn hkd hI ls hl
      refine lv_iload hx hb dX5_are_5 (lv_at hl 0 rfl) ?_
      refine lv_aload_n hx hb dX5_are_7 rfl (lv_at hl 2 rfl) ?_
      refine gg_get (ci := 5) (C := RX5) (T := TX5) (N := 12) (v := .ref m0) hx hb hts in_X5 hown hG h_st rfl 11 (by decide) q690 rfl rfl dX5_are_8 ?_
      refine gg_getN (ci := 4) (C := RX4) (T := TX4) (N := 8) (v := .int (nI (sN S))) hx hb hts in_X4 hown hG h_m rfl 1 (by decide) q718 rfl rfl dX5_are_11 ?_
      refine lv_icmp_ge (tgt := 61) hx hb dX5_are_14 (by decide) (fun c_14 => ?_) (fun c_14 => ?_)
      · have hk : k = sN S := by rcases Nat.lt_or_ge k (sN S) with q | q; exact absurd c_14 (nI_ge q (by omega)); omega
        refine lv_iload_n hx hb dX5_are_61 rfl (lv_at hl 1 rfl) ?_
        exact W.iret (v := many) hx hb hr (fun t9 h9 hW9 => ⟨_, rfl, (by rw [hI, hk]; rfl), h9⟩) (fun _ h => absurd h List.not_mem_nil) dX5_are_62
      · have hk : k < sN S := by rcases Nat.lt_or_ge k (sN S) with q | q; exact q; exact absurd (nI_le q (by omega)) c_14
        obtain ⟨e_i, e_w, e_l, e_h⟩ := hAR k hk
        obtain ⟨e_b, e_n, e_c⟩ := hOR k hk
        have hst4 := (hok.2.2.2.2.2.2.2.2.1 k hk).2.2.1
        refine lv_iload_n hx hb dX5_are_17 rfl (lv_at hl 1 rfl) ?_
        refine lv_aload_n hx hb dX5_are_18 rfl (lv_at hl 2 rfl) ?_
        refine gg_get (ci := 5) (C := RX5) (T := TX5) (N := 12) (v := .ref ai) hx hb hts in_X5 hown hG h_st rfl 7 (by decide) q682 rfl rfl dX5_are_19 ?_
        refine lv_iload hx hb dX5_are_22 (lv_at hl 0 rfl) ?_
        refine gg_iald hx hb hG h_ai k (show k < 40 by omega) (by decide) rfl dX5_are_24 ?_
        refine lv_iload_n hx hb dX5_are_25 rfl (lv_at hl 3 rfl) ?_
        refine lv_icmp_ne (tgt := 52) hx hb dX5_are_26 (by decide) (fun c_26 => ?_) (fun c_26 => ?_)
        · refine lv_iconst (v := 0) hx hb dX5_are_52 (by decide) ?_
          refine lv_iadd hx hb dX5_are_53 ?_
          refine lv_istore_n (lv' := [(3, .int (many + 0)), (4, .int (nI k)), (0, .ref st), (1, .int (nI w)), (2, .int x)]) hx hb dX5_are_54 rfl hl (by decide) rfl (fun ls hl => ?_)
          refine lv_iinc (v := nI (k + 1)) (lv' := [(4, .int (nI (k + 1))), (3, .int (many + 0)), (0, .ref st), (1, .int (nI w)), (2, .int x)]) hx hb dX5_are_55 hl (k := 1) rfl (nI_1 k) (by decide) rfl (fun ls hl => ?_)
          refine lv_goto (tgt := 5) hx hb dX5_are_58 (by decide) ?_
          exact ih (k + 1) (many + 0) (by omega) (by omega) (by rw [hI]; exact (cnt_f (by simp [pA, show ¬ tSt (sTv S k) = w from fun e => c_26 (by rw [e_i, e])])).symm) ls (lv_sub hl [0, 1, 2, 3, 4] rfl)
        · refine lv_iload_n hx hb dX5_are_29 rfl (lv_at hl 4 rfl) ?_
          refine lv_iconst (v := 2) hx hb dX5_are_30 (by decide) ?_
          refine lv_icmp_eq (tgt := 48) hx hb dX5_are_31 (by decide) (fun c_31 => ?_) (fun c_31 => ?_)
          · refine lv_iconst (v := 1) hx hb dX5_are_48 (by decide) ?_
            refine lv_goto (tgt := 53) hx hb dX5_are_49 (by decide) ?_
            refine lv_iadd hx hb dX5_are_53 ?_
            refine lv_istore_n (lv' := [(3, .int (many + 1)), (4, .int (nI k)), (0, .ref st), (1, .int (nI w)), (2, .int x)]) hx hb dX5_are_54 rfl hl (by decide) rfl (fun ls hl => ?_)
            refine lv_iinc (v := nI (k + 1)) (lv' := [(4, .int (nI (k + 1))), (3, .int (many + 1)), (0, .ref st), (1, .int (nI w)), (2, .int x)]) hx hb dX5_are_55 hl (k := 1) rfl (nI_1 k) (by decide) rfl (fun ls hl => ?_)
            refine lv_goto (tgt := 5) hx hb dX5_are_58 (by decide) ?_
            exact ih (k + 1) (many + 1) (by omega) (by omega) (by rw [hI]; exact (cnt_t (by simp [pA, (nI_eq (by omega) (by omega)).mp (e_i.symm.trans c_26), c_31])).symm) ls (lv_sub hl [0, 1, 2, 3, 4] rfl)
          · refine lv_aload_n hx hb dX5_are_34 rfl (lv_at hl 2 rfl) ?_
            refine gg_get (ci := 5) (C := RX5) (T := TX5) (N := 12) (v := .ref m0) hx hb hts in_X5 hown hG h_st rfl 11 (by decide) q690 rfl rfl dX5_are_35 ?_
            refine gg_getN (ci := 4) (C := RX4) (T := TX4) (N := 8) (v := .ref ib) hx hb hts in_X4 hown hG h_m rfl 2 (by decide) q720 rfl rfl dX5_are_38 ?_
            refine lv_iload hx hb dX5_are_41 (lv_at hl 0 rfl) ?_
            refine gg_iald hx hb hG h_ib k (show k < 40 by omega) (by decide) rfl dX5_are_43 ?_
            refine lv_iload_n hx hb dX5_are_44 rfl (lv_at hl 4 rfl) ?_
            refine lv_icmp_ne (tgt := 52) hx hb dX5_are_45 (by decide) (fun c_45 => ?_) (fun c_45 => ?_)
            · refine lv_iconst (v := 0) hx hb dX5_are_52 (by decide) ?_
              refine lv_iadd hx hb dX5_are_53 ?_
              refine lv_istore_n (lv' := [(3, .int (many + 0)), (4, .int (nI k)), (0, .ref st), (1, .int (nI w)), (2, .int x)]) hx hb dX5_are_54 rfl hl (by decide) rfl (fun ls hl => ?_)
              refine lv_iinc (v := nI (k + 1)) (lv' := [(4, .int (nI (k + 1))), (3, .int (many + 0)), (0, .ref st), (1, .int (nI w)), (2, .int x)]) hx hb dX5_are_55 hl (k := 1) rfl (nI_1 k) (by decide) rfl (fun ls hl => ?_)
              refine lv_goto (tgt := 5) hx hb dX5_are_58 (by decide) ?_
              exact ih (k + 1) (many + 0) (by omega) (by omega) (by rw [hI]; exact (cnt_f (by simp [pA, c_31, show ¬ tBa (sTv S k) = x from fun e => c_45 (e_b.trans e)])).symm) ls (lv_sub hl [0, 1, 2, 3, 4] rfl)
            · refine lv_iconst (v := 1) hx hb dX5_are_48 (by decide) ?_
              refine lv_goto (tgt := 53) hx hb dX5_are_49 (by decide) ?_
              refine lv_iadd hx hb dX5_are_53 ?_
              refine lv_istore_n (lv' := [(3, .int (many + 1)), (4, .int (nI k)), (0, .ref st), (1, .int (nI w)), (2, .int x)]) hx hb dX5_are_54 rfl hl (by decide) rfl (fun ls hl => ?_)
              refine lv_iinc (v := nI (k + 1)) (lv' := [(4, .int (nI (k + 1))), (3, .int (many + 1)), (0, .ref st), (1, .int (nI w)), (2, .int x)]) hx hb dX5_are_55 hl (k := 1) rfl (nI_1 k) (by decide) rfl (fun ls hl => ?_)
              refine lv_goto (tgt := 5) hx hb dX5_are_58 (by decide) ?_
              exact ih (k + 1) (many + 1) (by omega) (by omega) (by rw [hI]; exact (cnt_t (by simp [pA, (nI_eq (by omega) (by omega)).mp (e_i.symm.trans c_26), e_b.symm.trans c_45])).symm) ls (lv_sub hl [0, 1, 2, 3, 4] rfl)
  exact loop (sN S + 1) 0 0 (Nat.zero_le _) (by omega) rfl ls (lv_sub hl [0, 1, 2, 3, 4] rfl)

set_option maxHeartbeats 4000000 in
theorem met_X5_sumWaited (l : Launch) (g : GT) (T m0 st : Nat) (S : BS)  : Met l yX5_sumWaited (ws_ yX5_sumWaited cX5_sumWaited 3 (Option.some Jvm.ClassFile.FieldType.int)) ({ frames := 0, cells := 0, slots := 0, locals := 0 } : Room) (PcG g [.ref st] (fun H => RM g T m0 st S H)) (vp_Si (fun r => r = bWaited S)) 0 0 (fun _ => False) := by
  refine gg_met (cc := cX5_sumWaited) (maxL := 3) (ret := (Option.some Jvm.ClassFile.FieldType.int)) (by decide) (Nat.le_of_ble_eq_true rfl) ?_
  intro p e s m below meth c hx hb hr hlk hin hml hown hts hG hB ls hl
  have hown : s.vm.findClass RX5 = some m.cls := hown
  have hl : lv_has ls 3 [(0, .ref st)] := hl
  have hB0 := hB
  obtain ⟨th, ib, nd, ca, cd, s0, a0, fb, fn, fc, ai, aw, al, ah, fi, fw, fl, fh, h_m, h_ib, h_nd, h_ca, h_cd, h_st, h_ai, h_aw, h_al, h_ah, hOR, hAR, hok⟩ := hB
  have hn40 : sN S ≤ 40 := hok.2.2.2.2.2.2.2.1
  refine lv_iconst (v := 0) hx hb dX5_sumWaited_0 (by decide) ?_
  refine lv_istore_n (lv' := [(1, .int 0), (0, .ref st)]) hx hb dX5_sumWaited_1 rfl hl (by decide) rfl (fun ls hl => ?_)
  refine lv_iconst (v := 0) hx hb dX5_sumWaited_2 (by decide) ?_
  refine lv_istore_n (lv' := [(2, .int 0), (1, .int 0), (0, .ref st)]) hx hb dX5_sumWaited_3 rfl hl (by decide) rfl (fun ls hl => ?_)
  have loop : ∀ (d k : Nat) (many : Int32) , k ≤ sN S → sN S + 1 ≤ k + d → many = sm (fun k => tWa (sTv S k)) k → ∀ ls : Array Slot, lv_has ls 3 [(2, .int (nI k)), (1, .int many), (0, .ref st)] → W p l e ({ frames := 0, cells := 0, slots := 0, locals := 0 } : Room) s m ([.ref st] : List Value).toArray below meth c s.heap [] 0 0 (MQ below (vp_Si (fun r => r = bWaited S)) ([.ref st] : List Value).toArray s 0 0 (fun _ => False)) (F0 m 4 ls []) := by
    intro d
    induction d with
    | zero => intro k many h1 h2; exact absurd h2 (by omega)
    | succ d ih =>
      intro k many hkn hkd hI ls hl
      refine lv_iload_n hx hb dX5_sumWaited_4 rfl (lv_at hl 0 rfl) ?_
      refine lv_aload_n hx hb dX5_sumWaited_5 rfl (lv_at hl 2 rfl) ?_
      refine gg_get (ci := 5) (C := RX5) (T := TX5) (N := 12) (v := .ref m0) hx hb hts in_X5 hown hG h_st rfl 11 (by decide) q690 rfl rfl dX5_sumWaited_6 ?_
      refine gg_getN (ci := 4) (C := RX4) (T := TX4) (N := 8) (v := .int (nI (sN S))) hx hb hts in_X4 hown hG h_m rfl 1 (by decide) q718 rfl rfl dX5_sumWaited_9 ?_
      refine lv_icmp_ge (tgt := 30) hx hb dX5_sumWaited_12 (by decide) (fun c_12 => ?_) (fun c_12 => ?_)
      · have hk : k = sN S := by rcases Nat.lt_or_ge k (sN S) with q | q; exact absurd c_12 (nI_ge q (by omega)); omega
        refine lv_iload_n hx hb dX5_sumWaited_30 rfl (lv_at hl 1 rfl) ?_
        exact W.iret (v := many) hx hb hr (fun t9 h9 hW9 => ⟨_, rfl, (by rw [hI, hk]; rfl), h9⟩) (fun _ h => absurd h List.not_mem_nil) dX5_sumWaited_31
      · have hk : k < sN S := by rcases Nat.lt_or_ge k (sN S) with q | q; exact q; exact absurd (nI_le q (by omega)) c_12
        obtain ⟨e_i, e_w, e_l, e_h⟩ := hAR k hk
        obtain ⟨e_b, e_n, e_c⟩ := hOR k hk
        have hst4 := (hok.2.2.2.2.2.2.2.2.1 k hk).2.2.1
        refine lv_iload_n hx hb dX5_sumWaited_15 rfl (lv_at hl 1 rfl) ?_
        refine lv_aload_n hx hb dX5_sumWaited_16 rfl (lv_at hl 2 rfl) ?_
        refine gg_get (ci := 5) (C := RX5) (T := TX5) (N := 12) (v := .ref aw) hx hb hts in_X5 hown hG h_st rfl 8 (by decide) q684 rfl rfl dX5_sumWaited_17 ?_
        refine lv_iload_n hx hb dX5_sumWaited_20 rfl (lv_at hl 0 rfl) ?_
        refine gg_iald hx hb hG h_aw k (show k < 40 by omega) (by decide) rfl dX5_sumWaited_21 ?_
        refine lv_iadd hx hb dX5_sumWaited_22 ?_
        refine lv_istore_n (lv' := [(1, .int (many + (fw k))), (2, .int (nI k)), (0, .ref st)]) hx hb dX5_sumWaited_23 rfl hl (by decide) rfl (fun ls hl => ?_)
        refine lv_iinc (v := nI (k + 1)) (lv' := [(2, .int (nI (k + 1))), (1, .int (many + (fw k))), (0, .ref st)]) hx hb dX5_sumWaited_24 hl (k := 1) rfl (nI_1 k) (by decide) rfl (fun ls hl => ?_)
        refine lv_goto (tgt := 4) hx hb dX5_sumWaited_27 (by decide) ?_
        exact ih (k + 1) (many + (fw k)) (by omega) (by omega) (by rw [hI, e_w]; rfl) ls (lv_sub hl [0, 1, 2] rfl)
  exact loop (sN S + 1) 0 0 (Nat.zero_le _) (by omega) rfl ls (lv_sub hl [0, 1, 2] rfl)

theorem code_1 {S : BS} (h : sCo S = 1) : bCode S = bKind S 1 := by simp [bCode, h]
theorem code_2 {S : BS} (h : sCo S = 2) : bCode S = bKind S 0 := by simp [bCode, h]
theorem code_30 {S : BS} (h : sCo S = 3) (hl : ¬ sLa S = 0) : bCode S = bKind S 0 := by simp [bCode, h, bNot, hl]
theorem code_31 {S : BS} (h : sCo S = 3) (hl : sLa S = 0) : bCode S = bKind S 1 := by simp [bCode, h, bNot, hl]
theorem code2 {n : Nat} (h5 : n < 5) (h4 : ¬ nI n = 4) (h0 : ¬ nI n = 0) (h1 : ¬ nI n = 1) (h3 : ¬ nI n = 3) : n = 2 := by
  have : n ≠ 4 := fun e => h4 (by rw [e]; rfl)
  have : n ≠ 0 := fun e => h0 (by rw [e]; rfl)
  have : n ≠ 1 := fun e => h1 (by rw [e]; rfl)
  have : n ≠ 3 := fun e => h3 (by rw [e]; rfl)
  omega

set_option maxHeartbeats 4000000 in
theorem met_X5_next (l : Launch) (g : GT) (T m0 st : Nat) (S : BS) : Met l yX5_next (ws_ yX5_next cX5_next 2 (Option.some Jvm.ClassFile.FieldType.int)) ({ frames := 1, cells := 0, slots := 0, locals := 22 } : Room) (PcG g [.ref st] (fun H => RM g T m0 st S H)) (vp_Si (fun r => r = bNext S)) 0 0 (fun _ => False) := by
  refine gg_met (cc := cX5_next) (maxL := 2) (ret := (Option.some Jvm.ClassFile.FieldType.int)) (by decide) (Nat.le_of_ble_eq_true rfl) ?_
  intro p e s m below meth c hx hb hr hlk hin hml hown hts hG hB ls hl
  have hown : s.vm.findClass RX5 = some m.cls := hown
  have hl : lv_has ls 2 [(0, .ref st)] := hl
  have hB0 := hB
  obtain ⟨th, ib, nd, ca, cd, s0, a0, fb, fn, fc, ai, aw, al, ah, fi, fw, fl, fh, h_m, h_ib, h_nd, h_ca, h_cd, h_st, h_ai, h_aw, h_al, h_ah, hOR, hAR, hok⟩ := hB
  have hn40 : sN S ≤ 40 := hok.2.2.2.2.2.2.2.1
  have hc5 : sCo S < 5 := hok.2.2.2.2.1
  refine lv_aload_n hx hb dX5_next_0 rfl (lv_at hl 0 rfl) ?_
  refine gg_get (ci := 5) (C := RX5) (T := TX5) (N := 12) (v := .int (bPassing S)) hx hb hts in_X5 hown hG h_st rfl 5 (by decide) q680 rfl rfl dX5_next_1 ?_
  refine lv_iconst (v := (-1)) hx hb dX5_next_4 (by decide) ?_
  refine lv_icmp_ne (tgt := 16) hx hb dX5_next_5 (by decide) (fun c_5 => ?_) (fun c_5 => ?_)
  · refine lv_iconst (v := (-1)) hx hb dX5_next_16 (by decide) ?_
    exact W.iret (v := (-1)) hx hb hr (fun t9 h9 hW9 => ⟨_, rfl, (by rw [bNext, if_neg c_5]), h9⟩) (fun _ h => absurd h List.not_mem_nil) dX5_next_17
  · refine lv_aload_n hx hb dX5_next_8 rfl (lv_at hl 0 rfl) ?_
    refine gg_get (ci := 5) (C := RX5) (T := TX5) (N := 12) (v := .int (nI (sCo S))) hx hb hts in_X5 hown hG h_st rfl 4 (by decide) q678 rfl rfl dX5_next_9 ?_
    refine lv_iconst (v := 4) hx hb dX5_next_12 (by decide) ?_
    refine lv_icmp_ne (tgt := 18) hx hb dX5_next_13 (by decide) (fun c_13 => ?_) (fun c_13 => ?_)
    · refine lv_aload_n hx hb dX5_next_18 rfl (lv_at hl 0 rfl) ?_
      refine gg_get (ci := 5) (C := RX5) (T := TX5) (N := 12) (v := .int (nI (sCo S))) hx hb hts in_X5 hown hG h_st rfl 4 (by decide) q678 rfl rfl dX5_next_19 ?_
      refine lv_if_ne (tgt := 31) hx hb dX5_next_22 (by decide) (fun c_22 => ?_) (fun c_22 => ?_)
      · refine lv_aload_n hx hb dX5_next_31 rfl (lv_at hl 0 rfl) ?_
        refine gg_get (ci := 5) (C := RX5) (T := TX5) (N := 12) (v := .int (nI (sCo S))) hx hb hts in_X5 hown hG h_st rfl 4 (by decide) q678 rfl rfl dX5_next_32 ?_
        refine lv_iconst (v := 1) hx hb dX5_next_35 (by decide) ?_
        refine lv_icmp_eq (tgt := 54) hx hb dX5_next_36 (by decide) (fun c_36 => ?_) (fun c_36 => ?_)
        · refine lv_iconst (v := 1) hx hb dX5_next_54 (by decide) ?_
          refine lv_goto (tgt := 59) hx hb dX5_next_55 (by decide) ?_
          refine lv_istore_n (lv' := [(1, .int 1), (0, .ref st)]) hx hb dX5_next_59 rfl hl (by decide) rfl (fun ls hl => ?_)
          refine lv_aload_n hx hb dX5_next_60 rfl (lv_at hl 1 rfl) ?_
          refine lv_iload_n hx hb dX5_next_61 rfl (lv_at hl 0 rfl) ?_
          refine vp_callSi (va_Run.run (va_runV (As := [.int 1]) (rest := []) ⟨hx, hb, hml, hown, hts⟩ (met_X5_first l g T m0 st S 1) (cwV 1 hts (lw_V q813 q815 qs9 q22 q816) rfl rfl rfl (by decide +kernel) ⟨Nat.le_of_ble_eq_true rfl, Nat.le_of_ble_eq_true rfl⟩) (gg_preV hG (Kp.rf hG) (gg_recv hG h_st rfl) hB0) rfl rfl hl.1 rfl (lv_room (Nat.le_of_ble_eq_true rfl)) dX5_next_62 ⟨Nat.le_of_ble_eq_true rfl, Nat.le_of_ble_eq_true rfl⟩)) (fun r_1 hr_1 => ?_)
          refine lv_iconst (v := (-1)) hx hb dX5_next_65 (by decide) ?_
          refine lv_icmp_ne (tgt := 79) hx hb dX5_next_66 (by decide) (fun c_66 => ?_) (fun c_66 => ?_)
          · refine lv_aload_n hx hb dX5_next_79 rfl (lv_at hl 1 rfl) ?_
            refine lv_iload_n hx hb dX5_next_80 rfl (lv_at hl 0 rfl) ?_
            refine vp_callSi (va_Run.run (va_runV (As := [.int 1]) (rest := []) ⟨hx, hb, hml, hown, hts⟩ (met_X5_first l g T m0 st S 1) (cwV 1 hts (lw_V q813 q815 qs9 q22 q816) rfl rfl rfl (by decide +kernel) ⟨Nat.le_of_ble_eq_true rfl, Nat.le_of_ble_eq_true rfl⟩) (gg_preV hG (Kp.rf hG) (gg_recv hG h_st rfl) hB0) rfl rfl hl.1 rfl (lv_room (Nat.le_of_ble_eq_true rfl)) dX5_next_81 ⟨Nat.le_of_ble_eq_true rfl, Nat.le_of_ble_eq_true rfl⟩)) (fun r_2 hr_2 => ?_)
            exact W.iret (v := r_2) hx hb hr (fun t9 h9 hW9 => ⟨_, rfl, (by rw [bNext, if_pos c_5, (code_1 (show sCo S = 1 from (nI_eq (by omega) (by decide)).mp c_36)), bKind, if_neg (show ¬ bFirst S 1 = -1 by rw [← mFirst_k (S := S) (b := 1) (by decide), ← hr_1]; exact c_66), hr_2, mFirst_k (by decide)]), h9⟩) (fun _ h => absurd h List.not_mem_nil) dX5_next_84
          · refine lv_aload_n hx hb dX5_next_69 rfl (lv_at hl 1 rfl) ?_
            refine lv_iconst (v := 1) hx hb dX5_next_70 (by decide) ?_
            refine lv_iload_n hx hb dX5_next_71 rfl (lv_at hl 0 rfl) ?_
            refine lv_isub hx hb dX5_next_72 ?_
            refine vp_callSi (va_Run.run (va_runV (As := [.int (1 - 1)]) (rest := []) ⟨hx, hb, hml, hown, hts⟩ (met_X5_first l g T m0 st S (1 - 1)) (cwV 1 hts (lw_V q813 q815 qs9 q22 q816) rfl rfl rfl (by decide +kernel) ⟨Nat.le_of_ble_eq_true rfl, Nat.le_of_ble_eq_true rfl⟩) (gg_preV hG (Kp.rf hG) (gg_recv hG h_st rfl) hB0) rfl rfl hl.1 rfl (lv_room (Nat.le_of_ble_eq_true rfl)) dX5_next_73 ⟨Nat.le_of_ble_eq_true rfl, Nat.le_of_ble_eq_true rfl⟩)) (fun r_2 hr_2 => ?_)
            refine lv_goto (tgt := 84) hx hb dX5_next_76 (by decide) ?_
            exact W.iret (v := r_2) hx hb hr (fun t9 h9 hW9 => ⟨_, rfl, (by rw [bNext, if_pos c_5, (code_1 (show sCo S = 1 from (nI_eq (by omega) (by decide)).mp c_36)), bKind, if_pos (show bFirst S 1 = -1 by rw [← mFirst_k (S := S) (b := 1) (by decide), ← hr_1]; exact c_66), hr_2, mFirst_k (by decide)]; rfl), h9⟩) (fun _ h => absurd h List.not_mem_nil) dX5_next_84
        · refine lv_aload_n hx hb dX5_next_39 rfl (lv_at hl 0 rfl) ?_
          refine gg_get (ci := 5) (C := RX5) (T := TX5) (N := 12) (v := .int (nI (sCo S))) hx hb hts in_X5 hown hG h_st rfl 4 (by decide) q678 rfl rfl dX5_next_40 ?_
          refine lv_iconst (v := 3) hx hb dX5_next_43 (by decide) ?_
          refine lv_icmp_ne (tgt := 58) hx hb dX5_next_44 (by decide) (fun c_44 => ?_) (fun c_44 => ?_)
          · refine lv_iconst (v := 0) hx hb dX5_next_58 (by decide) ?_
            refine lv_istore_n (lv' := [(1, .int 0), (0, .ref st)]) hx hb dX5_next_59 rfl hl (by decide) rfl (fun ls hl => ?_)
            refine lv_aload_n hx hb dX5_next_60 rfl (lv_at hl 1 rfl) ?_
            refine lv_iload_n hx hb dX5_next_61 rfl (lv_at hl 0 rfl) ?_
            refine vp_callSi (va_Run.run (va_runV (As := [.int 0]) (rest := []) ⟨hx, hb, hml, hown, hts⟩ (met_X5_first l g T m0 st S 0) (cwV 1 hts (lw_V q813 q815 qs9 q22 q816) rfl rfl rfl (by decide +kernel) ⟨Nat.le_of_ble_eq_true rfl, Nat.le_of_ble_eq_true rfl⟩) (gg_preV hG (Kp.rf hG) (gg_recv hG h_st rfl) hB0) rfl rfl hl.1 rfl (lv_room (Nat.le_of_ble_eq_true rfl)) dX5_next_62 ⟨Nat.le_of_ble_eq_true rfl, Nat.le_of_ble_eq_true rfl⟩)) (fun r_1 hr_1 => ?_)
            refine lv_iconst (v := (-1)) hx hb dX5_next_65 (by decide) ?_
            refine lv_icmp_ne (tgt := 79) hx hb dX5_next_66 (by decide) (fun c_66 => ?_) (fun c_66 => ?_)
            · refine lv_aload_n hx hb dX5_next_79 rfl (lv_at hl 1 rfl) ?_
              refine lv_iload_n hx hb dX5_next_80 rfl (lv_at hl 0 rfl) ?_
              refine vp_callSi (va_Run.run (va_runV (As := [.int 0]) (rest := []) ⟨hx, hb, hml, hown, hts⟩ (met_X5_first l g T m0 st S 0) (cwV 1 hts (lw_V q813 q815 qs9 q22 q816) rfl rfl rfl (by decide +kernel) ⟨Nat.le_of_ble_eq_true rfl, Nat.le_of_ble_eq_true rfl⟩) (gg_preV hG (Kp.rf hG) (gg_recv hG h_st rfl) hB0) rfl rfl hl.1 rfl (lv_room (Nat.le_of_ble_eq_true rfl)) dX5_next_81 ⟨Nat.le_of_ble_eq_true rfl, Nat.le_of_ble_eq_true rfl⟩)) (fun r_2 hr_2 => ?_)
              exact W.iret (v := r_2) hx hb hr (fun t9 h9 hW9 => ⟨_, rfl, (by rw [bNext, if_pos c_5, (code_2 (code2 hok.2.2.2.2.1 c_13 c_22 c_36 c_44)), bKind, if_neg (show ¬ bFirst S 0 = -1 by rw [← mFirst_k (S := S) (b := 0) (by decide), ← hr_1]; exact c_66), hr_2, mFirst_k (by decide)]), h9⟩) (fun _ h => absurd h List.not_mem_nil) dX5_next_84
            · refine lv_aload_n hx hb dX5_next_69 rfl (lv_at hl 1 rfl) ?_
              refine lv_iconst (v := 1) hx hb dX5_next_70 (by decide) ?_
              refine lv_iload_n hx hb dX5_next_71 rfl (lv_at hl 0 rfl) ?_
              refine lv_isub hx hb dX5_next_72 ?_
              refine vp_callSi (va_Run.run (va_runV (As := [.int (1 - 0)]) (rest := []) ⟨hx, hb, hml, hown, hts⟩ (met_X5_first l g T m0 st S (1 - 0)) (cwV 1 hts (lw_V q813 q815 qs9 q22 q816) rfl rfl rfl (by decide +kernel) ⟨Nat.le_of_ble_eq_true rfl, Nat.le_of_ble_eq_true rfl⟩) (gg_preV hG (Kp.rf hG) (gg_recv hG h_st rfl) hB0) rfl rfl hl.1 rfl (lv_room (Nat.le_of_ble_eq_true rfl)) dX5_next_73 ⟨Nat.le_of_ble_eq_true rfl, Nat.le_of_ble_eq_true rfl⟩)) (fun r_2 hr_2 => ?_)
              refine lv_goto (tgt := 84) hx hb dX5_next_76 (by decide) ?_
              exact W.iret (v := r_2) hx hb hr (fun t9 h9 hW9 => ⟨_, rfl, (by rw [bNext, if_pos c_5, (code_2 (code2 hok.2.2.2.2.1 c_13 c_22 c_36 c_44)), bKind, if_pos (show bFirst S 0 = -1 by rw [← mFirst_k (S := S) (b := 0) (by decide), ← hr_1]; exact c_66), hr_2, mFirst_k (by decide)]; rfl), h9⟩) (fun _ h => absurd h List.not_mem_nil) dX5_next_84
          · refine lv_aload_n hx hb dX5_next_47 rfl (lv_at hl 0 rfl) ?_
            refine gg_get (ci := 5) (C := RX5) (T := TX5) (N := 12) (v := .int (sLa S)) hx hb hts in_X5 hown hG h_st rfl 6 (by decide) q681 rfl rfl dX5_next_48 ?_
            refine lv_if_ne (tgt := 58) hx hb dX5_next_51 (by decide) (fun c_51 => ?_) (fun c_51 => ?_)
            · refine lv_iconst (v := 0) hx hb dX5_next_58 (by decide) ?_
              refine lv_istore_n (lv' := [(1, .int 0), (0, .ref st)]) hx hb dX5_next_59 rfl hl (by decide) rfl (fun ls hl => ?_)
              refine lv_aload_n hx hb dX5_next_60 rfl (lv_at hl 1 rfl) ?_
              refine lv_iload_n hx hb dX5_next_61 rfl (lv_at hl 0 rfl) ?_
              refine vp_callSi (va_Run.run (va_runV (As := [.int 0]) (rest := []) ⟨hx, hb, hml, hown, hts⟩ (met_X5_first l g T m0 st S 0) (cwV 1 hts (lw_V q813 q815 qs9 q22 q816) rfl rfl rfl (by decide +kernel) ⟨Nat.le_of_ble_eq_true rfl, Nat.le_of_ble_eq_true rfl⟩) (gg_preV hG (Kp.rf hG) (gg_recv hG h_st rfl) hB0) rfl rfl hl.1 rfl (lv_room (Nat.le_of_ble_eq_true rfl)) dX5_next_62 ⟨Nat.le_of_ble_eq_true rfl, Nat.le_of_ble_eq_true rfl⟩)) (fun r_1 hr_1 => ?_)
              refine lv_iconst (v := (-1)) hx hb dX5_next_65 (by decide) ?_
              refine lv_icmp_ne (tgt := 79) hx hb dX5_next_66 (by decide) (fun c_66 => ?_) (fun c_66 => ?_)
              · refine lv_aload_n hx hb dX5_next_79 rfl (lv_at hl 1 rfl) ?_
                refine lv_iload_n hx hb dX5_next_80 rfl (lv_at hl 0 rfl) ?_
                refine vp_callSi (va_Run.run (va_runV (As := [.int 0]) (rest := []) ⟨hx, hb, hml, hown, hts⟩ (met_X5_first l g T m0 st S 0) (cwV 1 hts (lw_V q813 q815 qs9 q22 q816) rfl rfl rfl (by decide +kernel) ⟨Nat.le_of_ble_eq_true rfl, Nat.le_of_ble_eq_true rfl⟩) (gg_preV hG (Kp.rf hG) (gg_recv hG h_st rfl) hB0) rfl rfl hl.1 rfl (lv_room (Nat.le_of_ble_eq_true rfl)) dX5_next_81 ⟨Nat.le_of_ble_eq_true rfl, Nat.le_of_ble_eq_true rfl⟩)) (fun r_2 hr_2 => ?_)
                exact W.iret (v := r_2) hx hb hr (fun t9 h9 hW9 => ⟨_, rfl, (by rw [bNext, if_pos c_5, (code_30 (show sCo S = 3 from (nI_eq (by omega) (by decide)).mp c_44) c_51), bKind, if_neg (show ¬ bFirst S 0 = -1 by rw [← mFirst_k (S := S) (b := 0) (by decide), ← hr_1]; exact c_66), hr_2, mFirst_k (by decide)]), h9⟩) (fun _ h => absurd h List.not_mem_nil) dX5_next_84
              · refine lv_aload_n hx hb dX5_next_69 rfl (lv_at hl 1 rfl) ?_
                refine lv_iconst (v := 1) hx hb dX5_next_70 (by decide) ?_
                refine lv_iload_n hx hb dX5_next_71 rfl (lv_at hl 0 rfl) ?_
                refine lv_isub hx hb dX5_next_72 ?_
                refine vp_callSi (va_Run.run (va_runV (As := [.int (1 - 0)]) (rest := []) ⟨hx, hb, hml, hown, hts⟩ (met_X5_first l g T m0 st S (1 - 0)) (cwV 1 hts (lw_V q813 q815 qs9 q22 q816) rfl rfl rfl (by decide +kernel) ⟨Nat.le_of_ble_eq_true rfl, Nat.le_of_ble_eq_true rfl⟩) (gg_preV hG (Kp.rf hG) (gg_recv hG h_st rfl) hB0) rfl rfl hl.1 rfl (lv_room (Nat.le_of_ble_eq_true rfl)) dX5_next_73 ⟨Nat.le_of_ble_eq_true rfl, Nat.le_of_ble_eq_true rfl⟩)) (fun r_2 hr_2 => ?_)
                refine lv_goto (tgt := 84) hx hb dX5_next_76 (by decide) ?_
                exact W.iret (v := r_2) hx hb hr (fun t9 h9 hW9 => ⟨_, rfl, (by rw [bNext, if_pos c_5, (code_30 (show sCo S = 3 from (nI_eq (by omega) (by decide)).mp c_44) c_51), bKind, if_pos (show bFirst S 0 = -1 by rw [← mFirst_k (S := S) (b := 0) (by decide), ← hr_1]; exact c_66), hr_2, mFirst_k (by decide)]; rfl), h9⟩) (fun _ h => absurd h List.not_mem_nil) dX5_next_84
            · refine lv_iconst (v := 1) hx hb dX5_next_54 (by decide) ?_
              refine lv_goto (tgt := 59) hx hb dX5_next_55 (by decide) ?_
              refine lv_istore_n (lv' := [(1, .int 1), (0, .ref st)]) hx hb dX5_next_59 rfl hl (by decide) rfl (fun ls hl => ?_)
              refine lv_aload_n hx hb dX5_next_60 rfl (lv_at hl 1 rfl) ?_
              refine lv_iload_n hx hb dX5_next_61 rfl (lv_at hl 0 rfl) ?_
              refine vp_callSi (va_Run.run (va_runV (As := [.int 1]) (rest := []) ⟨hx, hb, hml, hown, hts⟩ (met_X5_first l g T m0 st S 1) (cwV 1 hts (lw_V q813 q815 qs9 q22 q816) rfl rfl rfl (by decide +kernel) ⟨Nat.le_of_ble_eq_true rfl, Nat.le_of_ble_eq_true rfl⟩) (gg_preV hG (Kp.rf hG) (gg_recv hG h_st rfl) hB0) rfl rfl hl.1 rfl (lv_room (Nat.le_of_ble_eq_true rfl)) dX5_next_62 ⟨Nat.le_of_ble_eq_true rfl, Nat.le_of_ble_eq_true rfl⟩)) (fun r_1 hr_1 => ?_)
              refine lv_iconst (v := (-1)) hx hb dX5_next_65 (by decide) ?_
              refine lv_icmp_ne (tgt := 79) hx hb dX5_next_66 (by decide) (fun c_66 => ?_) (fun c_66 => ?_)
              · refine lv_aload_n hx hb dX5_next_79 rfl (lv_at hl 1 rfl) ?_
                refine lv_iload_n hx hb dX5_next_80 rfl (lv_at hl 0 rfl) ?_
                refine vp_callSi (va_Run.run (va_runV (As := [.int 1]) (rest := []) ⟨hx, hb, hml, hown, hts⟩ (met_X5_first l g T m0 st S 1) (cwV 1 hts (lw_V q813 q815 qs9 q22 q816) rfl rfl rfl (by decide +kernel) ⟨Nat.le_of_ble_eq_true rfl, Nat.le_of_ble_eq_true rfl⟩) (gg_preV hG (Kp.rf hG) (gg_recv hG h_st rfl) hB0) rfl rfl hl.1 rfl (lv_room (Nat.le_of_ble_eq_true rfl)) dX5_next_81 ⟨Nat.le_of_ble_eq_true rfl, Nat.le_of_ble_eq_true rfl⟩)) (fun r_2 hr_2 => ?_)
                exact W.iret (v := r_2) hx hb hr (fun t9 h9 hW9 => ⟨_, rfl, (by rw [bNext, if_pos c_5, (code_31 (show sCo S = 3 from (nI_eq (by omega) (by decide)).mp c_44) c_51), bKind, if_neg (show ¬ bFirst S 1 = -1 by rw [← mFirst_k (S := S) (b := 1) (by decide), ← hr_1]; exact c_66), hr_2, mFirst_k (by decide)]), h9⟩) (fun _ h => absurd h List.not_mem_nil) dX5_next_84
              · refine lv_aload_n hx hb dX5_next_69 rfl (lv_at hl 1 rfl) ?_
                refine lv_iconst (v := 1) hx hb dX5_next_70 (by decide) ?_
                refine lv_iload_n hx hb dX5_next_71 rfl (lv_at hl 0 rfl) ?_
                refine lv_isub hx hb dX5_next_72 ?_
                refine vp_callSi (va_Run.run (va_runV (As := [.int (1 - 1)]) (rest := []) ⟨hx, hb, hml, hown, hts⟩ (met_X5_first l g T m0 st S (1 - 1)) (cwV 1 hts (lw_V q813 q815 qs9 q22 q816) rfl rfl rfl (by decide +kernel) ⟨Nat.le_of_ble_eq_true rfl, Nat.le_of_ble_eq_true rfl⟩) (gg_preV hG (Kp.rf hG) (gg_recv hG h_st rfl) hB0) rfl rfl hl.1 rfl (lv_room (Nat.le_of_ble_eq_true rfl)) dX5_next_73 ⟨Nat.le_of_ble_eq_true rfl, Nat.le_of_ble_eq_true rfl⟩)) (fun r_2 hr_2 => ?_)
                refine lv_goto (tgt := 84) hx hb dX5_next_76 (by decide) ?_
                exact W.iret (v := r_2) hx hb hr (fun t9 h9 hW9 => ⟨_, rfl, (by rw [bNext, if_pos c_5, (code_31 (show sCo S = 3 from (nI_eq (by omega) (by decide)).mp c_44) c_51), bKind, if_pos (show bFirst S 1 = -1 by rw [← mFirst_k (S := S) (b := 1) (by decide), ← hr_1]; exact c_66), hr_2, mFirst_k (by decide)]; rfl), h9⟩) (fun _ h => absurd h List.not_mem_nil) dX5_next_84
      · refine lv_aload_n hx hb dX5_next_25 rfl (lv_at hl 0 rfl) ?_
        refine lv_iconst (v := 2) hx hb dX5_next_26 (by decide) ?_
        refine vp_callSi (va_Run.run (va_runV (As := [.int 2]) (rest := []) ⟨hx, hb, hml, hown, hts⟩ (met_X5_first l g T m0 st S 2) (cwV 1 hts (lw_V q813 q815 qs9 q22 q816) rfl rfl rfl (by decide +kernel) ⟨Nat.le_of_ble_eq_true rfl, Nat.le_of_ble_eq_true rfl⟩) (gg_preV hG (Kp.rf hG) (gg_recv hG h_st rfl) hB0) rfl rfl hl.1 rfl (lv_room (Nat.le_of_ble_eq_true rfl)) dX5_next_27 ⟨Nat.le_of_ble_eq_true rfl, Nat.le_of_ble_eq_true rfl⟩)) (fun r_1 hr_1 => ?_)
        exact W.iret (v := r_1) hx hb hr (fun t9 h9 hW9 => ⟨_, rfl, (by rw [bNext, if_pos c_5, hr_1, mFirst_2 hok]; simp [bCode, (show sCo S = 0 from (nI_eq (by omega) (by decide)).mp c_22)]), h9⟩) (fun _ h => absurd h List.not_mem_nil) dX5_next_30
    · refine lv_iconst (v := (-1)) hx hb dX5_next_16 (by decide) ?_
      exact W.iret (v := (-1)) hx hb hr (fun t9 h9 hW9 => ⟨_, rfl, (by rw [bNext, if_pos c_5]; simp [bCode, (show sCo S = 4 from (nI_eq (by omega) (by decide)).mp c_13)]), h9⟩) (fun _ h => absurd h List.not_mem_nil) dX5_next_17

set_option maxHeartbeats 4000000 in
theorem met_X5_counted (l : Launch) (g : GT) (T m0 st : Nat) (S : BS) (w : Nat) (hw : w < 12) : Met l yX5_counted (ws_ yX5_counted cX5_counted 2 (Option.some Jvm.ClassFile.FieldType.int)) ({ frames := 2, cells := 0, slots := 0, locals := 43 } : Room) (PcG g [.ref st, .int (nI w)] (fun H => RM g T m0 st S H)) (vp_Si (fun r => r = bCnt S w)) 0 0 (fun _ => False) := by
  refine gg_met (cc := cX5_counted) (maxL := 2) (ret := (Option.some Jvm.ClassFile.FieldType.int)) (by decide) (Nat.le_of_ble_eq_true rfl) ?_
  intro p e s m below meth c hx hb hr hlk hin hml hown hts hG hB ls hl
  have hown : s.vm.findClass RX5 = some m.cls := hown
  have hl : lv_has ls 2 [(0, .ref st), (1, .int (nI w))] := hl
  have hB0 := hB
  obtain ⟨th, ib, nd, ca, cd, s0, a0, fb, fn, fc, ai, aw, al, ah, fi, fw, fl, fh, h_m, h_ib, h_nd, h_ca, h_cd, h_st, h_ai, h_aw, h_al, h_ah, hOR, hAR, hok⟩ := hB
  have hn40 : sN S ≤ 40 := hok.2.2.2.2.2.2.2.1
  rcases (show w = 0 ∨ w = 1 ∨ w = 2 ∨ w = 3 ∨ w = 4 ∨ w = 5 ∨ w = 6 ∨ w = 7 ∨ w = 8 ∨ w = 9 ∨ w = 10 ∨ w = 11 by omega) with rfl | rfl | rfl | rfl | rfl | rfl | rfl | rfl | rfl | rfl | rfl | rfl
  all_goals refine lv_iload_n hx hb dX5_counted_0 rfl (lv_at hl 1 rfl) ?_
  · refine lv_tableIn (tgt := 60) hx hb dX5_counted_1 (by decide) (by decide) rfl (by decide) ?_
    refine lv_aload_n hx hb dX5_counted_60 rfl (lv_at hl 0 rfl) ?_
    refine gg_get (ci := 5) (C := RX5) (T := TX5) (N := 12) (v := .int (sMi S)) hx hb hts in_X5 hown hG h_st rfl 0 (by decide) q670 rfl rfl dX5_counted_61 ?_
    exact W.iret (v := (sMi S)) hx hb hr (fun t9 h9 hW9 => ⟨_, rfl, rfl, h9⟩) (fun _ h => absurd h List.not_mem_nil) dX5_counted_64
  · refine lv_tableIn (tgt := 65) hx hb dX5_counted_1 (by decide) (by decide) rfl (by decide) ?_
    refine lv_aload_n hx hb dX5_counted_65 rfl (lv_at hl 0 rfl) ?_
    refine gg_get (ci := 5) (C := RX5) (T := TX5) (N := 12) (v := .int (sAn S)) hx hb hts in_X5 hown hG h_st rfl 1 (by decide) q672 rfl rfl dX5_counted_66 ?_
    exact W.iret (v := (sAn S)) hx hb hr (fun t9 h9 hW9 => ⟨_, rfl, rfl, h9⟩) (fun _ h => absurd h List.not_mem_nil) dX5_counted_69
  · refine lv_tableIn (tgt := 70) hx hb dX5_counted_1 (by decide) (by decide) rfl (by decide) ?_
    refine lv_aload_n hx hb dX5_counted_70 rfl (lv_at hl 0 rfl) ?_
    refine gg_get (ci := 5) (C := RX5) (T := TX5) (N := 12) (v := .int (sPo S)) hx hb hts in_X5 hown hG h_st rfl 2 (by decide) q674 rfl rfl dX5_counted_71 ?_
    exact W.iret (v := (sPo S)) hx hb hr (fun t9 h9 hW9 => ⟨_, rfl, rfl, h9⟩) (fun _ h => absurd h List.not_mem_nil) dX5_counted_74
  · refine lv_tableIn (tgt := 75) hx hb dX5_counted_1 (by decide) (by decide) rfl (by decide) ?_
    refine lv_aload_n hx hb dX5_counted_75 rfl (lv_at hl 0 rfl) ?_
    refine gg_get (ci := 5) (C := RX5) (T := TX5) (N := 12) (v := .int (sIc S)) hx hb hts in_X5 hown hG h_st rfl 3 (by decide) q676 rfl rfl dX5_counted_76 ?_
    exact W.iret (v := (sIc S)) hx hb hr (fun t9 h9 hW9 => ⟨_, rfl, rfl, h9⟩) (fun _ h => absurd h List.not_mem_nil) dX5_counted_79
  · refine lv_tableIn (tgt := 80) hx hb dX5_counted_1 (by decide) (by decide) rfl (by decide) ?_
    refine lv_aload_n hx hb dX5_counted_80 rfl (lv_at hl 0 rfl) ?_
    refine gg_get (ci := 5) (C := RX5) (T := TX5) (N := 12) (v := .int (nI (sCo S))) hx hb hts in_X5 hown hG h_st rfl 4 (by decide) q678 rfl rfl dX5_counted_81 ?_
    exact W.iret (v := (nI (sCo S))) hx hb hr (fun t9 h9 hW9 => ⟨_, rfl, rfl, h9⟩) (fun _ h => absurd h List.not_mem_nil) dX5_counted_84
  · refine lv_tableIn (tgt := 85) hx hb dX5_counted_1 (by decide) (by decide) rfl (by decide) ?_
    refine lv_aload_n hx hb dX5_counted_85 rfl (lv_at hl 0 rfl) ?_
    refine gg_get (ci := 5) (C := RX5) (T := TX5) (N := 12) (v := .ref m0) hx hb hts in_X5 hown hG h_st rfl 11 (by decide) q690 rfl rfl dX5_counted_86 ?_
    refine gg_getN (ci := 4) (C := RX4) (T := TX4) (N := 8) (v := .int (nI (sN S))) hx hb hts in_X4 hown hG h_m rfl 1 (by decide) q718 rfl rfl dX5_counted_89 ?_
    exact W.iret (v := (nI (sN S))) hx hb hr (fun t9 h9 hW9 => ⟨_, rfl, rfl, h9⟩) (fun _ h => absurd h List.not_mem_nil) dX5_counted_92
  · refine lv_tableIn (tgt := 93) hx hb dX5_counted_1 (by decide) (by decide) rfl (by decide) ?_
    refine lv_aload_n hx hb dX5_counted_93 rfl (lv_at hl 0 rfl) ?_
    refine lv_iconst (v := 0) hx hb dX5_counted_94 (by decide) ?_
    refine lv_iconst (v := 1) hx hb dX5_counted_95 (by decide) ?_
    refine vp_callSi (va_Run.run (va_runV (As := [.int 0, .int 1]) (rest := []) ⟨hx, hb, hml, hown, hts⟩ (met_X5_are l g T m0 st S 0 (by decide) 1) (cwV 2 hts (lw_V q801 q802 q803 q22 q804) rfl rfl rfl (by decide +kernel) ⟨Nat.le_of_ble_eq_true rfl, Nat.le_of_ble_eq_true rfl⟩) (gg_preV hG (Kp.rf hG) (gg_recv hG h_st rfl) hB0) rfl rfl hl.1 rfl (lv_room (Nat.le_of_ble_eq_true rfl)) dX5_counted_96 ⟨Nat.le_of_ble_eq_true rfl, Nat.le_of_ble_eq_true rfl⟩)) (fun r_1 hr_1 => ?_)
    exact W.iret (v := r_1) hx hb hr (fun t9 h9 hW9 => ⟨_, rfl, (hr_1.trans (mAre_k (by decide))), h9⟩) (fun _ h => absurd h List.not_mem_nil) dX5_counted_99
  · refine lv_tableIn (tgt := 100) hx hb dX5_counted_1 (by decide) (by decide) rfl (by decide) ?_
    refine lv_aload_n hx hb dX5_counted_100 rfl (lv_at hl 0 rfl) ?_
    refine lv_iconst (v := 0) hx hb dX5_counted_101 (by decide) ?_
    refine lv_iconst (v := 0) hx hb dX5_counted_102 (by decide) ?_
    refine vp_callSi (va_Run.run (va_runV (As := [.int 0, .int 0]) (rest := []) ⟨hx, hb, hml, hown, hts⟩ (met_X5_are l g T m0 st S 0 (by decide) 0) (cwV 2 hts (lw_V q801 q802 q803 q22 q804) rfl rfl rfl (by decide +kernel) ⟨Nat.le_of_ble_eq_true rfl, Nat.le_of_ble_eq_true rfl⟩) (gg_preV hG (Kp.rf hG) (gg_recv hG h_st rfl) hB0) rfl rfl hl.1 rfl (lv_room (Nat.le_of_ble_eq_true rfl)) dX5_counted_103 ⟨Nat.le_of_ble_eq_true rfl, Nat.le_of_ble_eq_true rfl⟩)) (fun r_1 hr_1 => ?_)
    exact W.iret (v := r_1) hx hb hr (fun t9 h9 hW9 => ⟨_, rfl, (hr_1.trans (mAre_k (by decide))), h9⟩) (fun _ h => absurd h List.not_mem_nil) dX5_counted_106
  · refine lv_tableIn (tgt := 107) hx hb dX5_counted_1 (by decide) (by decide) rfl (by decide) ?_
    refine lv_aload_n hx hb dX5_counted_107 rfl (lv_at hl 0 rfl) ?_
    refine lv_iconst (v := 2) hx hb dX5_counted_108 (by decide) ?_
    refine lv_iconst (v := 2) hx hb dX5_counted_109 (by decide) ?_
    refine vp_callSi (va_Run.run (va_runV (As := [.int 2, .int 2]) (rest := []) ⟨hx, hb, hml, hown, hts⟩ (met_X5_are l g T m0 st S 2 (by decide) 2) (cwV 2 hts (lw_V q801 q802 q803 q22 q804) rfl rfl rfl (by decide +kernel) ⟨Nat.le_of_ble_eq_true rfl, Nat.le_of_ble_eq_true rfl⟩) (gg_preV hG (Kp.rf hG) (gg_recv hG h_st rfl) hB0) rfl rfl hl.1 rfl (lv_room (Nat.le_of_ble_eq_true rfl)) dX5_counted_110 ⟨Nat.le_of_ble_eq_true rfl, Nat.le_of_ble_eq_true rfl⟩)) (fun r_1 hr_1 => ?_)
    exact W.iret (v := r_1) hx hb hr (fun t9 h9 hW9 => ⟨_, rfl, (hr_1.trans mAre_2), h9⟩) (fun _ h => absurd h List.not_mem_nil) dX5_counted_113
  · refine lv_tableIn (tgt := 114) hx hb dX5_counted_1 (by decide) (by decide) rfl (by decide) ?_
    refine lv_aload_n hx hb dX5_counted_114 rfl (lv_at hl 0 rfl) ?_
    refine vp_callSi (va_Run.run (va_runV (As := []) (rest := []) ⟨hx, hb, hml, hown, hts⟩ (met_X5_sumWaited l g T m0 st S) (cwV 0 hts (lw_V q805 q806 q807 q22 q808) rfl rfl rfl (by decide +kernel) ⟨Nat.le_of_ble_eq_true rfl, Nat.le_of_ble_eq_true rfl⟩) (gg_preV hG (Kp.rf hG) (gg_recv hG h_st rfl) hB0) rfl rfl hl.1 rfl (lv_room (Nat.le_of_ble_eq_true rfl)) dX5_counted_115 ⟨Nat.le_of_ble_eq_true rfl, Nat.le_of_ble_eq_true rfl⟩)) (fun r_1 hr_1 => ?_)
    exact W.iret (v := r_1) hx hb hr (fun t9 h9 hW9 => ⟨_, rfl, hr_1, h9⟩) (fun _ h => absurd h List.not_mem_nil) dX5_counted_118
  · refine lv_tableIn (tgt := 119) hx hb dX5_counted_1 (by decide) (by decide) rfl (by decide) ?_
    refine lv_aload_n hx hb dX5_counted_119 rfl (lv_at hl 0 rfl) ?_
    refine gg_get (ci := 5) (C := RX5) (T := TX5) (N := 12) (v := .int (bPassing S)) hx hb hts in_X5 hown hG h_st rfl 5 (by decide) q680 rfl rfl dX5_counted_120 ?_
    exact W.iret (v := (bPassing S)) hx hb hr (fun t9 h9 hW9 => ⟨_, rfl, rfl, h9⟩) (fun _ h => absurd h List.not_mem_nil) dX5_counted_123
  · refine lv_tableOut (tgt := 124) hx hb dX5_counted_1 (Or.inr (by decide)) (by decide) ?_
    refine lv_aload_n hx hb dX5_counted_124 rfl (lv_at hl 0 rfl) ?_
    refine vp_callSi (va_Run.run (va_runV (As := []) (rest := []) ⟨hx, hb, hml, hown, hts⟩ (met_X5_next l g T m0 st S) (cwV 0 hts (lw_V q809 q810 q811 q22 q812) rfl rfl rfl (by decide +kernel) ⟨Nat.le_of_ble_eq_true rfl, Nat.le_of_ble_eq_true rfl⟩) (gg_preV hG (Kp.rf hG) (gg_recv hG h_st rfl) hB0) rfl rfl hl.1 rfl (lv_room (Nat.le_of_ble_eq_true rfl)) dX5_counted_125 ⟨Nat.le_of_ble_eq_true rfl, Nat.le_of_ble_eq_true rfl⟩)) (fun r_1 hr_1 => ?_)
    exact W.iret (v := r_1) hx hb hr (fun t9 h9 hW9 => ⟨_, rfl, hr_1, h9⟩) (fun _ h => absurd h List.not_mem_nil) dX5_counted_128
