/-! THE MEAN: a quotient of two ints is no odd NaN; both sides' mean. -/
set_option maxRecDepth 100000
def dq_Gd : FP.Core.Datum → Prop
  | .nan => False
  | .inf _ => True
  | .fin _ c q => c < 2 ^ 53 ∧ q ≤ 971
theorem dq_enc {d : FP.Core.Datum} (h : dq_Gd d) : FP.Core.encode FP.Core.b64 d % 9223372036854775808 ≤ 9218868437227405312 := by
  have e1 : FP.Core.b64.exps = 2048 := by decide
  have e2 : FP.Core.b64.tails = 4503599627370496 := by decide
  have e3 : FP.Core.b64.qmin = -1074 := by decide
  cases d with
  | nan => exact absurd h id
  | inf s =>
    unfold FP.Core.encode FP.Core.assemble
    rw [e1, e2]
    cases s <;> decide
  | fin s c q =>
    obtain ⟨h1, h2⟩ := h
    unfold FP.Core.encode FP.Core.assemble
    dsimp only
    rw [e1, e2, e3]
    have hs : s.toNat = 0 ∨ s.toNat = 1 := by cases s <;> simp
    have h1 : c < 9007199254740992 := h1
    split
    · rcases hs with e | e <;> rw [e] <;> omega
    · have hE : (q - -1074).toNat ≤ 2045 := by omega
      generalize (q - -1074).toNat = E at hE
      rcases hs with e | e <;> rw [e] <;> omega
theorem dq_gdB (s : Bool) {c : Nat} (q : Int) (hc : c < 2 ^ 53) : dq_Gd (FP.Core.bound FP.Core.b64 s c q) := by
  have e : FP.Core.b64.qmax = 971 := by decide
  unfold FP.Core.bound
  rw [e]
  split
  · exact ⟨hc, by assumption⟩
  · exact trivial
theorem dq_gdR (s : Bool) (num den : Nat) (e : Int) : dq_Gd (FP.Core.roundRatio FP.Core.b64 s num den e) := by
  unfold FP.Core.roundRatio
  split
  · exact ⟨by decide, by decide⟩
  · unfold FP.Core.roundAt FP.Core.settle
    split
    · rename_i h
      exact dq_gdB s _ h
    · exact dq_gdB s _ (by decide)
theorem dq_dec {N : Nat} (h : N % 9223372036854775808 ≤ 9218868437227405312) : FP.Core.decode FP.Core.b64 N ≠ .nan := by
  have e1 : FP.Core.b64.exps = 2048 := by decide
  have e2 : FP.Core.b64.tails = 4503599627370496 := by decide
  unfold FP.Core.decode FP.Core.fieldE FP.Core.fieldT
  rw [e1, e2]
  split
  · split
    · intro e
      cases e
    · exfalso
      omega
  · split <;> (intro e; cases e)
theorem dq_gdQ {a b : FP.Core.Datum} (ha : a ≠ .nan) {t : Bool} {d : Nat} {r : Int} (hb : b = .fin t d r) (hd : d ≠ 0) : dq_Gd (FP.Core.quotient FP.Core.b64 a b) := by
  subst hb
  cases a with
  | nan => exact absurd rfl ha
  | inf s => exact trivial
  | fin s c q =>
    unfold FP.Core.quotient
    dsimp only
    rw [if_neg hd]
    exact dq_gdR _ _ _ _
theorem dq_mod64 {N : Nat} (h : N % 9223372036854775808 ≤ 9218868437227405312) : (UInt64.ofNat N).toNat % 9223372036854775808 ≤ 9218868437227405312 := by
  have e : (UInt64.ofNat N).toNat = N % 18446744073709551616 := UInt64.toNat_ofNat'
  rw [e]
  omega
theorem dq_vf {N : Nat} (h : N % 9223372036854775808 ≤ 9218868437227405312) : vf_n64 (UInt64.ofNat N) := by
  unfold vf_n64
  rw [UInt64.le_iff_toNat_le, UInt64.toNat_and]
  have e : (0x7fffffffffffffff : UInt64).toNat = 2 ^ 63 - 1 := by decide
  have e2 : (0x7ff0000000000000 : UInt64).toNat = 9218868437227405312 := by decide
  rw [e, e2, Nat.and_two_pow_sub_one_eq_mod]
  exact dq_mod64 h
def dq_fin0 : FP.Core.Datum → Bool
  | .fin _ d _ => d != 0
  | _ => false
theorem dq_small : ∀ n, n < 41 → n ≠ 0 → dq_fin0 (FP.Core.decode FP.Core.b64 (FP.Core.i2d (nI n)).toNat) = true := by decide +kernel
theorem dq_quo (x : Int32) {n : Nat} (h1 : n ≠ 0) (h2 : n ≤ 40) : vf_n64 (FP.ddiv (FP.i2d x) (FP.i2d (nI n))) := by
  have ha : FP.Core.decode FP.Core.b64 (FP.Core.i2d x).toNat ≠ .nan := by
    refine dq_dec (dq_mod64 (dq_enc ?_))
    unfold FP.Core.round FP.Core.ofInt
    exact dq_gdR _ _ _ _
  have hb := dq_small n (by omega) h1
  cases hd : FP.Core.decode FP.Core.b64 (FP.Core.i2d (nI n)).toNat with
  | nan => rw [hd] at hb; cases hb
  | inf s => rw [hd] at hb; cases hb
  | fin t d r =>
    rw [hd] at hb
    have hd0 : d ≠ 0 := by simpa [dq_fin0] using hb
    exact dq_vf (dq_enc (dq_gdQ ha hd hd0))
def bMean (S : BS) : UInt64 := if sN S = 0 then FP.dconst0 else FP.ddiv (FP.i2d (bWaited S)) (FP.i2d (nI (sN S)))

set_option maxHeartbeats 4000000 in
theorem met_X1_mean (l : Launch) (g : GT) (T x b : Nat) (S : BS) (F : Nat → Prop) (hok : OKS T S) : Met l yX1_mean (ws_ yX1_mean cX1_mean 1 (Option.some Jvm.ClassFile.FieldType.double)) ({ frames := 4, cells := 0, slots := 0, locals := 86 } : Room) (PcG g [.ref x] (fun H => XB g F x b S H)) (vp_Sd (fun r => r = bMean S)) 0 0 (fun _ => False) := by
  refine gg_met (cc := cX1_mean) (maxL := 1) (ret := (Option.some Jvm.ClassFile.FieldType.double)) (by decide) (Nat.le_of_ble_eq_true rfl) ?_
  intro p e s m below meth c hx hb hr hlk hin hml hown hts hG hB ls hl
  have hown : s.vm.findClass RX1 = some m.cls := hown
  have hl : lv_has ls 1 [(0, .ref x)] := hl
  obtain ⟨h_x, ⟨cd, al, el, cap, mc, arr, ad, hX⟩, hFx⟩ := hB
  have hn40 : sN S ≤ 40 := hok.2.2.2.2.2.2.2.1
  refine lv_aload_n hx hb dX1_mean_0 rfl (lv_at hl 0 rfl) ?_
  refine gg_get (ci := 0) (C := RX1) (T := TX1) (N := 1) (v := .ref b) hx hb hts in_X1 hown hG h_x rfl 0 (by decide) q115 rfl rfl dX1_mean_1 ?_
  refine gg_getN (ci := 1) (C := RX2) (T := TX2) (N := 8) (v := .ref al) hx hb hts in_X2 hown hG hX.1 rfl 7 (by decide) q97 rfl rfl dX1_mean_4 ?_
  refine vp_callSi (va_Run.run (va_runV (As := []) (rest := []) ⟨hx, hb, hml, hown, hts⟩ (met_J3_isEmpty l g al el (sN S) mc (by omega)) (cwV 0 hts (lw_V q139 q140 q141 q20 q142) rfl rfl rfl (by decide +kernel) ⟨Nat.le_of_ble_eq_true rfl, Nat.le_of_ble_eq_true rfl⟩) (gg_preV hG (Kp.rf hG) (gg_recv hG hX.2.2.1 rfl) hX.2.2.1) rfl rfl hl.1 rfl (lv_room (Nat.le_of_ble_eq_true rfl)) dX1_mean_7 ⟨Nat.le_of_ble_eq_true rfl, Nat.le_of_ble_eq_true rfl⟩)) (fun r_e hr_e => ?_)
  refine lv_if_eq (tgt := 17) hx hb dX1_mean_10 (by decide) (fun c_10 => ?_) (fun c_10 => ?_)
  · refine lv_aload_n hx hb dX1_mean_17 rfl (lv_at hl 0 rfl) ?_
    refine gg_get (ci := 0) (C := RX1) (T := TX1) (N := 1) (v := .ref b) hx hb hts in_X1 hown hG h_x rfl 0 (by decide) q115 rfl rfl dX1_mean_18 ?_
    refine vp_callSi (va_Run.run (va_runV (As := []) (rest := []) ⟨hx, hb, hml, hown, hts⟩ (met_X2_waited l g T b S) (cwV 0 hts (lw_V q143 q144 q145 q15 q146) rfl rfl rfl (by decide +kernel) ⟨Nat.le_of_ble_eq_true rfl, Nat.le_of_ble_eq_true rfl⟩) (gg_preV hG (Kp.rf hG) (gg_recv hG hX.1 rfl) (hX.rb hok)) rfl rfl hl.1 rfl (lv_room (Nat.le_of_ble_eq_true rfl)) dX1_mean_21 ⟨Nat.le_of_ble_eq_true rfl, Nat.le_of_ble_eq_true rfl⟩)) (fun r_w hr_w => ?_)
    subst hr_w
    refine lv_i2d hx hb dX1_mean_24 ?_
    refine lv_aload_n hx hb dX1_mean_25 rfl (lv_at hl 0 rfl) ?_
    refine gg_get (ci := 0) (C := RX1) (T := TX1) (N := 1) (v := .ref b) hx hb hts in_X1 hown hG h_x rfl 0 (by decide) q115 rfl rfl dX1_mean_26 ?_
    refine gg_getN (ci := 1) (C := RX2) (T := TX2) (N := 8) (v := .ref al) hx hb hts in_X2 hown hG hX.1 rfl 7 (by decide) q97 rfl rfl dX1_mean_29 ?_
    refine vp_callSi (va_Run.run (va_runV (As := []) (rest := [.double (FP.i2d (bWaited S))]) ⟨hx, hb, hml, hown, hts⟩ (met_J3_size l g al el (sN S) mc) (cwV 0 hts (lw_V q166 q148 q149 q20 q150) rfl rfl rfl (by decide +kernel) ⟨Nat.le_of_ble_eq_true rfl, Nat.le_of_ble_eq_true rfl⟩) (gg_preV hG (Kp.rf hG) (gg_recv hG hX.2.2.1 rfl) hX.2.2.1) rfl rfl hl.1 rfl (lv_room (Nat.le_of_ble_eq_true rfl)) dX1_mean_32 ⟨Nat.le_of_ble_eq_true rfl, Nat.le_of_ble_eq_true rfl⟩)) (fun r_z hr_z => ?_)
    subst hr_z
    refine lv_i2d hx hb dX1_mean_35 ?_
    refine lv_ddiv hx hb dX1_mean_36 (dq_quo _ (b01_f hr_e c_10) hn40) ?_
    exact W.dret (v := (FP.ddiv (FP.i2d (bWaited S)) (FP.i2d (nI (sN S))))) hx hb hr (fun t9 h9 hW9 => ⟨_, rfl, (if_neg (b01_f hr_e c_10)).symm, h9⟩) (fun _ h => absurd h List.not_mem_nil) dX1_mean_37
  · refine lv_dconst0 hx hb dX1_mean_13 ?_
    refine lv_goto (tgt := 37) hx hb dX1_mean_14 (by decide) ?_
    exact W.dret (v := FP.dconst0) hx hb hr (fun t9 h9 hW9 => ⟨_, rfl, (if_pos (b01_t hr_e c_10)).symm, h9⟩) (fun _ h => absurd h List.not_mem_nil) dX1_mean_37

set_option maxHeartbeats 4000000 in
theorem met_X4_mean (l : Launch) (g : GT) (T : Nat) (M B C : Nat → Nat) (th : Int32) (S : BS) (hok : OKS T S) (hD : MD g M B C)  : Met l yX4_mean (ws_ yX4_mean cX4_mean 1 (Option.some Jvm.ClassFile.FieldType.double)) ({ frames := 1, cells := 0, slots := 0, locals := 22 } : Room) (PcG g [.ref (M 0)] (fun H => MX g M B C th S H)) (va_Qd (fun (r : UInt64) (_ : Unit) => r = bMean S) (fun _ u => MX g M B C 0 S u.heap) (FM M B C)) 0 0 (FM M B C) := by
  refine gg_met (cc := cX4_mean) (maxL := 1) (ret := (Option.some Jvm.ClassFile.FieldType.double)) (by decide) (Nat.le_of_ble_eq_true rfl) ?_
  intro p e s m below meth c hx hb hr hlk hin hml hown hts hG hB ls hl
  have hown : s.vm.findClass RX4 = some m.cls := hown
  have hl : lv_has ls 1 [(0, .ref (M 0))] := hl
  obtain ⟨hMO, hSP, hC⟩ := hB
  have h_m := hMO.m0
  have nM := hD.1.ne
  have iM := hD.1
  have iB := hD.2.1
  have iC := hD.2.2.1
  have nBM := hD.2.2.2.1
  have nMB := hD.2.2.2.1.symm
  have nCM := hD.2.2.2.2.1
  have nMC := hD.2.2.2.2.1.symm
  have nBC := hD.2.2.2.2.2.1
  have nCB := hD.2.2.2.2.2.1.symm
  have gB9 := hD.2.2.2.2.2.2.2.1
  have gC9 := hD.2.2.2.2.2.2.2.2
  have hAN : ∀ q, FM M B C q → gA g q := hD.an
  have hS : va_S (FM M B C) s.heap s.heap [] := va_S.rf
  have hn40 : sN S ≤ 40 := hok.2.2.2.2.2.2.2.1
  refine lv_aload_n hx hb dX4_mean_0 rfl (lv_at hl 0 rfl) ?_
  refine lv_iconst (v := 0) hx hb dX4_mean_1 (by decide) ?_
  refine gg_put (ci := 4) (v := .int 0) (C := RX4) (T := TX4) (N := 8) hx hb hts in_X4 tyX4 tyX4_ok nmX4 hown hG h_m hS (Or.inl ⟨0, by decide, rfl⟩) rfl 0 (by decide) q716 rfl rfl rfl rfl (Nat.le_of_ble_eq_true rfl) dX4_mean_2 (fun H locs h_m hbut hS => ?_)
  have h_m : va_at (gD g) bbCl ((M 0), .inr (4, [.int 0, .int (nI (sN S)), .ref (M 1), .ref (M 2), .ref (M 3), .ref (M 4), .ref (B 0), .ref (C 0)])) H := h_m
  have hMO := hMO.put iM (fun q _ h9 => hbut.2 q h9) h_m
  have hSP := hSP.kept (fun i hi9 _ => hbut.2 _ (nBM i 0 hi9 (by decide)))
  have hC := hC.kept (fun i hi9 _ => hbut.2 _ (nCM i 0 hi9 (by decide)))
  refine lv_aload_n hx hb dX4_mean_5 rfl (lv_at hl 0 rfl) ?_
  refine gg_get (ci := 4) (C := RX4) (T := TX4) (N := 8) (v := .int (nI (sN S))) hx hb hts in_X4 hown hG h_m rfl 1 (by decide) q717 rfl rfl dX4_mean_6 ?_
  refine lv_if_ne (tgt := 16) hx hb dX4_mean_9 (by decide) (fun c_9 => ?_) (fun c_9 => ?_)
  · have hn0 : sN S ≠ 0 := fun e => c_9 (by rw [e]; exact nI_0)
    refine lv_aload_n hx hb dX4_mean_16 rfl (lv_at hl 0 rfl) ?_
    refine gg_get (ci := 4) (C := RX4) (T := TX4) (N := 8) (v := .ref (B 0)) hx hb hts in_X4 hown hG h_m rfl 6 (by decide) q726 rfl rfl dX4_mean_17 ?_
    refine vp_callSi (va_Run.run (va_runV (As := []) (rest := []) ⟨hx, hb, hml, hown, hts⟩ (met_X5_sumWaited l g T (M 0) (B 0) S) (cwV 0 hts (lw_V q863 q806 q807 q22 q808) rfl rfl rfl (by decide +kernel) ⟨Nat.le_of_ble_eq_true rfl, Nat.le_of_ble_eq_true rfl⟩) (gg_preV hG (hS.kp hG hAN) (gg_recv hG hSP.b0 rfl) (RM.of hMO hSP hok)) rfl rfl hl.1 rfl (lv_room (Nat.le_of_ble_eq_true rfl)) dX4_mean_20 ⟨Nat.le_of_ble_eq_true rfl, Nat.le_of_ble_eq_true rfl⟩)) (fun r_w hr_w => ?_)
    subst hr_w
    refine lv_i2d hx hb dX4_mean_23 ?_
    refine lv_aload_n hx hb dX4_mean_24 rfl (lv_at hl 0 rfl) ?_
    refine gg_get (ci := 4) (C := RX4) (T := TX4) (N := 8) (v := .int (nI (sN S))) hx hb hts in_X4 hown hG h_m rfl 1 (by decide) q717 rfl rfl dX4_mean_25 ?_
    refine lv_i2d hx hb dX4_mean_28 ?_
    refine lv_ddiv hx hb dX4_mean_29 (dq_quo _ hn0 hn40) ?_
    exact W.dret (v := (FP.ddiv (FP.i2d (bWaited S)) (FP.i2d (nI (sN S))))) hx hb hr (fun t9 h9 hW9 => ⟨⟨_, (), rfl, (if_neg hn0).symm, by dsimp only; rw [h9]; exact ⟨hMO, hSP, hC⟩⟩, hS.F h9⟩) hS.2.2 dX4_mean_30
  · refine lv_dconst0 hx hb dX4_mean_12 ?_
    refine lv_goto (tgt := 30) hx hb dX4_mean_13 (by decide) ?_
    exact W.dret (v := FP.dconst0) hx hb hr (fun t9 h9 hW9 => ⟨⟨_, (), rfl, (if_pos ((nI_eq (by omega) (by decide)).mp (show nI (sN S) = nI 0 from c_9))).symm, by dsimp only; rw [h9]; exact ⟨hMO, hSP, hC⟩⟩, hS.F h9⟩) hS.2.2 dX4_mean_30
