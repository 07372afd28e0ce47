/-! THE MODEL'S METHODS, the last: told, traveller, digest, a new one. -/
set_option maxRecDepth 100000
theorem MX.kept {g : GT} {M B C : Nat → Nat} {th : Int32} {S : BS} {H H1 : Heap} (h : MX g M B C th S H) (hq : ∀ q : Nat, q < H.size → FM M B C q → H1[q]? = H[q]?) : MX g M B C th S H1 :=
  ⟨h.1.kept (fun i hi hl => hq _ hl (Or.inl ⟨i, hi, rfl⟩)), h.2.1.kept (fun i hi hl => hq _ hl (Or.inr (Or.inl ⟨i, hi, rfl⟩))), h.2.2.kept (fun i hi hl => hq _ hl (Or.inr (Or.inr ⟨i, hi, rfl⟩)))⟩
theorem ne_k {a b sz i j : Nat} (ha : a = sz + i) (hb : b = sz + j) (h : i ≠ j) : a ≠ b := by omega
theorem lt_k {a sz i : Nat} (j : Nat) (ha : a = sz + i) (h : i < j) : a < sz + j := by omega
theorem out_ {x st sz : Nat} (h1 : x ≠ st) (h2 : x < sz) : ¬ (x = st ∨ sz ≤ x) := by omega
theorem MD_of {g : GT} {x sz a1 a2 a3 a4 z1 z2 : Nat} {B C : Nat → Nat} (hx : x < sz) (hNx : gA g x) (hN : gN g ≤ sz) (h1 : a1 = sz + 0) (h2 : a2 = sz + 1) (h3 : a3 = sz + 2) (h4 : a4 = sz + 3) (hz1 : sz + 5 ≤ z1) (hz2 : z1 ≤ z2) (iB : Inj5 B) (iC : Inj5 C) (bB : ∀ i, i < 5 → sz + 4 ≤ B i ∧ B i < z1) (bC : ∀ i, i < 5 → z1 ≤ C i ∧ C i < z2) :
    MD g (B5 x a1 a2 a3 a4) B C ∧ ∀ q, FM (B5 x a1 a2 a3 a4) B C q → q = x ∨ (sz ≤ q ∧ q < z2) := by
  have bM : ∀ i, i < 5 → (B5 x a1 a2 a3 a4 i = x ∨ sz ≤ B5 x a1 a2 a3 a4 i) ∧ B5 x a1 a2 a3 a4 i < sz + 4 := by
    intro i hi
    rcases (show i = 0 ∨ i = 1 ∨ i = 2 ∨ i = 3 ∨ i = 4 by omega) with rfl | rfl | rfl | rfl | rfl
    · exact ⟨Or.inl rfl, by show x < sz + 4; omega⟩
    · exact ⟨Or.inr (by show sz ≤ a1; omega), by show a1 < sz + 4; omega⟩
    · exact ⟨Or.inr (by show sz ≤ a2; omega), by show a2 < sz + 4; omega⟩
    · exact ⟨Or.inr (by show sz ≤ a3; omega), by show a3 < sz + 4; omega⟩
    · exact ⟨Or.inr (by show sz ≤ a4; omega), by show a4 < sz + 4; omega⟩
  refine ⟨⟨B5_inj (by omega) (by omega) (by omega) (by omega) (by omega) (by omega) (by omega) (by omega) (by omega) (by omega), iB, iC, ?_, ?_, ?_, ?_, ?_, ?_⟩, ?_⟩
  · intro i j hi hj e
    have := bB i hi
    have := bM j hj
    omega
  · intro i j hi hj e
    have := bC i hi
    have := bM j hj
    omega
  · intro i j hi hj e
    have := bB i hi
    have := bC j hj
    omega
  · intro i hi
    rcases (bM i hi).1 with e | e
    · rw [e]; exact hNx
    · exact Nat.le_trans hN e
  · intro i hi
    exact Nat.le_trans hN (by have := bB i hi; omega)
  · intro i hi
    exact Nat.le_trans hN (by have := bC i hi; omega)
  · intro q hq
    rcases hq with ⟨i, hi, e⟩ | ⟨i, hi, e⟩ | ⟨i, hi, e⟩
    · have := bM i hi
      omega
    · have := bB i hi
      omega
    · have := bC i hi
      omega
theorem b_all {B : Nat → Nat} {st sz z : Nat} (h0 : B 0 = st) (hst : st < z) (hs : st + 1 ≤ sz) (h : ∀ i, 1 ≤ i → i < 5 → sz ≤ B i ∧ B i < z) : ∀ i, i < 5 → st ≤ B i ∧ B i < z := by
  intro i hi
  cases i with
  | zero => rw [h0]; exact ⟨Nat.le_refl _, hst⟩
  | succ i => have := h (i + 1) (by omega) hi; omega

set_option maxHeartbeats 4000000 in
theorem met_X4_told (l : Launch) (g : GT) (T sz a0 : Nat) (M B : Nat → Nat) (th : Int32) (S : BS) (hok : OKS T S) (k w : Nat) (hk : k < sN S) (hw : w < 7) : Met l yX4_told (ws_ yX4_told cX4_told 4 (Option.some Jvm.ClassFile.FieldType.int)) ({ frames := 0, cells := 1, slots := 7, locals := 0 } : Room) (PcG g [.ref (M 0), .int (nI k), .int (nI w)] (fun H => H.size = sz ∧ MO g M (B 0) a0 th S H ∧ SP g B (M 0) S H)) (va_Qi (fun (r : Int32) (_ : Unit) => r = tTold (sTv S k) w) (fun _ _ => True) (fun q => sz ≤ q)) 1 7 (fun q => sz ≤ q) := by
  refine gg_met (cc := cX4_told) (maxL := 4) (ret := (Option.some Jvm.ClassFile.FieldType.int)) (by decide) (Nat.le_of_ble_eq_true rfl) ?_
  intro p e s m below meth c hx hb hr hlk hin hml hown hts hG hB ls hl
  have hown : s.vm.findClass RX4 = some m.cls := hown
  have hl : lv_has ls 4 [(0, .ref (M 0)), (1, .int (nI k)), (2, .int (nI w))] := hl
  obtain ⟨hsz, ⟨fb, fn, fc, h_m, h_ib, h_nd, h_ca, h_cd, hOR⟩, fi, fw, fl, fh, ⟨h_st, h_ai, h_aw, h_al, h_ah⟩, hAR, hZ⟩ := hB
  have hn40 : sN S ≤ 40 := hok.2.2.2.2.2.2.2.1
  have hAN : ∀ q, sz ≤ q → gA g q := fun q e => Nat.le_trans (by rw [← hsz]; exact hG.sz) e
  have hS : va_S (fun q => sz ≤ q) s.heap s.heap [] := va_S.rf
  obtain ⟨e_i, e_w, e_l, e_h⟩ := hAR k hk
  obtain ⟨e_b, e_n, e_c⟩ := hOR k hk
  have hT := hok.2.2.2.2.2.2.2.2.1 k hk
  refine lv_bipush (v := 7) hx hb dX4_told_0 (by decide) ?_
  refine gg_newi (N' := 7) hx hb hts hG hS rfl (by decide) (Nat.le_of_ble_eq_true rfl) (Nat.le_of_ble_eq_true rfl) dX4_told_2 (fun nq H hnq h_nq hgr hS => ?_)
  have hA9 : sz ≤ nq := Nat.le_of_eq (hsz.symm.trans hnq.symm)
  refine lv_dup hx hb dX4_told_4 rfl ?_
  refine lv_iconst (v := 0) hx hb dX4_told_5 (by decide) ?_
  refine lv_aload_n hx hb dX4_told_6 rfl (lv_at hl 0 rfl) ?_
  refine gg_get (ci := 4) (C := RX4) (T := TX4) (N := 8) (v := .ref (M 1)) hx hb hts in_X4 hown hG (kp_ h_m hsz hS) rfl 2 (by decide) q719 rfl rfl dX4_told_7 ?_
  refine lv_iload_n hx hb dX4_told_10 rfl (lv_at hl 1 rfl) ?_
  refine gg_iald hx hb hG (kp_ h_ib hsz hS) k (show k < 40 by omega) (by decide) rfl dX4_told_11 ?_
  refine gg_iast hx hb hG h_nq hS hA9 0 (by decide) (by decide) rfl dX4_told_12 (fun H locs h_nq hbut hS => ?_)
  refine lv_dup hx hb dX4_told_13 rfl ?_
  refine lv_iconst (v := 1) hx hb dX4_told_14 (by decide) ?_
  refine lv_aload_n hx hb dX4_told_15 rfl (lv_at hl 0 rfl) ?_
  refine gg_get (ci := 4) (C := RX4) (T := TX4) (N := 8) (v := .ref (M 2)) hx hb hts in_X4 hown hG (kp_ h_m hsz hS) rfl 3 (by decide) q721 rfl rfl dX4_told_16 ?_
  refine lv_iload_n hx hb dX4_told_19 rfl (lv_at hl 1 rfl) ?_
  refine gg_iald hx hb hG (kp_ h_nd hsz hS) k (show k < 40 by omega) (by decide) rfl dX4_told_20 ?_
  refine gg_iast hx hb hG h_nq hS hA9 1 (by decide) (by decide) rfl dX4_told_21 (fun H locs h_nq hbut hS => ?_)
  refine lv_dup hx hb dX4_told_22 rfl ?_
  refine lv_iconst (v := 2) hx hb dX4_told_23 (by decide) ?_
  refine lv_aload_n hx hb dX4_told_24 rfl (lv_at hl 0 rfl) ?_
  refine gg_get (ci := 4) (C := RX4) (T := TX4) (N := 8) (v := .ref (B 0)) hx hb hts in_X4 hown hG (kp_ h_m hsz hS) rfl 6 (by decide) q726 rfl rfl dX4_told_25 ?_
  refine gg_getN (ci := 5) (C := RX5) (T := TX5) (N := 12) (v := .ref (B 1)) hx hb hts in_X5 hown hG (kp_ h_st hsz hS) rfl 7 (by decide) q683 rfl rfl dX4_told_28 ?_
  refine lv_iload_n hx hb dX4_told_31 rfl (lv_at hl 1 rfl) ?_
  refine gg_iald hx hb hG (kp_ h_ai hsz hS) k (show k < 40 by omega) (by decide) rfl dX4_told_32 ?_
  refine gg_iast hx hb hG h_nq hS hA9 2 (by decide) (by decide) rfl dX4_told_33 (fun H locs h_nq hbut hS => ?_)
  refine lv_dup hx hb dX4_told_34 rfl ?_
  refine lv_iconst (v := 3) hx hb dX4_told_35 (by decide) ?_
  refine lv_aload_n hx hb dX4_told_36 rfl (lv_at hl 0 rfl) ?_
  refine gg_get (ci := 4) (C := RX4) (T := TX4) (N := 8) (v := .ref (M 3)) hx hb hts in_X4 hown hG (kp_ h_m hsz hS) rfl 4 (by decide) q723 rfl rfl dX4_told_37 ?_
  refine lv_iload_n hx hb dX4_told_40 rfl (lv_at hl 1 rfl) ?_
  refine gg_iald hx hb hG (kp_ h_ca hsz hS) k (show k < 40 by omega) (by decide) rfl dX4_told_41 ?_
  refine gg_iast hx hb hG h_nq hS hA9 3 (by decide) (by decide) rfl dX4_told_42 (fun H locs h_nq hbut hS => ?_)
  refine lv_dup hx hb dX4_told_43 rfl ?_
  refine lv_iconst (v := 4) hx hb dX4_told_44 (by decide) ?_
  refine lv_aload_n hx hb dX4_told_45 rfl (lv_at hl 0 rfl) ?_
  refine gg_get (ci := 4) (C := RX4) (T := TX4) (N := 8) (v := .ref (B 0)) hx hb hts in_X4 hown hG (kp_ h_m hsz hS) rfl 6 (by decide) q726 rfl rfl dX4_told_46 ?_
  refine gg_getN (ci := 5) (C := RX5) (T := TX5) (N := 12) (v := .ref (B 2)) hx hb hts in_X5 hown hG (kp_ h_st hsz hS) rfl 8 (by decide) q685 rfl rfl dX4_told_49 ?_
  refine lv_iload_n hx hb dX4_told_52 rfl (lv_at hl 1 rfl) ?_
  refine gg_iald hx hb hG (kp_ h_aw hsz hS) k (show k < 40 by omega) (by decide) rfl dX4_told_53 ?_
  refine gg_iast hx hb hG h_nq hS hA9 4 (by decide) (by decide) rfl dX4_told_54 (fun H locs h_nq hbut hS => ?_)
  refine lv_dup hx hb dX4_told_55 rfl ?_
  refine lv_iconst (v := 5) hx hb dX4_told_56 (by decide) ?_
  refine lv_aload_n hx hb dX4_told_57 rfl (lv_at hl 0 rfl) ?_
  refine gg_get (ci := 4) (C := RX4) (T := TX4) (N := 8) (v := .ref (B 0)) hx hb hts in_X4 hown hG (kp_ h_m hsz hS) rfl 6 (by decide) q726 rfl rfl dX4_told_58 ?_
  refine gg_getN (ci := 5) (C := RX5) (T := TX5) (N := 12) (v := .ref (B 3)) hx hb hts in_X5 hown hG (kp_ h_st hsz hS) rfl 9 (by decide) q687 rfl rfl dX4_told_61 ?_
  refine lv_iload_n hx hb dX4_told_64 rfl (lv_at hl 1 rfl) ?_
  refine gg_iald hx hb hG (kp_ h_al hsz hS) k (show k < 40 by omega) (by decide) rfl dX4_told_65 ?_
  refine gg_iast hx hb hG h_nq hS hA9 5 (by decide) (by decide) rfl dX4_told_66 (fun H locs h_nq hbut hS => ?_)
  refine lv_dup hx hb dX4_told_67 rfl ?_
  refine lv_bipush (v := 6) hx hb dX4_told_68 (by decide) ?_
  refine lv_aload_n hx hb dX4_told_70 rfl (lv_at hl 0 rfl) ?_
  refine gg_get (ci := 4) (C := RX4) (T := TX4) (N := 8) (v := .ref (B 0)) hx hb hts in_X4 hown hG (kp_ h_m hsz hS) rfl 6 (by decide) q726 rfl rfl dX4_told_71 ?_
  refine gg_getN (ci := 5) (C := RX5) (T := TX5) (N := 12) (v := .ref (B 4)) hx hb hts in_X5 hown hG (kp_ h_st hsz hS) rfl 10 (by decide) q689 rfl rfl dX4_told_74 ?_
  refine lv_iload_n hx hb dX4_told_77 rfl (lv_at hl 1 rfl) ?_
  refine gg_iald hx hb hG (kp_ h_ah hsz hS) k (show k < 40 by omega) (by decide) rfl dX4_told_78 ?_
  refine gg_iast hx hb hG h_nq hS hA9 6 (by decide) (by decide) rfl dX4_told_79 (fun H locs h_nq hbut hS => ?_)
  refine lv_astore_n (lv' := [(3, .ref nq), (0, .ref (M 0)), (1, .int (nI k)), (2, .int (nI w))]) hx hb dX4_told_80 rfl hl (by decide) rfl (fun ls hl => ?_)
  refine lv_aload_n hx hb dX4_told_81 rfl (lv_at hl 0 rfl) ?_
  refine lv_iload_n hx hb dX4_told_82 rfl (lv_at hl 3 rfl) ?_
  refine gg_iald hx hb hG h_nq w hw (by decide) rfl dX4_told_83 ?_
  exact W.iret (v := ((upd (upd (upd (upd (upd (upd (upd (fun _ => 0) 0 (fb k)) 1 (fn k)) 2 (fi k)) 3 (fc k)) 4 (fw k)) 5 (fl k)) 6 (fh k)) w)) hx hb hr (fun t9 h9 hW9 => ⟨⟨_, (), rfl, told7 hT.1 e_b e_n e_i e_c e_w e_l e_h hw, trivial⟩, hS.F h9⟩) hS.2.2 dX4_told_84

set_option maxHeartbeats 4000000 in
theorem met_X4_traveller (l : Launch) (g : GT) (T sz : Nat) (M B C : Nat → Nat) (th : Int32) (S : BS) (hok : OKS T S) (hD : MD g M B C) (k w : Int32) : Met l yX4_traveller (ws_ yX4_traveller cX4_traveller 3 (Option.some Jvm.ClassFile.FieldType.int)) ({ frames := 2, cells := 1, slots := 7, locals := 43 } : Room) (PcG g [.ref (M 0), .int k, .int w] (fun H => H.size = sz ∧ MX g M B C th S H)) (va_Qi (fun (r : Int32) (_ : Unit) => r = (aTrav S k w).2.1) (fun _ u => MX g M B C (aTrav S k w).1 (aTrav S k w).2.2 u.heap) (fun q => FM M B C q ∨ sz ≤ q)) 1 7 (fun q => FM M B C q ∨ sz ≤ q) := by
  refine gg_met (cc := cX4_traveller) (maxL := 3) (ret := (Option.some Jvm.ClassFile.FieldType.int)) (by decide) (Nat.le_of_ble_eq_true rfl) ?_
  intro p e s m below meth c hx hb hr hlk hin hml hown hts hG hB ls hl
  have hown : s.vm.findClass RX4 = some m.cls := hown
  have hl : lv_has ls 3 [(0, .ref (M 0)), (1, .int k), (2, .int w)] := hl
  obtain ⟨hsz, hMO, hSP, hC⟩ := hB
  have h_m := hMO.m0
  have nM := hD.1.ne
  have iM := hD.1
  have iB := hD.2.1
  have iC := hD.2.2.1
  have nBM := hD.2.2.2.1
  have nMB := hD.2.2.2.1.symm
  have nCM := hD.2.2.2.2.1
  have nMC := hD.2.2.2.2.1.symm
  have nBC := hD.2.2.2.2.2.1
  have nCB := hD.2.2.2.2.2.1.symm
  have gB9 := hD.2.2.2.2.2.2.2.1
  have gC9 := hD.2.2.2.2.2.2.2.2
  have hAN : ∀ q, FM M B C q ∨ sz ≤ q → gA g q := fun q e => e.elim (hD.an q) (fun e => Nat.le_trans (by rw [← hsz]; exact hG.sz) e)
  have hS : va_S (fun q => FM M B C q ∨ sz ≤ q) s.heap s.heap [] := va_S.rf
  have hn40 : sN S ≤ 40 := hok.2.2.2.2.2.2.2.1
  refine lv_aload_n hx hb dX4_traveller_0 rfl (lv_at hl 0 rfl) ?_
  refine lv_iconst (v := 0) hx hb dX4_traveller_1 (by decide) ?_
  refine gg_put (ci := 4) (v := .int 0) (C := RX4) (T := TX4) (N := 8) hx hb hts in_X4 tyX4 tyX4_ok nmX4 hown hG h_m hS (Or.inl (FM_m0 rfl)) rfl 0 (by decide) q716 rfl rfl rfl rfl (Nat.le_of_ble_eq_true rfl) dX4_traveller_2 (fun H locs h_m hbut hS => ?_)
  have h_m : va_at (gD g) bbCl ((M 0), .inr (4, [.int 0, .int (nI (sN S)), .ref (M 1), .ref (M 2), .ref (M 3), .ref (M 4), .ref (B 0), .ref (C 0)])) H := h_m
  have hMO := hMO.put iM (fun q _ h9 => hbut.2 q h9) h_m
  have hSP := hSP.kept (fun i hi9 _ => hbut.2 _ (nBM i 0 hi9 (by decide)))
  have hC := hC.kept (fun i hi9 _ => hbut.2 _ (nCM i 0 hi9 (by decide)))
  refine lv_aload_n hx hb dX4_traveller_5 rfl (lv_at hl 0 rfl) ?_
  refine lv_iload_n hx hb dX4_traveller_6 rfl (lv_at hl 1 rfl) ?_
  refine vp_callSi (va_Run.run (va_runV (As := [.int k]) (rest := []) ⟨hx, hb, hml, hown, hts⟩ (met_X4_isTraveller l g (M 0) (sN S) (M 1) (M 2) (M 3) (M 4) (B 0) (C 0) 0 k hn40) (cwV 1 hts (lw_V q764 q766 qs7 q21 q767) rfl rfl rfl (by decide +kernel) ⟨Nat.le_of_ble_eq_true rfl, Nat.le_of_ble_eq_true rfl⟩) (gg_preV hG (hS.kp hG hAN) (gg_recv hG h_m rfl) h_m) rfl rfl hl.1 rfl (lv_room (Nat.le_of_ble_eq_true rfl)) dX4_traveller_7 ⟨Nat.le_of_ble_eq_true rfl, Nat.le_of_ble_eq_true rfl⟩)) (fun r_1 hr_1 => ?_)
  refine lv_if_eq (tgt := 32) hx hb dX4_traveller_10 (by decide) (fun c_10 => ?_) (fun c_10 => ?_)
  · refine lv_aload_n hx hb dX4_traveller_32 rfl (lv_at hl 0 rfl) ?_
    refine lv_iconst (v := 1) hx hb dX4_traveller_33 (by decide) ?_
    refine va_calli (va_runV (As := [.int 1]) (rest := []) ⟨hx, hb, hml, hown, hts⟩ (met_X4_no l g (M 0) (sN S) (M 1) (M 2) (M 3) (M 4) (B 0) (C 0) 0 1 (hAN _ (Or.inl (FM_m0 rfl)))) (cwV 1 hts (lw_V q756 q758 qs6 q21 q759) rfl rfl rfl (by decide +kernel) ⟨Nat.le_of_ble_eq_true rfl, Nat.le_of_ble_eq_true rfl⟩) (gg_preV hG (hS.kp hG hAN) (gg_recv hG h_m rfl) h_m) rfl rfl hl.1 rfl (lv_room (Nat.le_of_ble_eq_true rfl)) dX4_traveller_34 ⟨Nat.le_of_ble_eq_true rfl, Nat.le_of_ble_eq_true rfl⟩) hS (fun q _ e => Or.inl (FM_m0 e)) (fun q e => Or.inl (FM_m0 e)) (fun r_n u t9 H1 locs ht hvm hr_n hQ hz1 hk1 hS => ?_)
    rw [ht] at hQ
    have hMO := hMO.put iM (fun q h8 h9 => hk1 q h8 h9) hQ
    have hSP := hSP.kept (fun i hi9 hl9 => hk1 _ hl9 (nBM i 0 hi9 (by decide)))
    have hC := hC.kept (fun i hi9 hl9 => hk1 _ hl9 (nCM i 0 hi9 (by decide)))
    generalize H1 = H at hMO hSP hC hS ⊢
    have hE : aTrav S k w = ((1, 0, S) : Ans) := by unfold aTrav; rw [if_neg (fun e => b01_f hr_1 c_10 e.1)]
    refine W.widen (k := 1) (n := 7) (Nat.le_of_ble_eq_true rfl) (Nat.le_of_ble_eq_true rfl) ?_
    exact W.iret (v := r_n) hx hb hr (fun t9 h9 hW9 => ⟨⟨_, (), rfl, (hr_n.trans (congrArg (fun a : Ans => a.2.1) hE).symm), by dsimp only; rw [h9, hE]; exact ⟨hMO, hSP, hC⟩⟩, hS.F h9⟩) hS.2.2 dX4_traveller_37
  · have hT1 := b01_t hr_1 c_10
    obtain ⟨j, hj, hkj⟩ := isT_ex hn40 hT1
    subst hkj
    have hcl := nI_clamp (n := j) (by omega)
    refine lv_iload_n hx hb dX4_traveller_13 rfl (lv_at hl 2 rfl) ?_
    refine lv_iconst (v := 0) hx hb dX4_traveller_14 (by decide) ?_
    refine lv_bipush (v := 6) hx hb dX4_traveller_15 (by decide) ?_
    refine vp_callSi (va_Run.run (va_runS (As := [.int w, .int 0, .int 6]) (rest := []) ⟨hx, hb, hml, hown, hts⟩ (met_X4_isIn l g w 0 6) (va_cwS 3 hts (lw_S q753 q754 q21 q755) rfl rfl rfl (by decide +kernel) ⟨Nat.le_of_ble_eq_true rfl, Nat.le_of_ble_eq_true rfl⟩) (gg_preS hG (hS.kp hG hAN) trivial) rfl rfl hl.1 rfl (lv_room (Nat.le_of_ble_eq_true rfl)) dX4_traveller_17 ⟨Nat.le_of_ble_eq_true rfl, Nat.le_of_ble_eq_true rfl⟩)) (fun r_2 hr_2 => ?_)
    refine lv_if_eq (tgt := 32) hx hb dX4_traveller_20 (by decide) (fun c_20 => ?_) (fun c_20 => ?_)
    · refine lv_aload_n hx hb dX4_traveller_32 rfl (lv_at hl 0 rfl) ?_
      refine lv_iconst (v := 1) hx hb dX4_traveller_33 (by decide) ?_
      refine va_calli (va_runV (As := [.int 1]) (rest := []) ⟨hx, hb, hml, hown, hts⟩ (met_X4_no l g (M 0) (sN S) (M 1) (M 2) (M 3) (M 4) (B 0) (C 0) 0 1 (hAN _ (Or.inl (FM_m0 rfl)))) (cwV 1 hts (lw_V q756 q758 qs6 q21 q759) rfl rfl rfl (by decide +kernel) ⟨Nat.le_of_ble_eq_true rfl, Nat.le_of_ble_eq_true rfl⟩) (gg_preV hG (hS.kp hG hAN) (gg_recv hG h_m rfl) h_m) rfl rfl hl.1 rfl (lv_room (Nat.le_of_ble_eq_true rfl)) dX4_traveller_34 ⟨Nat.le_of_ble_eq_true rfl, Nat.le_of_ble_eq_true rfl⟩) hS (fun q _ e => Or.inl (FM_m0 e)) (fun q e => Or.inl (FM_m0 e)) (fun r_n u t9 H1 locs ht hvm hr_n hQ hz1 hk1 hS => ?_)
      rw [ht] at hQ
      have hMO := hMO.put iM (fun q h8 h9 => hk1 q h8 h9) hQ
      have hSP := hSP.kept (fun i hi9 hl9 => hk1 _ hl9 (nBM i 0 hi9 (by decide)))
      have hC := hC.kept (fun i hi9 hl9 => hk1 _ hl9 (nCM i 0 hi9 (by decide)))
      generalize H1 = H at hMO hSP hC hS ⊢
      have hE : aTrav S (nI j) w = ((1, 0, S) : Ans) := by unfold aTrav; rw [if_neg (fun e => b01_f hr_2 c_20 e.2)]
      refine W.widen (k := 1) (n := 7) (Nat.le_of_ble_eq_true rfl) (Nat.le_of_ble_eq_true rfl) ?_
      exact W.iret (v := r_n) hx hb hr (fun t9 h9 hW9 => ⟨⟨_, (), rfl, (hr_n.trans (congrArg (fun a : Ans => a.2.1) hE).symm), by dsimp only; rw [h9, hE]; exact ⟨hMO, hSP, hC⟩⟩, hS.F h9⟩) hS.2.2 dX4_traveller_37
    · have hT2 := b01_t hr_2 c_20
      obtain ⟨i, hi, hkj⟩ := i_in (n := 6) rfl hT2.1 hT2.2
      subst hkj
      have hclw := nI_clamp (n := i) (by omega)
      have hz : sz ≤ H.size := by rw [hbut.1, hsz]; exact Nat.le_refl _
      refine lv_aload_n hx hb dX4_traveller_23 rfl (lv_at hl 0 rfl) ?_
      refine lv_iload_n hx hb dX4_traveller_24 rfl (lv_at hl 1 rfl) ?_
      refine lv_iload_n hx hb dX4_traveller_25 rfl (lv_at hl 2 rfl) ?_
      refine va_calli (va_runV (As := [.int (nI j), .int (nI i)]) (rest := []) ⟨hx, hb, hml, hown, hts⟩ (met_X4_told l g T H.size (C 0) M B 0 S hok j i hj (by omega)) (cwV 2 hts (lw_V q789 q791 qs8 q21 q792) rfl rfl rfl (by decide +kernel) ⟨Nat.le_of_ble_eq_true rfl, Nat.le_of_ble_eq_true rfl⟩) (gg_preV hG (hS.kp hG hAN) (gg_recv hG h_m rfl) ⟨rfl, hMO, hSP⟩) rfl rfl hl.1 rfl (lv_room (Nat.le_of_ble_eq_true rfl)) dX4_traveller_26 ⟨Nat.le_of_ble_eq_true rfl, Nat.le_of_ble_eq_true rfl⟩) hS (fun q _ e => Or.inr (Nat.le_trans hz e)) (fun q e => Or.inr (Nat.le_trans hz e)) (fun r_t u t9 H1 locs ht hvm hr_t hQ hz1 hk1 hS => ?_)
      have hMX := MX.kept ⟨hMO, hSP, hC⟩ (fun q h8 _ => hk1 q h8 (Nat.not_le.mpr h8))
      have hz := Nat.le_trans hz hz1
      obtain ⟨hMO, hSP, hC⟩ := hMX
      have h_m := hMO.m0
      generalize H1 = H at hMO hSP hC h_m hz hS ⊢
      refine lv_goto (tgt := 37) hx hb dX4_traveller_29 (by decide) ?_
      have hE : aTrav S (nI j) (nI i) = ((0, tTold (sTv S j) i, S) : Ans) := by unfold aTrav; rw [if_pos ⟨hT1, hT2⟩, hcl, hclw]
      refine W.widen (k := 1) (n := 7) (Nat.le_of_ble_eq_true rfl) (Nat.le_of_ble_eq_true rfl) ?_
      exact W.iret (v := r_t) hx hb hr (fun t9 h9 hW9 => ⟨⟨_, (), rfl, (hr_t.trans (congrArg (fun a : Ans => a.2.1) hE).symm), by dsimp only; rw [h9, hE]; exact ⟨hMO, hSP, hC⟩⟩, hS.F h9⟩) hS.2.2 dX4_traveller_37

set_option maxHeartbeats 4000000 in
theorem met_X4_digest (l : Launch) (g : GT) (T sz : Nat) (M B C : Nat → Nat) (th : Int32) (S : BS) (hok : OKS T S) (hD : MD g M B C) : Met l yX4_digest (ws_ yX4_digest cX4_digest 5 (Option.some Jvm.ClassFile.FieldType.long)) ({ frames := 3, cells := 280, slots := 1960, locals := 64 } : Room) (PcG g [.ref (M 0)] (fun H => H.size = sz ∧ MX g M B C th S H)) (va_Ql (fun (r : Int64) (_ : Unit) => r = bDig S) (fun _ u => MX g M B C 0 S u.heap) (fun q => FM M B C q ∨ sz ≤ q)) 280 1960 (fun q => FM M B C q ∨ sz ≤ q) := by
  refine gg_met (cc := cX4_digest) (maxL := 5) (ret := (Option.some Jvm.ClassFile.FieldType.long)) (by decide) (Nat.le_of_ble_eq_true rfl) ?_
  intro p e s m below meth c hx hb hr hlk hin hml hown hts hG hB ls hl
  have hown : s.vm.findClass RX4 = some m.cls := hown
  have hl : lv_has ls 5 [(0, .ref (M 0))] := hl
  obtain ⟨hsz, hMO, hSP, hC⟩ := hB
  have h_m := hMO.m0
  have nM := hD.1.ne
  have iM := hD.1
  have iB := hD.2.1
  have iC := hD.2.2.1
  have nBM := hD.2.2.2.1
  have nMB := hD.2.2.2.1.symm
  have nCM := hD.2.2.2.2.1
  have nMC := hD.2.2.2.2.1.symm
  have nBC := hD.2.2.2.2.2.1
  have nCB := hD.2.2.2.2.2.1.symm
  have gB9 := hD.2.2.2.2.2.2.2.1
  have gC9 := hD.2.2.2.2.2.2.2.2
  have hAN : ∀ q, FM M B C q ∨ sz ≤ q → gA g q := fun q e => e.elim (hD.an q) (fun e => Nat.le_trans (by rw [← hsz]; exact hG.sz) e)
  have hS : va_S (fun q => FM M B C q ∨ sz ≤ q) s.heap s.heap [] := va_S.rf
  have hn40 : sN S ≤ 40 := hok.2.2.2.2.2.2.2.1
  refine lv_aload_n hx hb dX4_digest_0 rfl (lv_at hl 0 rfl) ?_
  refine lv_iconst (v := 0) hx hb dX4_digest_1 (by decide) ?_
  refine gg_put (ci := 4) (v := .int 0) (C := RX4) (T := TX4) (N := 8) hx hb hts in_X4 tyX4 tyX4_ok nmX4 hown hG h_m hS (Or.inl (FM_m0 rfl)) rfl 0 (by decide) q716 rfl rfl rfl rfl (Nat.le_of_ble_eq_true rfl) dX4_digest_2 (fun H locs h_m hbut hS => ?_)
  have h_m : va_at (gD g) bbCl ((M 0), .inr (4, [.int 0, .int (nI (sN S)), .ref (M 1), .ref (M 2), .ref (M 3), .ref (M 4), .ref (B 0), .ref (C 0)])) H := h_m
  have hMO := hMO.put iM (fun q _ h9 => hbut.2 q h9) h_m
  have hSP := hSP.kept (fun i hi9 _ => hbut.2 _ (nBM i 0 hi9 (by decide)))
  have hC := hC.kept (fun i hi9 _ => hbut.2 _ (nCM i 0 hi9 (by decide)))
  refine lv_ldc2 (v := 1021) hx hb hown (hts _ q884) dX4_digest_5 ?_
  refine lv_lstore_n (lv' := [(1, .long 1021), (0, .ref (M 0))]) hx hb dX4_digest_8 rfl hl (by decide) rfl (fun ls hl => ?_)
  have hz : sz ≤ H.size := by rw [hbut.1, hsz]; exact Nat.le_refl _
  obtain ⟨fb, fn, fc, -, -, -, -, h_cd, -⟩ := id hMO
  refine lv_iconst (v := 0) hx hb dX4_digest_9 (by decide) ?_
  refine lv_istore_n (lv' := [(3, .int 0), (1, .long 1021), (0, .ref (M 0))]) hx hb dX4_digest_10 rfl hl (by decide) rfl (fun ls hl => ?_)
  have la : ∀ (d a : Nat), a ≤ 12 → 12 + 1 ≤ a + d → ∀ ls : Array Slot, lv_has ls 5 [(3, .int (nI a)), (1, .long (dgs (bCnt S) 1021 a)), (0, .ref (M 0))] → W p l e ({ frames := 3, cells := 280, slots := 1960, locals := 64 } : Room) s m ([.ref (M 0)] : List Value).toArray below meth c H locs 0 0 (MQ below (va_Ql (fun (r : Int64) (_ : Unit) => r = bDig S) (fun _ u => MX g M B C 0 S u.heap) (fun q => FM M B C q ∨ sz ≤ q)) ([.ref (M 0)] : List Value).toArray s 280 1960 (fun q => FM M B C q ∨ sz ≤ q)) (F0 m 11 ls []) := by
    intro d
    induction d with
    | zero => intro a h1 h2; exact absurd h2 (by omega)
    | succ d ih_la =>
      intro a han had ls hl
      refine lv_iload_n hx hb dX4_digest_11 rfl (lv_at hl 0 rfl) ?_
      refine lv_bipush (v := 11) hx hb dX4_digest_12 (by decide) ?_
      refine lv_icmp_gt (tgt := 39) hx hb dX4_digest_14 (by decide) (fun c_14 => ?_) (fun c_14 => ?_)
      · have hal : a = 12 := by rcases Nat.lt_or_ge a 12 with q | q; exact absurd (show nI 11 < nI a from c_14) (nI_nlt (by omega) (by decide)); omega
        subst hal
        refine lv_iconst (v := 0) hx hb dX4_digest_39 (by decide) ?_
        refine lv_istore_n (lv' := [(3, .int 0), (1, .long (dgs (bCnt S) 1021 12)), (0, .ref (M 0))]) hx hb dX4_digest_40 rfl hl (by decide) rfl (fun ls hl => ?_)
        have lb : ∀ (d i : Nat), i ≤ 8 → 8 + 1 ≤ i + d → ∀ ls : Array Slot, lv_has ls 5 [(3, .int (nI i)), (1, .long (dgs (sCd S) (bDig1 S) i)), (0, .ref (M 0))] → W p l e ({ frames := 3, cells := 280, slots := 1960, locals := 64 } : Room) s m ([.ref (M 0)] : List Value).toArray below meth c H locs 0 0 (MQ below (va_Ql (fun (r : Int64) (_ : Unit) => r = bDig S) (fun _ u => MX g M B C 0 S u.heap) (fun q => FM M B C q ∨ sz ≤ q)) ([.ref (M 0)] : List Value).toArray s 280 1960 (fun q => FM M B C q ∨ sz ≤ q)) (F0 m 41 ls []) := by
          intro d
          induction d with
          | zero => intro i h1 h2; exact absurd h2 (by omega)
          | succ d ih_lb =>
            intro i hin hid ls hl
            refine lv_iload_n hx hb dX4_digest_41 rfl (lv_at hl 0 rfl) ?_
            refine lv_bipush (v := 8) hx hb dX4_digest_42 (by decide) ?_
            refine lv_icmp_ge (tgt := 67) hx hb dX4_digest_44 (by decide) (fun c_44 => ?_) (fun c_44 => ?_)
            · have hil : i = 8 := by rcases Nat.lt_or_ge i (8) with q | q; exact absurd (show nI (8) ≤ nI i from c_44) (nI_ge q (by omega)); omega
              subst hil
              refine lv_iconst (v := 0) hx hb dX4_digest_67 (by decide) ?_
              refine lv_istore_n (lv' := [(3, .int 0), (1, .long (dgs (sCd S) (bDig1 S) 8)), (0, .ref (M 0))]) hx hb dX4_digest_68 rfl hl (by decide) rfl (fun ls hl => ?_)
              have lc : ∀ (d k : Nat), k ≤ sN S → sN S + 1 ≤ k + d → ∀ (H : Heap) (locs : List Loc) (cl9 sl9 : Nat), cl9 ≤ 7 * k → sl9 ≤ 49 * k → sz ≤ H.size → MX g M B C 0 S H → va_S (fun q => FM M B C q ∨ sz ≤ q) s.heap H locs → ∀ ls : Array Slot, lv_has ls 5 [(3, .int (nI k)), (1, .long (dgT S (bDig2 S) k)), (0, .ref (M 0))] → W p l e ({ frames := 3, cells := 280, slots := 1960, locals := 64 } : Room) s m ([.ref (M 0)] : List Value).toArray below meth c H locs cl9 sl9 (MQ below (va_Ql (fun (r : Int64) (_ : Unit) => r = bDig S) (fun _ u => MX g M B C 0 S u.heap) (fun q => FM M B C q ∨ sz ≤ q)) ([.ref (M 0)] : List Value).toArray s 280 1960 (fun q => FM M B C q ∨ sz ≤ q)) (F0 m 69 ls []) := by
                clear hMO hSP hC h_m hS hz
                intro d
                induction d with
                | zero => intro k h1 h2; exact absurd h2 (by omega)
                | succ d ih_lc =>
                  intro k hkn hkd H locs cl9 sl9 hcl9 hsl9 hz hMX hS ls hl
                  obtain ⟨hMO, hSP, hC⟩ := hMX
                  have h_m := hMO.m0
                  refine lv_iload_n hx hb dX4_digest_69 rfl (lv_at hl 0 rfl) ?_
                  refine lv_aload_n hx hb dX4_digest_70 rfl (lv_at hl 2 rfl) ?_
                  refine gg_get (ci := 4) (C := RX4) (T := TX4) (N := 8) (v := .int (nI (sN S))) hx hb hts in_X4 hown hG h_m rfl 1 (by decide) q717 rfl rfl dX4_digest_71 ?_
                  refine lv_icmp_ge (tgt := 114) hx hb dX4_digest_74 (by decide) (fun c_74 => ?_) (fun c_74 => ?_)
                  · have hkl : k = (sN S) := by rcases Nat.lt_or_ge k ((sN S)) with q | q; exact absurd (show nI ((sN S)) ≤ nI k from c_74) (nI_ge q (by omega)); omega
                    subst hkl
                    refine lv_lload_n hx hb dX4_digest_114 rfl (lv_at hl 1 rfl) ?_
                    refine W.widen (k := 280) (n := 1960) (by omega) (by omega) ?_
                    exact W.lret (v := (dgT S (bDig2 S) (sN S))) hx hb hr (fun t9 h9 hW9 => ⟨⟨_, (), rfl, rfl, by dsimp only; rw [h9]; exact ⟨hMO, hSP, hC⟩⟩, hS.F h9⟩) hS.2.2 dX4_digest_115
                  · have hkl : k < sN S := by rcases Nat.lt_or_ge k (sN S) with q | q; exact q; exact absurd (show nI (sN S) ≤ nI k from nI_le q (by omega)) c_74
                    refine lv_iconst (v := 0) hx hb dX4_digest_77 (by decide) ?_
                    refine lv_istore (lv' := [(4, .int 0), (3, .int (nI k)), (1, .long (dgT S (bDig2 S) k)), (0, .ref (M 0))]) hx hb dX4_digest_78 hl (by decide) rfl (fun ls hl => ?_)
                    have ld : ∀ (d w : Nat), w ≤ 7 → 7 + 1 ≤ w + d → ∀ (H : Heap) (locs : List Loc) (cl9 sl9 : Nat), cl9 ≤ 7 * k + w → sl9 ≤ 49 * k + 7 * w → sz ≤ H.size → MX g M B C 0 S H → va_S (fun q => FM M B C q ∨ sz ≤ q) s.heap H locs → ∀ ls : Array Slot, lv_has ls 5 [(4, .int (nI w)), (3, .int (nI k)), (1, .long (dgs (tTold (sTv S k)) (dgT S (bDig2 S) k) w)), (0, .ref (M 0))] → W p l e ({ frames := 3, cells := 280, slots := 1960, locals := 64 } : Room) s m ([.ref (M 0)] : List Value).toArray below meth c H locs cl9 sl9 (MQ below (va_Ql (fun (r : Int64) (_ : Unit) => r = bDig S) (fun _ u => MX g M B C 0 S u.heap) (fun q => FM M B C q ∨ sz ≤ q)) ([.ref (M 0)] : List Value).toArray s 280 1960 (fun q => FM M B C q ∨ sz ≤ q)) (F0 m 80 ls []) := by
                      clear hMO hSP hC h_m hS hz
                      intro d
                      induction d with
                      | zero => intro w h1 h2; exact absurd h2 (by omega)
                      | succ d ih_ld =>
                        intro w hwn hwd H locs cl9 sl9 hcl9 hsl9 hz hMX hS ls hl
                        obtain ⟨hMO, hSP, hC⟩ := hMX
                        have h_m := hMO.m0
                        refine lv_iload hx hb dX4_digest_80 (lv_at hl 0 rfl) ?_
                        refine lv_bipush (v := 6) hx hb dX4_digest_82 (by decide) ?_
                        refine lv_icmp_gt (tgt := 108) hx hb dX4_digest_84 (by decide) (fun c_84 => ?_) (fun c_84 => ?_)
                        · have hwl : w = 7 := by rcases Nat.lt_or_ge w 7 with q | q; exact absurd (show nI 6 < nI w from c_84) (nI_nlt (by omega) (by decide)); omega
                          subst hwl
                          refine lv_iinc (v := nI (k + 1)) (lv' := [(3, .int (nI (k + 1))), (4, .int (nI 7)), (1, .long (dgs (tTold (sTv S k)) (dgT S (bDig2 S) k) 7)), (0, .ref (M 0))]) hx hb dX4_digest_108 hl (k := 1) rfl (nI_1 k) (by decide) rfl (fun ls hl => ?_)
                          refine lv_goto (tgt := 69) hx hb dX4_digest_111 (by decide) ?_
                          exact ih_lc (k + 1) (by omega) (by omega) _ _ _ _ (by omega) (by omega) hz ⟨hMO, hSP, hC⟩ hS ls (lv_sub hl [0, 2, 3] rfl)
                        · have hwl : w < 7 := by rcases Nat.lt_or_ge w 7 with q | q; exact q; exact absurd (show nI 6 < nI w from nI_lt (by omega) (by omega)) c_84
                          refine lv_lload_n hx hb dX4_digest_87 rfl (lv_at hl 2 rfl) ?_
                          refine lv_ldc2 (v := 31) hx hb hown (hts _ q885) dX4_digest_88 ?_
                          refine lv_lmul hx hb dX4_digest_91 ?_
                          refine lv_aload_n hx hb dX4_digest_92 rfl (lv_at hl 3 rfl) ?_
                          refine lv_iload_n hx hb dX4_digest_93 rfl (lv_at hl 1 rfl) ?_
                          refine lv_iload hx hb dX4_digest_94 (lv_at hl 0 rfl) ?_
                          refine va_calli (va_runV (As := [.int (nI k), .int (nI w)]) (rest := [.long ((dgs (tTold (sTv S k)) (dgT S (bDig2 S) k) w) * 31)]) ⟨hx, hb, hml, hown, hts⟩ (met_X4_told l g T H.size (C 0) M B 0 S hok k w hkl hwl) (cwV 2 hts (lw_V q789 q791 qs8 q21 q792) rfl rfl rfl (by decide +kernel) ⟨Nat.le_of_ble_eq_true rfl, Nat.le_of_ble_eq_true rfl⟩) (gg_preV hG (hS.kp hG hAN) (gg_recv hG h_m rfl) ⟨rfl, hMO, hSP⟩) rfl rfl hl.1 rfl (lv_room (Nat.le_of_ble_eq_true rfl)) dX4_digest_96 ⟨by show cl9 + 1 ≤ 280; omega, by show sl9 + 7 ≤ 1960; omega⟩) hS (fun q _ e => Or.inr (Nat.le_trans hz e)) (fun q e => Or.inr (Nat.le_trans hz e)) (fun r_t u t9 H1 locs ht hvm hr_t hQ hz1 hk1 hS => ?_)
                          have hMX := MX.kept ⟨hMO, hSP, hC⟩ (fun q h8 _ => hk1 q h8 (Nat.not_le.mpr h8))
                          have hz := Nat.le_trans hz hz1
                          obtain ⟨hMO, hSP, hC⟩ := hMX
                          have h_m := hMO.m0
                          generalize H1 = H at hMO hSP hC h_m hz hS ⊢
                          refine lv_i2l hx hb dX4_digest_99 rfl ?_
                          refine lv_ladd hx hb dX4_digest_100 ?_
                          rw [show (((dgs (tTold (sTv S k)) (dgT S (bDig2 S) k) w) * 31) + (r_t).toInt64) = (dgs (tTold (sTv S k)) (dgT S (bDig2 S) k) (w + 1)) by rw [hr_t]; rfl]
                          refine lv_lstore_n (lv' := [(1, .long (dgs (tTold (sTv S k)) (dgT S (bDig2 S) k) (w + 1))), (4, .int (nI w)), (3, .int (nI k)), (0, .ref (M 0))]) hx hb dX4_digest_101 rfl hl (by decide) rfl (fun ls hl => ?_)
                          refine lv_iinc (v := nI (w + 1)) (lv' := [(4, .int (nI (w + 1))), (1, .long (dgs (tTold (sTv S k)) (dgT S (bDig2 S) k) (w + 1))), (3, .int (nI k)), (0, .ref (M 0))]) hx hb dX4_digest_102 hl (k := 1) rfl (nI_1 w) (by decide) rfl (fun ls hl => ?_)
                          refine lv_goto (tgt := 80) hx hb dX4_digest_105 (by decide) ?_
                          exact ih_ld (w + 1) (by omega) (by omega) _ _ _ _ (by omega) (by omega) hz ⟨hMO, hSP, hC⟩ hS ls (lv_sub hl [0, 2, 1, 3] rfl)
                    exact ld (7 + 1) 0 (Nat.zero_le _) (by omega) _ _ _ _ (by omega) (by omega) hz ⟨hMO, hSP, hC⟩ hS ls (lv_sub hl [0, 1, 2, 3] rfl)
              exact lc (sN S + 1) 0 (Nat.zero_le _) (by omega) _ _ _ _ (Nat.zero_le _) (Nat.zero_le _) hz ⟨hMO, hSP, hC⟩ hS ls (lv_sub hl [0, 1, 2] rfl)
            · have hil : i < 8 := by rcases Nat.lt_or_ge i (8) with q | q; exact q; exact absurd (show nI (8) ≤ nI i from nI_le q (by omega)) c_44
              refine lv_lload_n hx hb dX4_digest_47 rfl (lv_at hl 1 rfl) ?_
              refine lv_ldc2 (v := 31) hx hb hown (hts _ q885) dX4_digest_48 ?_
              refine lv_lmul hx hb dX4_digest_51 ?_
              refine lv_aload_n hx hb dX4_digest_52 rfl (lv_at hl 2 rfl) ?_
              refine gg_get (ci := 4) (C := RX4) (T := TX4) (N := 8) (v := .ref (M 4)) hx hb hts in_X4 hown hG h_m rfl 5 (by decide) q724 rfl rfl dX4_digest_53 ?_
              refine lv_iload_n hx hb dX4_digest_56 rfl (lv_at hl 0 rfl) ?_
              refine gg_iald hx hb hG h_cd i hil (by decide) rfl dX4_digest_57 ?_
              refine lv_i2l hx hb dX4_digest_58 rfl ?_
              refine lv_ladd hx hb dX4_digest_59 ?_
              rw [show (((dgs (sCd S) (bDig1 S) i) * 31) + (((sCd S) i)).toInt64) = (dgs (sCd S) (bDig1 S) (i + 1)) by rfl]
              refine lv_lstore_n (lv' := [(1, .long (dgs (sCd S) (bDig1 S) (i + 1))), (3, .int (nI i)), (0, .ref (M 0))]) hx hb dX4_digest_60 rfl hl (by decide) rfl (fun ls hl => ?_)
              refine lv_iinc (v := nI (i + 1)) (lv' := [(3, .int (nI (i + 1))), (1, .long (dgs (sCd S) (bDig1 S) (i + 1))), (0, .ref (M 0))]) hx hb dX4_digest_61 hl (k := 1) rfl (nI_1 i) (by decide) rfl (fun ls hl => ?_)
              refine lv_goto (tgt := 41) hx hb dX4_digest_64 (by decide) ?_
              exact ih_lb (i + 1) (by omega) (by omega) ls (lv_sub hl [0, 1, 2] rfl)
        exact lb (8 + 1) 0 (Nat.zero_le _) (by omega) ls (lv_sub hl [0, 1, 2] rfl)
      · have hal : a < 12 := by rcases Nat.lt_or_ge a 12 with q | q; exact q; exact absurd (show nI 11 < nI a from nI_lt (by omega) (by omega)) c_14
        refine lv_lload_n hx hb dX4_digest_17 rfl (lv_at hl 1 rfl) ?_
        refine lv_ldc2 (v := 31) hx hb hown (hts _ q885) dX4_digest_18 ?_
        refine lv_lmul hx hb dX4_digest_21 ?_
        refine lv_aload_n hx hb dX4_digest_22 rfl (lv_at hl 2 rfl) ?_
        refine gg_get (ci := 4) (C := RX4) (T := TX4) (N := 8) (v := .ref (B 0)) hx hb hts in_X4 hown hG h_m rfl 6 (by decide) q726 rfl rfl dX4_digest_23 ?_
        refine lv_iload_n hx hb dX4_digest_26 rfl (lv_at hl 0 rfl) ?_
        refine vp_callSi (va_Run.run (va_runV (As := [.int (nI a)]) (rest := [.long ((dgs (bCnt S) 1021 a) * 31)]) ⟨hx, hb, hml, hown, hts⟩ (met_X5_counted l g T (M 0) (B 0) S a hal) (cwV 1 hts (lw_V q797 q798 q799 q22 q800) rfl rfl rfl (by decide +kernel) ⟨Nat.le_of_ble_eq_true rfl, Nat.le_of_ble_eq_true rfl⟩) (gg_preV hG (hS.kp hG hAN) (gg_recv hG hSP.b0 rfl) (RM.of hMO hSP hok)) rfl rfl hl.1 rfl (lv_room (Nat.le_of_ble_eq_true rfl)) dX4_digest_27 ⟨Nat.le_of_ble_eq_true rfl, Nat.le_of_ble_eq_true rfl⟩)) (fun r_1 hr_1 => ?_)
        refine lv_i2l hx hb dX4_digest_30 rfl ?_
        refine lv_ladd hx hb dX4_digest_31 ?_
        rw [show (((dgs (bCnt S) 1021 a) * 31) + (r_1).toInt64) = (dgs (bCnt S) 1021 (a + 1)) by rw [hr_1]; rfl]
        refine lv_lstore_n (lv' := [(1, .long (dgs (bCnt S) 1021 (a + 1))), (3, .int (nI a)), (0, .ref (M 0))]) hx hb dX4_digest_32 rfl hl (by decide) rfl (fun ls hl => ?_)
        refine lv_iinc (v := nI (a + 1)) (lv' := [(3, .int (nI (a + 1))), (1, .long (dgs (bCnt S) 1021 (a + 1))), (0, .ref (M 0))]) hx hb dX4_digest_33 hl (k := 1) rfl (nI_1 a) (by decide) rfl (fun ls hl => ?_)
        refine lv_goto (tgt := 11) hx hb dX4_digest_36 (by decide) ?_
        exact ih_la (a + 1) (by omega) (by omega) ls (lv_sub hl [0, 1, 2] rfl)
  exact la (12 + 1) 0 (Nat.zero_le _) (by omega) ls (lv_sub hl [0, 1, 2] rfl)

set_option maxHeartbeats 4000000 in
theorem met_X4_init (l : Launch) (g : GT) (x sz : Nat) (hxz : x < sz) (hNx : gA g x) : Met l yX4_init (ws_ yX4_init cX4_init 1 none) ({ frames := 2, cells := 14, slots := 472, locals := 41 } : Room) (PcG g [.ref x] (fun H => H.size = sz ∧ va_at (gD g) bbCl (x, .inr (4, [.int 0, .int 0, .null, .null, .null, .null, .null, .null])) H)) (va_Qv (fun _ : Unit => True) (fun _ u => ∃ M B C : Nat → Nat, M 0 = x ∧ MD g M B C ∧ (∀ q, FM M B C q → q = x ∨ (sz ≤ q ∧ q < u.heap.size)) ∧ MX g M B C 0 bs0 u.heap) (fun q => q = x ∨ sz ≤ q)) 14 472 (fun q => q = x ∨ sz ≤ q) := by
  refine gg_met (cc := cX4_init) (maxL := 1) (ret := none) (by decide) (Nat.le_of_ble_eq_true rfl) ?_
  intro p e s m below meth c hx hb hr hlk hin hml hown hts hG hB ls hl
  have hown : s.vm.findClass RX4 = some m.cls := hown
  have hl : lv_has ls 1 [(0, .ref x)] := hl
  obtain ⟨hz, h_x⟩ := hB
  have hAN : ∀ q, q = x ∨ sz ≤ q → gA g q := fun q e => e.elim (fun e => by rw [e]; exact hNx) (fun e => Nat.le_trans (by rw [← hz]; exact hG.sz) e)
  have hS : va_S (fun q => q = x ∨ sz ≤ q) s.heap s.heap [] := va_S.rf
  have hN0 : gN g ≤ sz := by rw [← hz]; exact hG.sz
  refine lv_aload_n hx hb dX4_init_0 rfl (lv_at hl 0 rfl) ?_
  refine W.objInit hx hb hown (hts _ q663) (hts _ q45) (hts _ q46) rfl (by rw [hml]; exact hl.1) rfl dX4_init_1 (Nat.le_of_ble_eq_true rfl) (Nat.le_of_ble_eq_true rfl) ?_
  refine W.eq (g2 := F0 m 4 ls []) rfl ?_
  refine lv_aload_n hx hb dX4_init_4 rfl (lv_at hl 0 rfl) ?_
  refine lv_bipush (v := 40) hx hb dX4_init_5 (by decide) ?_
  refine gg_newi (N' := 40) hx hb hts hG hS rfl (by decide) (Nat.le_of_ble_eq_true rfl) (Nat.le_of_ble_eq_true rfl) dX4_init_7 (fun a1 H ha1 h_a1 hgr hS => ?_)
  have ha1 : a1 = sz + 0 := ha1.trans hz
  have hz : H.size = sz + 1 := by rw [hgr.1, hz]
  have h_x := h_x.grow hgr
  refine gg_putF (ci := 4) (v := .ref a1) (C := RX4) (T := TX4) (N := 8) hx hb hts in_X4 tyX4 tyX4_ok nmX4 hown hG h_x hS (Or.inl rfl) rfl 2 (by decide) q719 rfl rfl hin rfl rfl (Nat.le_of_ble_eq_true rfl) dX4_init_9 (fun H locs h_x hbut hS => ?_)
  have h_x : va_at (gD g) bbCl (x, .inr (4, [.int 0, .int 0, .ref a1, .null, .null, .null, .null, .null])) H := h_x
  have h_a1 := h_a1.but hbut (ne_up hxz ha1)
  have hz : H.size = sz + 1 := by rw [hbut.1, hz]
  refine lv_aload_n hx hb dX4_init_12 rfl (lv_at hl 0 rfl) ?_
  refine lv_bipush (v := 40) hx hb dX4_init_13 (by decide) ?_
  refine gg_newi (N' := 40) hx hb hts hG hS rfl (by decide) (Nat.le_of_ble_eq_true rfl) (Nat.le_of_ble_eq_true rfl) dX4_init_15 (fun a2 H ha2 h_a2 hgr hS => ?_)
  have ha2 : a2 = sz + 1 := ha2.trans hz
  have hz : H.size = sz + 2 := by rw [hgr.1, hz]
  have h_x := h_x.grow hgr
  have h_a1 := h_a1.grow hgr
  refine gg_putF (ci := 4) (v := .ref a2) (C := RX4) (T := TX4) (N := 8) hx hb hts in_X4 tyX4 tyX4_ok nmX4 hown hG h_x hS (Or.inl rfl) rfl 3 (by decide) q721 rfl rfl hin rfl rfl (Nat.le_of_ble_eq_true rfl) dX4_init_17 (fun H locs h_x hbut hS => ?_)
  have h_x : va_at (gD g) bbCl (x, .inr (4, [.int 0, .int 0, .ref a1, .ref a2, .null, .null, .null, .null])) H := h_x
  have h_a1 := h_a1.but hbut (ne_up hxz ha1)
  have h_a2 := h_a2.but hbut (ne_up hxz ha2)
  have hz : H.size = sz + 2 := by rw [hbut.1, hz]
  refine lv_aload_n hx hb dX4_init_20 rfl (lv_at hl 0 rfl) ?_
  refine lv_bipush (v := 40) hx hb dX4_init_21 (by decide) ?_
  refine gg_newi (N' := 40) hx hb hts hG hS rfl (by decide) (Nat.le_of_ble_eq_true rfl) (Nat.le_of_ble_eq_true rfl) dX4_init_23 (fun a3 H ha3 h_a3 hgr hS => ?_)
  have ha3 : a3 = sz + 2 := ha3.trans hz
  have hz : H.size = sz + 3 := by rw [hgr.1, hz]
  have h_x := h_x.grow hgr
  have h_a1 := h_a1.grow hgr
  have h_a2 := h_a2.grow hgr
  refine gg_putF (ci := 4) (v := .ref a3) (C := RX4) (T := TX4) (N := 8) hx hb hts in_X4 tyX4 tyX4_ok nmX4 hown hG h_x hS (Or.inl rfl) rfl 4 (by decide) q723 rfl rfl hin rfl rfl (Nat.le_of_ble_eq_true rfl) dX4_init_25 (fun H locs h_x hbut hS => ?_)
  have h_x : va_at (gD g) bbCl (x, .inr (4, [.int 0, .int 0, .ref a1, .ref a2, .ref a3, .null, .null, .null])) H := h_x
  have h_a1 := h_a1.but hbut (ne_up hxz ha1)
  have h_a2 := h_a2.but hbut (ne_up hxz ha2)
  have h_a3 := h_a3.but hbut (ne_up hxz ha3)
  have hz : H.size = sz + 3 := by rw [hbut.1, hz]
  refine lv_aload_n hx hb dX4_init_28 rfl (lv_at hl 0 rfl) ?_
  refine lv_bipush (v := 8) hx hb dX4_init_29 (by decide) ?_
  refine gg_newi (N' := 8) hx hb hts hG hS rfl (by decide) (Nat.le_of_ble_eq_true rfl) (Nat.le_of_ble_eq_true rfl) dX4_init_31 (fun a4 H ha4 h_a4 hgr hS => ?_)
  have ha4 : a4 = sz + 3 := ha4.trans hz
  have hz : H.size = sz + 4 := by rw [hgr.1, hz]
  have h_x := h_x.grow hgr
  have h_a1 := h_a1.grow hgr
  have h_a2 := h_a2.grow hgr
  have h_a3 := h_a3.grow hgr
  refine gg_putF (ci := 4) (v := .ref a4) (C := RX4) (T := TX4) (N := 8) hx hb hts in_X4 tyX4 tyX4_ok nmX4 hown hG h_x hS (Or.inl rfl) rfl 5 (by decide) q724 rfl rfl hin rfl rfl (Nat.le_of_ble_eq_true rfl) dX4_init_33 (fun H locs h_x hbut hS => ?_)
  have h_x : va_at (gD g) bbCl (x, .inr (4, [.int 0, .int 0, .ref a1, .ref a2, .ref a3, .ref a4, .null, .null])) H := h_x
  have h_a1 := h_a1.but hbut (ne_up hxz ha1)
  have h_a2 := h_a2.but hbut (ne_up hxz ha2)
  have h_a3 := h_a3.but hbut (ne_up hxz ha3)
  have h_a4 := h_a4.but hbut (ne_up hxz ha4)
  have hz : H.size = sz + 4 := by rw [hbut.1, hz]
  refine lv_aload_n hx hb dX4_init_36 rfl (lv_at hl 0 rfl) ?_
  refine gg_new (C := RX5) (T := TX5) (N := 12) (ci := 5) (fs := [.int 0, .int 0, .int 0, .int 0, .int 0, .int 0, .int 0, .null, .null, .null, .null, .null]) hx hb hts in_X5 tyX5 tyX5_ok hown q664 q665 q22 hG hS rfl (fun j hj => by rcases (show j = 0 ∨ j = 1 ∨ j = 2 ∨ j = 3 ∨ j = 4 ∨ j = 5 ∨ j = 6 ∨ j = 7 ∨ j = 8 ∨ j = 9 ∨ j = 10 ∨ j = 11 by omega) with rfl | rfl | rfl | rfl | rfl | rfl | rfl | rfl | rfl | rfl | rfl | rfl <;> rfl) (Nat.le_of_ble_eq_true rfl) (Nat.le_of_ble_eq_true rfl) dX4_init_37 (fun st1 H hst1 h_st1 hgr hS => ?_)
  have hst1 := hst1.trans hz
  have h_x := h_x.grow hgr
  have h_a1 := h_a1.grow hgr
  have h_a2 := h_a2.grow hgr
  have h_a3 := h_a3.grow hgr
  have h_a4 := h_a4.grow hgr
  have hz : H.size = sz + 5 := by rw [hgr.1, hz]
  refine lv_dup hx hb dX4_init_40 rfl ?_
  refine lv_aload_n hx hb dX4_init_41 rfl (lv_at hl 0 rfl) ?_
  refine va_callv (va_runIN (As := [.ref x]) (rest := [.ref st1, .ref x]) ⟨hx, hb, hml, hown, hts⟩ (met_X5_init l g st1 x (sz + 5) (lt_k 5 hst1 (by decide)) (Nat.le_trans hN0 (by rw [hst1]; exact Nat.le_add_right sz 4))) ⟨va_cnB 1 hts (lw_meth q668) rfl rfl rfl (hG.nw q666 rfl) (hts _ q22) (by decide +kernel) ⟨Nat.le_of_ble_eq_true rfl, Nat.le_of_ble_eq_true rfl⟩, rfl, hts _ q667⟩ (gg_preS hG (hS.kp hG hAN) ⟨hz, h_st1⟩) rfl rfl hl.1 rfl (lv_room (Nat.le_of_ble_eq_true rfl)) dX4_init_42 ⟨Nat.le_of_ble_eq_true rfl, Nat.le_of_ble_eq_true rfl⟩) hS (fun (q : Nat) _ e => Or.inr (by rcases (show q = st1 ∨ sz + 5 ≤ q from e) with e | e; rw [e, hst1]; exact Nat.le_add_right sz 4; exact Nat.le_trans (Nat.le_add_right sz 5) e)) (fun (q : Nat)  e => Or.inr (by rcases (show q = st1 ∨ sz + 5 ≤ q from e) with e | e; rw [e, hst1]; exact Nat.le_add_right sz 4; exact Nat.le_trans (Nat.le_add_right sz 5) e)) (fun u t9 H1 locs ht hvm _ hQ hzz hk1 hS => ?_)
  rw [ht] at hQ
  obtain ⟨B, hB0, iB, bB, hBP⟩ := hQ
  have hz1 : sz + 5 ≤ H1.size := by rw [← hz]; exact hzz
  have hstH : st1 < H1.size := Nat.lt_of_lt_of_le (lt_k 5 hst1 (by decide)) hz1
  have bB := b_all hB0 hstH (Nat.le_of_eq (by rw [hst1])) bB
  rw [hst1] at bB
  have h_x := h_x.kept (hk1 _ h_x.lt (out_ (Ne.symm (ne_up hxz hst1)) (Nat.lt_add_right 5 hxz)))
  have h_a1 := h_a1.kept (hk1 _ h_a1.lt (out_ (ne_k ha1 hst1 (by decide)) (lt_k 5 ha1 (by decide))))
  have h_a2 := h_a2.kept (hk1 _ h_a2.lt (out_ (ne_k ha2 hst1 (by decide)) (lt_k 5 ha2 (by decide))))
  have h_a3 := h_a3.kept (hk1 _ h_a3.lt (out_ (ne_k ha3 hst1 (by decide)) (lt_k 5 ha3 (by decide))))
  have h_a4 := h_a4.kept (hk1 _ h_a4.lt (out_ (ne_k ha4 hst1 (by decide)) (lt_k 5 ha4 (by decide))))
  obtain ⟨z1, hzq⟩ : ∃ z1, z1 = H1.size := ⟨_, rfl⟩
  rw [← hzq] at hz1 hstH bB
  have hz := hzq.symm
  clear hzq hzz hk1 h_st1 ht
  generalize H1 = H at h_x h_a1 h_a2 h_a3 h_a4 hBP hz hS ⊢
  refine gg_putF (ci := 4) (v := .ref st1) (C := RX4) (T := TX4) (N := 8) hx hb hts in_X4 tyX4 tyX4_ok nmX4 hown hG h_x hS (Or.inl rfl) rfl 6 (by decide) q726 rfl rfl hin rfl rfl (Nat.le_of_ble_eq_true rfl) dX4_init_45 (fun H locs h_x hbut hS => ?_)
  have h_x : va_at (gD g) bbCl (x, .inr (4, [.int 0, .int 0, .ref a1, .ref a2, .ref a3, .ref a4, .ref st1, .null])) H := h_x
  have h_a1 := h_a1.but hbut (ne_up hxz ha1)
  have h_a2 := h_a2.but hbut (ne_up hxz ha2)
  have h_a3 := h_a3.but hbut (ne_up hxz ha3)
  have h_a4 := h_a4.but hbut (ne_up hxz ha4)
  have hBP := hBP.kept (fun i hi9 _ => hbut.2 _ (Nat.ne_of_gt (Nat.lt_of_lt_of_le (Nat.lt_add_right 4 hxz) (bB i hi9).1)))
  have hz : H.size = z1 := by rw [hbut.1, hz]
  refine lv_aload_n hx hb dX4_init_48 rfl (lv_at hl 0 rfl) ?_
  refine gg_new (C := RX5) (T := TX5) (N := 12) (ci := 5) (fs := [.int 0, .int 0, .int 0, .int 0, .int 0, .int 0, .int 0, .null, .null, .null, .null, .null]) hx hb hts in_X5 tyX5 tyX5_ok hown q664 q665 q22 hG hS rfl (fun j hj => by rcases (show j = 0 ∨ j = 1 ∨ j = 2 ∨ j = 3 ∨ j = 4 ∨ j = 5 ∨ j = 6 ∨ j = 7 ∨ j = 8 ∨ j = 9 ∨ j = 10 ∨ j = 11 by omega) with rfl | rfl | rfl | rfl | rfl | rfl | rfl | rfl | rfl | rfl | rfl | rfl <;> rfl) (Nat.le_of_ble_eq_true rfl) (Nat.le_of_ble_eq_true rfl) dX4_init_49 (fun st2 H hst2 h_st2 hgr hS => ?_)
  have hst2 := hst2.trans hz
  have h_x := h_x.grow hgr
  have h_a1 := h_a1.grow hgr
  have h_a2 := h_a2.grow hgr
  have h_a3 := h_a3.grow hgr
  have h_a4 := h_a4.grow hgr
  have hz : H.size = z1 + 1 := by rw [hgr.1, hz]
  have hBP := hBP.kept (fun i hi9 hl9 => hgr.2 _ hl9)
  refine lv_dup hx hb dX4_init_52 rfl ?_
  refine lv_aload_n hx hb dX4_init_53 rfl (lv_at hl 0 rfl) ?_
  refine va_callv (va_runIN (As := [.ref x]) (rest := [.ref st2, .ref x]) ⟨hx, hb, hml, hown, hts⟩ (met_X5_init l g st2 x (z1 + 1) (by rw [hst2]; exact Nat.lt_succ_self z1) (Nat.le_trans hN0 (by rw [hst2]; exact Nat.le_trans (Nat.le_add_right sz 5) hz1))) ⟨va_cnB 1 hts (lw_meth q668) rfl rfl rfl (hG.nw q666 rfl) (hts _ q22) (by decide +kernel) ⟨Nat.le_of_ble_eq_true rfl, Nat.le_of_ble_eq_true rfl⟩, rfl, hts _ q667⟩ (gg_preS hG (hS.kp hG hAN) ⟨hz, h_st2⟩) rfl rfl hl.1 rfl (lv_room (Nat.le_of_ble_eq_true rfl)) dX4_init_54 ⟨Nat.le_of_ble_eq_true rfl, Nat.le_of_ble_eq_true rfl⟩) hS (fun (q : Nat) _ e => Or.inr (Nat.le_trans (Nat.le_trans (Nat.le_add_right sz 5) hz1) (by rcases (show q = st2 ∨ z1 + 1 ≤ q from e) with e | e; rw [e, hst2]; exact Nat.le_refl z1; exact Nat.le_of_succ_le e))) (fun (q : Nat)  e => Or.inr (Nat.le_trans (Nat.le_trans (Nat.le_add_right sz 5) hz1) (by rcases (show q = st2 ∨ z1 + 1 ≤ q from e) with e | e; rw [e, hst2]; exact Nat.le_refl z1; exact Nat.le_of_succ_le e))) (fun u t9 H1 locs ht hvm _ hQ hzz hk1 hS => ?_)
  rw [ht] at hQ
  obtain ⟨C, hC0, iC, bC, hCP⟩ := hQ
  have hz2 : z1 + 1 ≤ H1.size := by rw [← hz]; exact hzz
  have bC := b_all hC0 (by rw [hst2]; exact hz2) (Nat.le_of_eq (by rw [hst2])) bC
  rw [hst2] at bC
  have hxz1 : x < z1 := Nat.lt_of_lt_of_le (Nat.lt_add_right 5 hxz) hz1
  have h_x := h_x.kept (hk1 _ h_x.lt (out_ (by rw [hst2]; exact Nat.ne_of_lt hxz1) (Nat.lt_succ_of_lt hxz1)))
  have h_a1 := h_a1.kept (hk1 _ h_a1.lt (out_ (by rw [hst2]; exact Nat.ne_of_lt (Nat.lt_of_lt_of_le (lt_k 5 ha1 (by decide)) hz1)) (Nat.lt_succ_of_lt (Nat.lt_of_lt_of_le (lt_k 5 ha1 (by decide)) hz1))))
  have h_a2 := h_a2.kept (hk1 _ h_a2.lt (out_ (by rw [hst2]; exact Nat.ne_of_lt (Nat.lt_of_lt_of_le (lt_k 5 ha2 (by decide)) hz1)) (Nat.lt_succ_of_lt (Nat.lt_of_lt_of_le (lt_k 5 ha2 (by decide)) hz1))))
  have h_a3 := h_a3.kept (hk1 _ h_a3.lt (out_ (by rw [hst2]; exact Nat.ne_of_lt (Nat.lt_of_lt_of_le (lt_k 5 ha3 (by decide)) hz1)) (Nat.lt_succ_of_lt (Nat.lt_of_lt_of_le (lt_k 5 ha3 (by decide)) hz1))))
  have h_a4 := h_a4.kept (hk1 _ h_a4.lt (out_ (by rw [hst2]; exact Nat.ne_of_lt (Nat.lt_of_lt_of_le (lt_k 5 ha4 (by decide)) hz1)) (Nat.lt_succ_of_lt (Nat.lt_of_lt_of_le (lt_k 5 ha4 (by decide)) hz1))))
  have hBP := hBP.kept (fun i hi9 hl9 => hk1 _ hl9 (out_ (by rw [hst2]; exact Nat.ne_of_lt (bB i hi9).2) (Nat.lt_succ_of_lt (bB i hi9).2)))
  obtain ⟨z2, hzq⟩ : ∃ z2, z2 = H1.size := ⟨_, rfl⟩
  rw [← hzq] at hz2 bC
  have hz := hzq.symm
  clear hzq hzz hk1 h_st2 ht
  generalize H1 = H at h_x h_a1 h_a2 h_a3 h_a4 hBP hCP hz hS ⊢
  refine gg_putF (ci := 4) (v := .ref st2) (C := RX4) (T := TX4) (N := 8) hx hb hts in_X4 tyX4 tyX4_ok nmX4 hown hG h_x hS (Or.inl rfl) rfl 7 (by decide) q727 rfl rfl hin rfl rfl (Nat.le_of_ble_eq_true rfl) dX4_init_57 (fun H locs h_x hbut hS => ?_)
  have h_x : va_at (gD g) bbCl (x, .inr (4, [.int 0, .int 0, .ref a1, .ref a2, .ref a3, .ref a4, .ref st1, .ref st2])) H := h_x
  have h_a1 := h_a1.but hbut (ne_up hxz ha1)
  have h_a2 := h_a2.but hbut (ne_up hxz ha2)
  have h_a3 := h_a3.but hbut (ne_up hxz ha3)
  have h_a4 := h_a4.but hbut (ne_up hxz ha4)
  have hBP := hBP.kept (fun i hi9 _ => hbut.2 _ (Nat.ne_of_gt (Nat.lt_of_lt_of_le (Nat.lt_add_right 4 hxz) (bB i hi9).1)))
  have hCP := hCP.kept (fun i hi9 _ => hbut.2 _ (Nat.ne_of_gt (Nat.lt_of_lt_of_le (Nat.lt_of_lt_of_le (Nat.lt_add_right 5 hxz) hz1) (bC i hi9).1)))
  have hz : H.size = z2 := by rw [hbut.1, hz]
  have hmd := MD_of hxz hNx hN0 ha1 ha2 ha3 ha4 hz1 (Nat.le_of_succ_le hz2) iB iC bB bC
  refine W.widen (k := 14) (n := 472) (Nat.le_of_ble_eq_true rfl) (Nat.le_of_ble_eq_true rfl) ?_
  refine W.vret hx hb hr (fun t9 h9 hW9 => ⟨⟨(), rfl, trivial, ?_⟩, hS.F h9⟩) hS.2.2 dX4_init_60
  dsimp only
  rw [h9, hz]
  subst hB0 hC0
  have h_x : va_at (gD g) bbCl (x, moE 0 (sN bs0) a1 a2 a3 a4 (B 0) (C 0)) H := by
    show va_at (gD g) bbCl (x, .inr (4, [.int 0, .int (nI 0), .ref a1, .ref a2, .ref a3, .ref a4, .ref (B 0), .ref (C 0)])) H
    rw [nI_0]
    exact h_x
  exact ⟨B5 x a1 a2 a3 a4, B, C, rfl, hmd.1, hmd.2, ⟨fun _ => 0, fun _ => 0, fun _ => 0, h_x, h_a1, h_a2, h_a3, h_a4, fun k hk => absurd hk (Nat.not_lt_zero _)⟩, hBP, hCP.sq⟩
