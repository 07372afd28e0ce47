/-! THE MODEL STATE, on. -/
set_option maxRecDepth 100000
set_option maxHeartbeats 4000000 in
theorem met_X5_copy (l : Launch) (g : GT) (st a0 a1 : Nat) (f f1 : Nat → Int32) (hne : a0 ≠ a1) : Met l yX5_copy (ws_ yX5_copy cX5_copy 3 none) ({ frames := 1, cells := 0, slots := 0, locals := 60 } : Room) (PcG g [.ref st, .ref a0, .ref a1] (fun H => va_at (gD g) bbCl (a0, inA g 40 f) H ∧ va_at (gD g) bbCl (a1, inA g 40 f1) H)) (va_Qv (fun _ : Unit => True) (fun _ u => va_at (gD g) bbCl (a0, inA g 40 f) u.heap ∧ va_at (gD g) bbCl (a1, inA g 40 f) u.heap) (fun q => q = a0 ∨ q = a1)) 0 0 (fun q => q = a0 ∨ q = a1) := by
  refine gg_met (cc := cX5_copy) (maxL := 3) (ret := none) (by decide) (Nat.le_of_ble_eq_true rfl) ?_
  intro p e s m below meth c hx hb hr hlk hin hml hown hts hG hB ls hl
  have hown : s.vm.findClass RX5 = some m.cls := hown
  have hl : lv_has ls 3 [(0, .ref st), (1, .ref a0), (2, .ref a1)] := hl
  obtain ⟨h_0, h_1⟩ := hB
  have hS : va_S (fun q => q = a0 ∨ q = a1) s.heap s.heap [] := va_S.rf
  refine lv_aload_n hx hb dX5_copy_0 rfl (lv_at hl 1 rfl) ?_
  refine lv_iconst (v := 0) hx hb dX5_copy_1 (by decide) ?_
  refine lv_aload_n hx hb dX5_copy_2 rfl (lv_at hl 2 rfl) ?_
  refine lv_iconst (v := 0) hx hb dX5_copy_3 (by decide) ?_
  refine lv_aload_n hx hb dX5_copy_4 rfl (lv_at hl 1 rfl) ?_
  refine gg_leni hx hb hG h_0 dX5_copy_5 ?_
  refine gg_copyi hx hb (by rw [hml]; exact hl.1.symm) hts hown q857 hG h_0 h_1 hne hS (Or.inl rfl) (Or.inr rfl) (Nat.le_refl 40) (Nat.le_refl 40) (by decide) rfl (Nat.le_of_ble_eq_true rfl) (Nat.le_of_ble_eq_true rfl) dX5_copy_6 (fun H locs h_1 hF hS => ?_)
  have h_0 := h_0.frm hF hne
  have h_1 := inA_ext (f1 := f) h_1 (fun j hj => by rw [pk_cpy_in (Nat.zero_le _) (by omega)]; simp)
  exact W.vret hx hb hr (fun t9 h9 hW9 => ⟨⟨(), rfl, trivial, by dsimp only; rw [h9]; exact ⟨h_0, h_1⟩⟩, hS.F h9⟩) hS.2.2 dX5_copy_9

set_option maxHeartbeats 4000000 in
theorem met_X5_become (l : Launch) (g : GT) (M B C : Nat → Nat) (S : BS) (hi : Inj5 B) (hd : Apart B C) (hi2 : Inj5 C) (hN : ∀ i, i < 5 → gA g (B i)) (hNC : ∀ i, i < 5 → gA g (C i)) : Met l yX5_become (ws_ yX5_become cX5_become 2 none) ({ frames := 2, cells := 0, slots := 0, locals := 82 } : Room) (PcG g [.ref (B 0), .ref (C 0)] (fun H => SQ g B (M 0) H ∧ SP g C (M 0) S H)) (va_Qv (fun _ : Unit => True) (fun _ u => SP g B (M 0) S u.heap ∧ SP g C (M 0) S u.heap) (fun q => In5 B q ∨ In5 C q)) 0 0 (fun q => In5 B q ∨ In5 C q) := by
  refine gg_met (cc := cX5_become) (maxL := 2) (ret := none) (by decide) (Nat.le_of_ble_eq_true rfl) ?_
  intro p e s m below meth c hx hb hr hlk hin hml hown hts hG hB ls hl
  have hown : s.vm.findClass RX5 = some m.cls := hown
  have hl : lv_has ls 2 [(0, .ref (B 0)), (1, .ref (C 0))] := hl
  obtain ⟨⟨x1, x2, x3, x4, x5, x6, x7, f1, f2, f3, f4, h_st, h_ai, h_aw, h_al, h_ah⟩, fi, fw, fl, fh, ⟨h_ot, h_oi, h_ow, h_ol, h_oh⟩, hAR, hZ⟩ := hB
  have nB := hi.ne
  have nC := hd.symm
  have nD := hi2.ne
  have hAN : ∀ q, In5 B q ∨ In5 C q → gA g q := fun q h => h.elim (fun ⟨i, h1, h2⟩ => by rw [h2]; exact hN i h1) (fun ⟨i, h1, h2⟩ => by rw [h2]; exact hNC i h1)
  have hS : va_S (fun q => In5 B q ∨ In5 C q) s.heap s.heap [] := va_S.rf
  refine lv_aload_n hx hb dX5_become_0 rfl (lv_at hl 0 rfl) ?_
  refine lv_aload_n hx hb dX5_become_1 rfl (lv_at hl 1 rfl) ?_
  refine gg_get (ci := 5) (C := RX5) (T := TX5) (N := 12) (v := .int (sMi S)) hx hb hts in_X5 hown hG h_ot rfl 0 (by decide) q670 rfl rfl dX5_become_2 ?_
  refine gg_put (ci := 5) (v := .int (sMi S)) (C := RX5) (T := TX5) (N := 12) hx hb hts in_X5 tyX5 tyX5_ok nmX5 hown hG h_st hS (Or.inl ⟨0, by decide, rfl⟩) rfl 0 (by decide) q670 rfl rfl rfl rfl (Nat.le_of_ble_eq_true rfl) dX5_become_5 (fun H locs h_st hbut hS => ?_)
  have h_st : va_at (gD g) bbCl ((B 0), .inr (5, [.int (sMi S), .int x2, .int x3, .int x4, .int x5, .int x6, .int x7, .ref (B 1), .ref (B 2), .ref (B 3), .ref (B 4), .ref (M 0)])) H := h_st
  have h_ai := h_ai.but hbut (nB 1 0 (by decide) (by decide) (by decide))
  have h_aw := h_aw.but hbut (nB 2 0 (by decide) (by decide) (by decide))
  have h_al := h_al.but hbut (nB 3 0 (by decide) (by decide) (by decide))
  have h_ah := h_ah.but hbut (nB 4 0 (by decide) (by decide) (by decide))
  have h_ot := h_ot.but hbut (nC 0 0 (by decide) (by decide))
  have h_oi := h_oi.but hbut (nC 1 0 (by decide) (by decide))
  have h_ow := h_ow.but hbut (nC 2 0 (by decide) (by decide))
  have h_ol := h_ol.but hbut (nC 3 0 (by decide) (by decide))
  have h_oh := h_oh.but hbut (nC 4 0 (by decide) (by decide))
  refine lv_aload_n hx hb dX5_become_8 rfl (lv_at hl 0 rfl) ?_
  refine lv_aload_n hx hb dX5_become_9 rfl (lv_at hl 1 rfl) ?_
  refine gg_get (ci := 5) (C := RX5) (T := TX5) (N := 12) (v := .int (sAn S)) hx hb hts in_X5 hown hG h_ot rfl 1 (by decide) q672 rfl rfl dX5_become_10 ?_
  refine gg_put (ci := 5) (v := .int (sAn S)) (C := RX5) (T := TX5) (N := 12) hx hb hts in_X5 tyX5 tyX5_ok nmX5 hown hG h_st hS (Or.inl ⟨0, by decide, rfl⟩) rfl 1 (by decide) q672 rfl rfl rfl rfl (Nat.le_of_ble_eq_true rfl) dX5_become_13 (fun H locs h_st hbut hS => ?_)
  have h_st : va_at (gD g) bbCl ((B 0), .inr (5, [.int (sMi S), .int (sAn S), .int x3, .int x4, .int x5, .int x6, .int x7, .ref (B 1), .ref (B 2), .ref (B 3), .ref (B 4), .ref (M 0)])) H := h_st
  have h_ai := h_ai.but hbut (nB 1 0 (by decide) (by decide) (by decide))
  have h_aw := h_aw.but hbut (nB 2 0 (by decide) (by decide) (by decide))
  have h_al := h_al.but hbut (nB 3 0 (by decide) (by decide) (by decide))
  have h_ah := h_ah.but hbut (nB 4 0 (by decide) (by decide) (by decide))
  have h_ot := h_ot.but hbut (nC 0 0 (by decide) (by decide))
  have h_oi := h_oi.but hbut (nC 1 0 (by decide) (by decide))
  have h_ow := h_ow.but hbut (nC 2 0 (by decide) (by decide))
  have h_ol := h_ol.but hbut (nC 3 0 (by decide) (by decide))
  have h_oh := h_oh.but hbut (nC 4 0 (by decide) (by decide))
  refine lv_aload_n hx hb dX5_become_16 rfl (lv_at hl 0 rfl) ?_
  refine lv_aload_n hx hb dX5_become_17 rfl (lv_at hl 1 rfl) ?_
  refine gg_get (ci := 5) (C := RX5) (T := TX5) (N := 12) (v := .int (sPo S)) hx hb hts in_X5 hown hG h_ot rfl 2 (by decide) q674 rfl rfl dX5_become_18 ?_
  refine gg_put (ci := 5) (v := .int (sPo S)) (C := RX5) (T := TX5) (N := 12) hx hb hts in_X5 tyX5 tyX5_ok nmX5 hown hG h_st hS (Or.inl ⟨0, by decide, rfl⟩) rfl 2 (by decide) q674 rfl rfl rfl rfl (Nat.le_of_ble_eq_true rfl) dX5_become_21 (fun H locs h_st hbut hS => ?_)
  have h_st : va_at (gD g) bbCl ((B 0), .inr (5, [.int (sMi S), .int (sAn S), .int (sPo S), .int x4, .int x5, .int x6, .int x7, .ref (B 1), .ref (B 2), .ref (B 3), .ref (B 4), .ref (M 0)])) H := h_st
  have h_ai := h_ai.but hbut (nB 1 0 (by decide) (by decide) (by decide))
  have h_aw := h_aw.but hbut (nB 2 0 (by decide) (by decide) (by decide))
  have h_al := h_al.but hbut (nB 3 0 (by decide) (by decide) (by decide))
  have h_ah := h_ah.but hbut (nB 4 0 (by decide) (by decide) (by decide))
  have h_ot := h_ot.but hbut (nC 0 0 (by decide) (by decide))
  have h_oi := h_oi.but hbut (nC 1 0 (by decide) (by decide))
  have h_ow := h_ow.but hbut (nC 2 0 (by decide) (by decide))
  have h_ol := h_ol.but hbut (nC 3 0 (by decide) (by decide))
  have h_oh := h_oh.but hbut (nC 4 0 (by decide) (by decide))
  refine lv_aload_n hx hb dX5_become_24 rfl (lv_at hl 0 rfl) ?_
  refine lv_aload_n hx hb dX5_become_25 rfl (lv_at hl 1 rfl) ?_
  refine gg_get (ci := 5) (C := RX5) (T := TX5) (N := 12) (v := .int (sIc S)) hx hb hts in_X5 hown hG h_ot rfl 3 (by decide) q676 rfl rfl dX5_become_26 ?_
  refine gg_put (ci := 5) (v := .int (sIc S)) (C := RX5) (T := TX5) (N := 12) hx hb hts in_X5 tyX5 tyX5_ok nmX5 hown hG h_st hS (Or.inl ⟨0, by decide, rfl⟩) rfl 3 (by decide) q676 rfl rfl rfl rfl (Nat.le_of_ble_eq_true rfl) dX5_become_29 (fun H locs h_st hbut hS => ?_)
  have h_st : va_at (gD g) bbCl ((B 0), .inr (5, [.int (sMi S), .int (sAn S), .int (sPo S), .int (sIc S), .int x5, .int x6, .int x7, .ref (B 1), .ref (B 2), .ref (B 3), .ref (B 4), .ref (M 0)])) H := h_st
  have h_ai := h_ai.but hbut (nB 1 0 (by decide) (by decide) (by decide))
  have h_aw := h_aw.but hbut (nB 2 0 (by decide) (by decide) (by decide))
  have h_al := h_al.but hbut (nB 3 0 (by decide) (by decide) (by decide))
  have h_ah := h_ah.but hbut (nB 4 0 (by decide) (by decide) (by decide))
  have h_ot := h_ot.but hbut (nC 0 0 (by decide) (by decide))
  have h_oi := h_oi.but hbut (nC 1 0 (by decide) (by decide))
  have h_ow := h_ow.but hbut (nC 2 0 (by decide) (by decide))
  have h_ol := h_ol.but hbut (nC 3 0 (by decide) (by decide))
  have h_oh := h_oh.but hbut (nC 4 0 (by decide) (by decide))
  refine lv_aload_n hx hb dX5_become_32 rfl (lv_at hl 0 rfl) ?_
  refine lv_aload_n hx hb dX5_become_33 rfl (lv_at hl 1 rfl) ?_
  refine gg_get (ci := 5) (C := RX5) (T := TX5) (N := 12) (v := .int (nI (sCo S))) hx hb hts in_X5 hown hG h_ot rfl 4 (by decide) q678 rfl rfl dX5_become_34 ?_
  refine gg_put (ci := 5) (v := .int (nI (sCo S))) (C := RX5) (T := TX5) (N := 12) hx hb hts in_X5 tyX5 tyX5_ok nmX5 hown hG h_st hS (Or.inl ⟨0, by decide, rfl⟩) rfl 4 (by decide) q678 rfl rfl rfl rfl (Nat.le_of_ble_eq_true rfl) dX5_become_37 (fun H locs h_st hbut hS => ?_)
  have h_st : va_at (gD g) bbCl ((B 0), .inr (5, [.int (sMi S), .int (sAn S), .int (sPo S), .int (sIc S), .int (nI (sCo S)), .int x6, .int x7, .ref (B 1), .ref (B 2), .ref (B 3), .ref (B 4), .ref (M 0)])) H := h_st
  have h_ai := h_ai.but hbut (nB 1 0 (by decide) (by decide) (by decide))
  have h_aw := h_aw.but hbut (nB 2 0 (by decide) (by decide) (by decide))
  have h_al := h_al.but hbut (nB 3 0 (by decide) (by decide) (by decide))
  have h_ah := h_ah.but hbut (nB 4 0 (by decide) (by decide) (by decide))
  have h_ot := h_ot.but hbut (nC 0 0 (by decide) (by decide))
  have h_oi := h_oi.but hbut (nC 1 0 (by decide) (by decide))
  have h_ow := h_ow.but hbut (nC 2 0 (by decide) (by decide))
  have h_ol := h_ol.but hbut (nC 3 0 (by decide) (by decide))
  have h_oh := h_oh.but hbut (nC 4 0 (by decide) (by decide))
  refine lv_aload_n hx hb dX5_become_40 rfl (lv_at hl 0 rfl) ?_
  refine lv_aload_n hx hb dX5_become_41 rfl (lv_at hl 1 rfl) ?_
  refine gg_get (ci := 5) (C := RX5) (T := TX5) (N := 12) (v := .int (bPassing S)) hx hb hts in_X5 hown hG h_ot rfl 5 (by decide) q680 rfl rfl dX5_become_42 ?_
  refine gg_put (ci := 5) (v := .int (bPassing S)) (C := RX5) (T := TX5) (N := 12) hx hb hts in_X5 tyX5 tyX5_ok nmX5 hown hG h_st hS (Or.inl ⟨0, by decide, rfl⟩) rfl 5 (by decide) q680 rfl rfl rfl rfl (Nat.le_of_ble_eq_true rfl) dX5_become_45 (fun H locs h_st hbut hS => ?_)
  have h_st : va_at (gD g) bbCl ((B 0), .inr (5, [.int (sMi S), .int (sAn S), .int (sPo S), .int (sIc S), .int (nI (sCo S)), .int (bPassing S), .int x7, .ref (B 1), .ref (B 2), .ref (B 3), .ref (B 4), .ref (M 0)])) H := h_st
  have h_ai := h_ai.but hbut (nB 1 0 (by decide) (by decide) (by decide))
  have h_aw := h_aw.but hbut (nB 2 0 (by decide) (by decide) (by decide))
  have h_al := h_al.but hbut (nB 3 0 (by decide) (by decide) (by decide))
  have h_ah := h_ah.but hbut (nB 4 0 (by decide) (by decide) (by decide))
  have h_ot := h_ot.but hbut (nC 0 0 (by decide) (by decide))
  have h_oi := h_oi.but hbut (nC 1 0 (by decide) (by decide))
  have h_ow := h_ow.but hbut (nC 2 0 (by decide) (by decide))
  have h_ol := h_ol.but hbut (nC 3 0 (by decide) (by decide))
  have h_oh := h_oh.but hbut (nC 4 0 (by decide) (by decide))
  refine lv_aload_n hx hb dX5_become_48 rfl (lv_at hl 0 rfl) ?_
  refine lv_aload_n hx hb dX5_become_49 rfl (lv_at hl 1 rfl) ?_
  refine gg_get (ci := 5) (C := RX5) (T := TX5) (N := 12) (v := .int (sLa S)) hx hb hts in_X5 hown hG h_ot rfl 6 (by decide) q681 rfl rfl dX5_become_50 ?_
  refine gg_put (ci := 5) (v := .int (sLa S)) (C := RX5) (T := TX5) (N := 12) hx hb hts in_X5 tyX5 tyX5_ok nmX5 hown hG h_st hS (Or.inl ⟨0, by decide, rfl⟩) rfl 6 (by decide) q681 rfl rfl rfl rfl (Nat.le_of_ble_eq_true rfl) dX5_become_53 (fun H locs h_st hbut hS => ?_)
  have h_st : va_at (gD g) bbCl ((B 0), .inr (5, [.int (sMi S), .int (sAn S), .int (sPo S), .int (sIc S), .int (nI (sCo S)), .int (bPassing S), .int (sLa S), .ref (B 1), .ref (B 2), .ref (B 3), .ref (B 4), .ref (M 0)])) H := h_st
  have h_ai := h_ai.but hbut (nB 1 0 (by decide) (by decide) (by decide))
  have h_aw := h_aw.but hbut (nB 2 0 (by decide) (by decide) (by decide))
  have h_al := h_al.but hbut (nB 3 0 (by decide) (by decide) (by decide))
  have h_ah := h_ah.but hbut (nB 4 0 (by decide) (by decide) (by decide))
  have h_ot := h_ot.but hbut (nC 0 0 (by decide) (by decide))
  have h_oi := h_oi.but hbut (nC 1 0 (by decide) (by decide))
  have h_ow := h_ow.but hbut (nC 2 0 (by decide) (by decide))
  have h_ol := h_ol.but hbut (nC 3 0 (by decide) (by decide))
  have h_oh := h_oh.but hbut (nC 4 0 (by decide) (by decide))
  refine lv_aload_n hx hb dX5_become_56 rfl (lv_at hl 0 rfl) ?_
  refine lv_aload_n hx hb dX5_become_57 rfl (lv_at hl 1 rfl) ?_
  refine gg_get (ci := 5) (C := RX5) (T := TX5) (N := 12) (v := .ref (C 1)) hx hb hts in_X5 hown hG h_ot rfl 7 (by decide) q682 rfl rfl dX5_become_58 ?_
  refine lv_aload_n hx hb dX5_become_61 rfl (lv_at hl 0 rfl) ?_
  refine gg_get (ci := 5) (C := RX5) (T := TX5) (N := 12) (v := .ref (B 1)) hx hb hts in_X5 hown hG h_st rfl 7 (by decide) q682 rfl rfl dX5_become_62 ?_
  refine va_callv (va_runV (As := [.ref (C 1), .ref (B 1)]) (rest := []) ⟨hx, hb, hml, hown, hts⟩ (met_X5_copy l g (B 0) (C 1) (B 1) fi f1 (nC 1 1 (by decide) (by decide))) (cwV 2 hts (lw_V q853 q855 qs11 q22 q856) rfl rfl rfl (by decide +kernel) ⟨Nat.le_of_ble_eq_true rfl, Nat.le_of_ble_eq_true rfl⟩) (gg_preV hG (hS.kp hG hAN) (gg_recv hG h_st rfl) ⟨h_oi, h_ai⟩) rfl rfl hl.1 rfl (lv_room (Nat.le_of_ble_eq_true rfl)) dX5_become_65 ⟨Nat.le_of_ble_eq_true rfl, Nat.le_of_ble_eq_true rfl⟩) hS (fun q _ e => by rcases (show q = C 1 ∨ q = B 1 from e) with e | e; exact Or.inr ⟨1, by decide, e⟩; exact Or.inl ⟨1, by decide, e⟩) (fun q  e => by rcases (show q = C 1 ∨ q = B 1 from e) with e | e; exact Or.inr ⟨1, by decide, e⟩; exact Or.inl ⟨1, by decide, e⟩) (fun u t9 H1 locs ht hvm _ hQ hz1 hk1 hS => ?_)
  rw [ht] at hQ
  have h_st := h_st.kept (hk1 _ h_st.lt (fun e => by rcases e with e | e; exact hd 0 1 (by decide) (by decide) e; exact nB 0 1 (by decide) (by decide) (by decide) e))
  have h_ai := hQ.2
  have h_aw := h_aw.kept (hk1 _ h_aw.lt (fun e => by rcases e with e | e; exact hd 2 1 (by decide) (by decide) e; exact nB 2 1 (by decide) (by decide) (by decide) e))
  have h_al := h_al.kept (hk1 _ h_al.lt (fun e => by rcases e with e | e; exact hd 3 1 (by decide) (by decide) e; exact nB 3 1 (by decide) (by decide) (by decide) e))
  have h_ah := h_ah.kept (hk1 _ h_ah.lt (fun e => by rcases e with e | e; exact hd 4 1 (by decide) (by decide) e; exact nB 4 1 (by decide) (by decide) (by decide) e))
  have h_ot := h_ot.kept (hk1 _ h_ot.lt (fun e => by rcases e with e | e; exact nD 0 1 (by decide) (by decide) (by decide) e; exact nC 0 1 (by decide) (by decide) e))
  have h_oi := hQ.1
  have h_ow := h_ow.kept (hk1 _ h_ow.lt (fun e => by rcases e with e | e; exact nD 2 1 (by decide) (by decide) (by decide) e; exact nC 2 1 (by decide) (by decide) e))
  have h_ol := h_ol.kept (hk1 _ h_ol.lt (fun e => by rcases e with e | e; exact nD 3 1 (by decide) (by decide) (by decide) e; exact nC 3 1 (by decide) (by decide) e))
  have h_oh := h_oh.kept (hk1 _ h_oh.lt (fun e => by rcases e with e | e; exact nD 4 1 (by decide) (by decide) (by decide) e; exact nC 4 1 (by decide) (by decide) e))
  generalize H1 = H at h_st h_ai h_aw h_al h_ah h_ot h_oi h_ow h_ol h_oh hS ⊢
  refine lv_aload_n hx hb dX5_become_68 rfl (lv_at hl 0 rfl) ?_
  refine lv_aload_n hx hb dX5_become_69 rfl (lv_at hl 1 rfl) ?_
  refine gg_get (ci := 5) (C := RX5) (T := TX5) (N := 12) (v := .ref (C 2)) hx hb hts in_X5 hown hG h_ot rfl 8 (by decide) q684 rfl rfl dX5_become_70 ?_
  refine lv_aload_n hx hb dX5_become_73 rfl (lv_at hl 0 rfl) ?_
  refine gg_get (ci := 5) (C := RX5) (T := TX5) (N := 12) (v := .ref (B 2)) hx hb hts in_X5 hown hG h_st rfl 8 (by decide) q684 rfl rfl dX5_become_74 ?_
  refine va_callv (va_runV (As := [.ref (C 2), .ref (B 2)]) (rest := []) ⟨hx, hb, hml, hown, hts⟩ (met_X5_copy l g (B 0) (C 2) (B 2) fw f2 (nC 2 2 (by decide) (by decide))) (cwV 2 hts (lw_V q853 q855 qs11 q22 q856) rfl rfl rfl (by decide +kernel) ⟨Nat.le_of_ble_eq_true rfl, Nat.le_of_ble_eq_true rfl⟩) (gg_preV hG (hS.kp hG hAN) (gg_recv hG h_st rfl) ⟨h_ow, h_aw⟩) rfl rfl hl.1 rfl (lv_room (Nat.le_of_ble_eq_true rfl)) dX5_become_77 ⟨Nat.le_of_ble_eq_true rfl, Nat.le_of_ble_eq_true rfl⟩) hS (fun q _ e => by rcases (show q = C 2 ∨ q = B 2 from e) with e | e; exact Or.inr ⟨2, by decide, e⟩; exact Or.inl ⟨2, by decide, e⟩) (fun q  e => by rcases (show q = C 2 ∨ q = B 2 from e) with e | e; exact Or.inr ⟨2, by decide, e⟩; exact Or.inl ⟨2, by decide, e⟩) (fun u t9 H1 locs ht hvm _ hQ hz1 hk1 hS => ?_)
  rw [ht] at hQ
  have h_st := h_st.kept (hk1 _ h_st.lt (fun e => by rcases e with e | e; exact hd 0 2 (by decide) (by decide) e; exact nB 0 2 (by decide) (by decide) (by decide) e))
  have h_ai := h_ai.kept (hk1 _ h_ai.lt (fun e => by rcases e with e | e; exact hd 1 2 (by decide) (by decide) e; exact nB 1 2 (by decide) (by decide) (by decide) e))
  have h_aw := hQ.2
  have h_al := h_al.kept (hk1 _ h_al.lt (fun e => by rcases e with e | e; exact hd 3 2 (by decide) (by decide) e; exact nB 3 2 (by decide) (by decide) (by decide) e))
  have h_ah := h_ah.kept (hk1 _ h_ah.lt (fun e => by rcases e with e | e; exact hd 4 2 (by decide) (by decide) e; exact nB 4 2 (by decide) (by decide) (by decide) e))
  have h_ot := h_ot.kept (hk1 _ h_ot.lt (fun e => by rcases e with e | e; exact nD 0 2 (by decide) (by decide) (by decide) e; exact nC 0 2 (by decide) (by decide) e))
  have h_oi := h_oi.kept (hk1 _ h_oi.lt (fun e => by rcases e with e | e; exact nD 1 2 (by decide) (by decide) (by decide) e; exact nC 1 2 (by decide) (by decide) e))
  have h_ow := hQ.1
  have h_ol := h_ol.kept (hk1 _ h_ol.lt (fun e => by rcases e with e | e; exact nD 3 2 (by decide) (by decide) (by decide) e; exact nC 3 2 (by decide) (by decide) e))
  have h_oh := h_oh.kept (hk1 _ h_oh.lt (fun e => by rcases e with e | e; exact nD 4 2 (by decide) (by decide) (by decide) e; exact nC 4 2 (by decide) (by decide) e))
  generalize H1 = H at h_st h_ai h_aw h_al h_ah h_ot h_oi h_ow h_ol h_oh hS ⊢
  refine lv_aload_n hx hb dX5_become_80 rfl (lv_at hl 0 rfl) ?_
  refine lv_aload_n hx hb dX5_become_81 rfl (lv_at hl 1 rfl) ?_
  refine gg_get (ci := 5) (C := RX5) (T := TX5) (N := 12) (v := .ref (C 3)) hx hb hts in_X5 hown hG h_ot rfl 9 (by decide) q686 rfl rfl dX5_become_82 ?_
  refine lv_aload_n hx hb dX5_become_85 rfl (lv_at hl 0 rfl) ?_
  refine gg_get (ci := 5) (C := RX5) (T := TX5) (N := 12) (v := .ref (B 3)) hx hb hts in_X5 hown hG h_st rfl 9 (by decide) q686 rfl rfl dX5_become_86 ?_
  refine va_callv (va_runV (As := [.ref (C 3), .ref (B 3)]) (rest := []) ⟨hx, hb, hml, hown, hts⟩ (met_X5_copy l g (B 0) (C 3) (B 3) fl f3 (nC 3 3 (by decide) (by decide))) (cwV 2 hts (lw_V q853 q855 qs11 q22 q856) rfl rfl rfl (by decide +kernel) ⟨Nat.le_of_ble_eq_true rfl, Nat.le_of_ble_eq_true rfl⟩) (gg_preV hG (hS.kp hG hAN) (gg_recv hG h_st rfl) ⟨h_ol, h_al⟩) rfl rfl hl.1 rfl (lv_room (Nat.le_of_ble_eq_true rfl)) dX5_become_89 ⟨Nat.le_of_ble_eq_true rfl, Nat.le_of_ble_eq_true rfl⟩) hS (fun q _ e => by rcases (show q = C 3 ∨ q = B 3 from e) with e | e; exact Or.inr ⟨3, by decide, e⟩; exact Or.inl ⟨3, by decide, e⟩) (fun q  e => by rcases (show q = C 3 ∨ q = B 3 from e) with e | e; exact Or.inr ⟨3, by decide, e⟩; exact Or.inl ⟨3, by decide, e⟩) (fun u t9 H1 locs ht hvm _ hQ hz1 hk1 hS => ?_)
  rw [ht] at hQ
  have h_st := h_st.kept (hk1 _ h_st.lt (fun e => by rcases e with e | e; exact hd 0 3 (by decide) (by decide) e; exact nB 0 3 (by decide) (by decide) (by decide) e))
  have h_ai := h_ai.kept (hk1 _ h_ai.lt (fun e => by rcases e with e | e; exact hd 1 3 (by decide) (by decide) e; exact nB 1 3 (by decide) (by decide) (by decide) e))
  have h_aw := h_aw.kept (hk1 _ h_aw.lt (fun e => by rcases e with e | e; exact hd 2 3 (by decide) (by decide) e; exact nB 2 3 (by decide) (by decide) (by decide) e))
  have h_al := hQ.2
  have h_ah := h_ah.kept (hk1 _ h_ah.lt (fun e => by rcases e with e | e; exact hd 4 3 (by decide) (by decide) e; exact nB 4 3 (by decide) (by decide) (by decide) e))
  have h_ot := h_ot.kept (hk1 _ h_ot.lt (fun e => by rcases e with e | e; exact nD 0 3 (by decide) (by decide) (by decide) e; exact nC 0 3 (by decide) (by decide) e))
  have h_oi := h_oi.kept (hk1 _ h_oi.lt (fun e => by rcases e with e | e; exact nD 1 3 (by decide) (by decide) (by decide) e; exact nC 1 3 (by decide) (by decide) e))
  have h_ow := h_ow.kept (hk1 _ h_ow.lt (fun e => by rcases e with e | e; exact nD 2 3 (by decide) (by decide) (by decide) e; exact nC 2 3 (by decide) (by decide) e))
  have h_ol := hQ.1
  have h_oh := h_oh.kept (hk1 _ h_oh.lt (fun e => by rcases e with e | e; exact nD 4 3 (by decide) (by decide) (by decide) e; exact nC 4 3 (by decide) (by decide) e))
  generalize H1 = H at h_st h_ai h_aw h_al h_ah h_ot h_oi h_ow h_ol h_oh hS ⊢
  refine lv_aload_n hx hb dX5_become_92 rfl (lv_at hl 0 rfl) ?_
  refine lv_aload_n hx hb dX5_become_93 rfl (lv_at hl 1 rfl) ?_
  refine gg_get (ci := 5) (C := RX5) (T := TX5) (N := 12) (v := .ref (C 4)) hx hb hts in_X5 hown hG h_ot rfl 10 (by decide) q688 rfl rfl dX5_become_94 ?_
  refine lv_aload_n hx hb dX5_become_97 rfl (lv_at hl 0 rfl) ?_
  refine gg_get (ci := 5) (C := RX5) (T := TX5) (N := 12) (v := .ref (B 4)) hx hb hts in_X5 hown hG h_st rfl 10 (by decide) q688 rfl rfl dX5_become_98 ?_
  refine va_callv (va_runV (As := [.ref (C 4), .ref (B 4)]) (rest := []) ⟨hx, hb, hml, hown, hts⟩ (met_X5_copy l g (B 0) (C 4) (B 4) fh f4 (nC 4 4 (by decide) (by decide))) (cwV 2 hts (lw_V q853 q855 qs11 q22 q856) rfl rfl rfl (by decide +kernel) ⟨Nat.le_of_ble_eq_true rfl, Nat.le_of_ble_eq_true rfl⟩) (gg_preV hG (hS.kp hG hAN) (gg_recv hG h_st rfl) ⟨h_oh, h_ah⟩) rfl rfl hl.1 rfl (lv_room (Nat.le_of_ble_eq_true rfl)) dX5_become_101 ⟨Nat.le_of_ble_eq_true rfl, Nat.le_of_ble_eq_true rfl⟩) hS (fun q _ e => by rcases (show q = C 4 ∨ q = B 4 from e) with e | e; exact Or.inr ⟨4, by decide, e⟩; exact Or.inl ⟨4, by decide, e⟩) (fun q  e => by rcases (show q = C 4 ∨ q = B 4 from e) with e | e; exact Or.inr ⟨4, by decide, e⟩; exact Or.inl ⟨4, by decide, e⟩) (fun u t9 H1 locs ht hvm _ hQ hz1 hk1 hS => ?_)
  rw [ht] at hQ
  have h_st := h_st.kept (hk1 _ h_st.lt (fun e => by rcases e with e | e; exact hd 0 4 (by decide) (by decide) e; exact nB 0 4 (by decide) (by decide) (by decide) e))
  have h_ai := h_ai.kept (hk1 _ h_ai.lt (fun e => by rcases e with e | e; exact hd 1 4 (by decide) (by decide) e; exact nB 1 4 (by decide) (by decide) (by decide) e))
  have h_aw := h_aw.kept (hk1 _ h_aw.lt (fun e => by rcases e with e | e; exact hd 2 4 (by decide) (by decide) e; exact nB 2 4 (by decide) (by decide) (by decide) e))
  have h_al := h_al.kept (hk1 _ h_al.lt (fun e => by rcases e with e | e; exact hd 3 4 (by decide) (by decide) e; exact nB 3 4 (by decide) (by decide) (by decide) e))
  have h_ah := hQ.2
  have h_ot := h_ot.kept (hk1 _ h_ot.lt (fun e => by rcases e with e | e; exact nD 0 4 (by decide) (by decide) (by decide) e; exact nC 0 4 (by decide) (by decide) e))
  have h_oi := h_oi.kept (hk1 _ h_oi.lt (fun e => by rcases e with e | e; exact nD 1 4 (by decide) (by decide) (by decide) e; exact nC 1 4 (by decide) (by decide) e))
  have h_ow := h_ow.kept (hk1 _ h_ow.lt (fun e => by rcases e with e | e; exact nD 2 4 (by decide) (by decide) (by decide) e; exact nC 2 4 (by decide) (by decide) e))
  have h_ol := h_ol.kept (hk1 _ h_ol.lt (fun e => by rcases e with e | e; exact nD 3 4 (by decide) (by decide) (by decide) e; exact nC 3 4 (by decide) (by decide) e))
  have h_oh := hQ.1
  generalize H1 = H at h_st h_ai h_aw h_al h_ah h_ot h_oi h_ow h_ol h_oh hS ⊢
  exact W.vret hx hb hr (fun t9 h9 hW9 => ⟨⟨(), rfl, trivial, by dsimp only; rw [h9]; exact ⟨⟨fi, fw, fl, fh, ⟨h_st, h_ai, h_aw, h_al, h_ah⟩, hAR, hZ⟩, ⟨fi, fw, fl, fh, ⟨h_ot, h_oi, h_ow, h_ol, h_oh⟩, hAR, hZ⟩⟩⟩, hS.F h9⟩) hS.2.2 dX5_become_104

set_option maxHeartbeats 4000000 in
theorem met_X5_serve (l : Launch) (g : GT) (T s0 a0 : Nat) (M B : Nat → Nat) (th : Int32) (S : BS) (hok : OKS T S) (hi : Inj5 B) (hd : Apart B M) (hN : ∀ i, i < 5 → gA g (B i)) (k : Nat) (hk : k < sN S) (h1 : ∀ j, j < sN S → tSt (sTv S j) ≠ 1) : Met l yX5_serve (ws_ yX5_serve cX5_serve 3 none) ({ frames := 2, cells := 0, slots := 0, locals := 43 } : Room) (PcG g [.ref (B 0), .int (nI k)] (fun H => MO g M s0 a0 th S H ∧ SP g B (M 0) S H)) (va_Qv (fun _ : Unit => True) (fun _ u => SP g B (M 0) (bServe S k) u.heap) (In5 B)) 0 0 (In5 B) := by
  refine gg_met (cc := cX5_serve) (maxL := 3) (ret := none) (by decide) (Nat.le_of_ble_eq_true rfl) ?_
  intro p e s m below meth c hx hb hr hlk hin hml hown hts hG hB ls hl
  have hown : s.vm.findClass RX5 = some m.cls := hown
  have hl : lv_has ls 3 [(0, .ref (B 0)), (1, .int (nI k))] := hl
  obtain ⟨hMO, hSP⟩ := hB
  obtain ⟨fb, fn, fc, h_m, h_ib, h_nd, h_ca, h_cd, hOR⟩ := hMO
  obtain ⟨fi, fw, fl, fh, ⟨h_st, h_ai, h_aw, h_al, h_ah⟩, hAR, hZ⟩ := hSP
  have nB := hi.ne
  have nM := hd.symm
  have hAN : ∀ q, In5 B q → gA g q := fun q ⟨i, h1, h2⟩ => by rw [h2]; exact hN i h1
  have hS : va_S (In5 B) s.heap s.heap [] := va_S.rf
  have hn40 : sN S ≤ 40 := hok.2.2.2.2.2.2.2.1
  obtain ⟨e_b, e_n, e_c⟩ := hOR k hk
  have hT := hok.2.2.2.2.2.2.2.2.1 k hk
  refine lv_bipush (v := 60) hx hb dX5_serve_0 (by decide) ?_
  refine lv_aload_n hx hb dX5_serve_2 rfl (lv_at hl 0 rfl) ?_
  refine gg_get (ci := 5) (C := RX5) (T := TX5) (N := 12) (v := .ref (M 0)) hx hb hts in_X5 hown hG h_st rfl 11 (by decide) q690 rfl rfl dX5_serve_3 ?_
  refine gg_getN (ci := 4) (C := RX4) (T := TX4) (N := 8) (v := .ref (M 1)) hx hb hts in_X4 hown hG h_m rfl 2 (by decide) q720 rfl rfl dX5_serve_6 ?_
  refine lv_iload_n hx hb dX5_serve_9 rfl (lv_at hl 1 rfl) ?_
  refine gg_iald hx hb hG h_ib k (show k < 40 by omega) (by decide) rfl dX5_serve_10 ?_
  refine lv_imul hx hb dX5_serve_11 ?_
  refine lv_istore_n (lv' := [(2, .int (60 * (fb k))), (0, .ref (B 0)), (1, .int (nI k))]) hx hb dX5_serve_12 rfl hl (by decide) rfl (fun ls hl => ?_)
  refine lv_aload_n hx hb dX5_serve_13 rfl (lv_at hl 1 rfl) ?_
  refine gg_get (ci := 5) (C := RX5) (T := TX5) (N := 12) (v := .int (sAn S)) hx hb hts in_X5 hown hG h_st rfl 1 (by decide) q672 rfl rfl dX5_serve_14 ?_
  refine lv_iload_n hx hb dX5_serve_17 rfl (lv_at hl 0 rfl) ?_
  refine lv_icmp_ne (tgt := 62) hx hb dX5_serve_18 (by decide) (fun c_18 => ?_) (fun c_18 => ?_)
  · refine lv_aload_n hx hb dX5_serve_62 rfl (lv_at hl 1 rfl) ?_
    refine lv_iload_n hx hb dX5_serve_63 rfl (lv_at hl 0 rfl) ?_
    refine lv_aload_n hx hb dX5_serve_64 rfl (lv_at hl 1 rfl) ?_
    refine gg_get (ci := 5) (C := RX5) (T := TX5) (N := 12) (v := .int (sAn S)) hx hb hts in_X5 hown hG h_st rfl 1 (by decide) q672 rfl rfl dX5_serve_65 ?_
    refine lv_icmp_le (tgt := 89) hx hb dX5_serve_68 (by decide) (fun c_68 => ?_) (fun c_68 => ?_)
    · refine lv_iconst (v := 0) hx hb dX5_serve_89 (by decide) ?_
      refine lv_aload_n hx hb dX5_serve_90 rfl (lv_at hl 1 rfl) ?_
      refine gg_get (ci := 5) (C := RX5) (T := TX5) (N := 12) (v := .int (sAn S)) hx hb hts in_X5 hown hG h_st rfl 1 (by decide) q672 rfl rfl dX5_serve_91 ?_
      refine lv_aload_n hx hb dX5_serve_94 rfl (lv_at hl 1 rfl) ?_
      refine lv_iconst (v := 0) hx hb dX5_serve_95 (by decide) ?_
      refine vp_callSi (va_Run.run (va_runV (As := [.int 0]) (rest := [.int (sAn S), .int 0, .ref (B 0)]) ⟨hx, hb, hml, hown, hts⟩ (met_X5_speed l g T (M 0) (B 0) S 0) (cwV 1 hts (lw_V q843 q822 q823 q22 q824) rfl rfl rfl (by decide +kernel) ⟨Nat.le_of_ble_eq_true rfl, Nat.le_of_ble_eq_true rfl⟩) (gg_preV hG (hS.kp hG hAN) (gg_recv hG h_st rfl) (RM.of ⟨fb, fn, fc, h_m, h_ib, h_nd, h_ca, h_cd, hOR⟩ ⟨fi, fw, fl, fh, ⟨h_st, h_ai, h_aw, h_al, h_ah⟩, hAR, hZ⟩ hok)) rfl rfl hl.1 rfl (lv_room (Nat.le_of_ble_eq_true rfl)) dX5_serve_96 ⟨Nat.le_of_ble_eq_true rfl, Nat.le_of_ble_eq_true rfl⟩)) (fun r_s hr_s => ?_)
      refine lv_isub hx hb dX5_serve_99 ?_
      refine va_mmax hx hb (by rw [hml]; exact hl.1.symm) hown (hts _ q825) (hts _ q124) (hts _ q31) (hts _ q125) (Nat.le_of_ble_eq_true rfl) (Nat.le_of_ble_eq_true rfl) (Nat.zero_le _) (Nat.zero_le _) dX5_serve_100 ?_
      refine gg_put (ci := 5) (v := .int (if 0 < (sAn S - r_s) then (sAn S - r_s) else 0)) (C := RX5) (T := TX5) (N := 12) hx hb hts in_X5 tyX5 tyX5_ok nmX5 hown hG h_st hS (⟨0, by decide, rfl⟩) rfl 1 (by decide) q672 rfl rfl rfl rfl (Nat.le_of_ble_eq_true rfl) dX5_serve_103 (fun H locs h_st hbut hS => ?_)
      have h_st : va_at (gD g) bbCl ((B 0), .inr (5, [.int (sMi S), .int (if 0 < (sAn S - r_s) then (sAn S - r_s) else 0), .int (sPo S), .int (sIc S), .int (nI (sCo S)), .int (bPassing S), .int (sLa S), .ref (B 1), .ref (B 2), .ref (B 3), .ref (B 4), .ref (M 0)])) H := h_st
      have h_m := h_m.but hbut (nM 0 0 (by decide) (by decide))
      have h_ib := h_ib.but hbut (nM 1 0 (by decide) (by decide))
      have h_nd := h_nd.but hbut (nM 2 0 (by decide) (by decide))
      have h_ca := h_ca.but hbut (nM 3 0 (by decide) (by decide))
      have h_cd := h_cd.but hbut (nM 4 0 (by decide) (by decide))
      have h_ai := h_ai.but hbut (nB 1 0 (by decide) (by decide) (by decide))
      have h_aw := h_aw.but hbut (nB 2 0 (by decide) (by decide) (by decide))
      have h_al := h_al.but hbut (nB 3 0 (by decide) (by decide) (by decide))
      have h_ah := h_ah.but hbut (nB 4 0 (by decide) (by decide) (by decide))
      exact W.vret hx hb hr (fun t9 h9 hW9 => ⟨⟨(), rfl, trivial, by dsimp only; rw [h9]; exact (by rw [bServe, if_neg (show ¬ sAn S = tAngle (sTv S k) from fun e => c_18 (by rw [e, e_b]; exact (want hT).symm)), if_pos ((want_lt hT hok.2.1 (show ¬ sAn S = tAngle (sTv S k) from fun e => c_18 (by rw [e, e_b]; exact (want hT).symm))).mp (by rw [← e_b]; exact c_68)), ← hr_s]; exact ⟨_, _, _, _, ⟨h_st, h_ai, h_aw, h_al, h_ah⟩, hAR, hZ⟩)⟩, hS.F h9⟩) hS.2.2 dX5_serve_106
    · refine lv_bipush (v := 60) hx hb dX5_serve_71 (by decide) ?_
      refine lv_aload_n hx hb dX5_serve_73 rfl (lv_at hl 1 rfl) ?_
      refine gg_get (ci := 5) (C := RX5) (T := TX5) (N := 12) (v := .int (sAn S)) hx hb hts in_X5 hown hG h_st rfl 1 (by decide) q672 rfl rfl dX5_serve_74 ?_
      refine lv_aload_n hx hb dX5_serve_77 rfl (lv_at hl 1 rfl) ?_
      refine lv_iconst (v := 1) hx hb dX5_serve_78 (by decide) ?_
      refine vp_callSi (va_Run.run (va_runV (As := [.int 1]) (rest := [.int (sAn S), .int 60, .ref (B 0)]) ⟨hx, hb, hml, hown, hts⟩ (met_X5_speed l g T (M 0) (B 0) S 1) (cwV 1 hts (lw_V q843 q822 q823 q22 q824) rfl rfl rfl (by decide +kernel) ⟨Nat.le_of_ble_eq_true rfl, Nat.le_of_ble_eq_true rfl⟩) (gg_preV hG (hS.kp hG hAN) (gg_recv hG h_st rfl) (RM.of ⟨fb, fn, fc, h_m, h_ib, h_nd, h_ca, h_cd, hOR⟩ ⟨fi, fw, fl, fh, ⟨h_st, h_ai, h_aw, h_al, h_ah⟩, hAR, hZ⟩ hok)) rfl rfl hl.1 rfl (lv_room (Nat.le_of_ble_eq_true rfl)) dX5_serve_79 ⟨Nat.le_of_ble_eq_true rfl, Nat.le_of_ble_eq_true rfl⟩)) (fun r_s hr_s => ?_)
      refine lv_iadd hx hb dX5_serve_82 ?_
      refine va_mmin hx hb (by rw [hml]; exact hl.1.symm) hown (hts _ q844) (hts _ q225) (hts _ q31) (hts _ q226) (Nat.le_of_ble_eq_true rfl) (Nat.le_of_ble_eq_true rfl) (Nat.zero_le _) (Nat.zero_le _) dX5_serve_83 ?_
      refine lv_goto (tgt := 103) hx hb dX5_serve_86 (by decide) ?_
      refine gg_put (ci := 5) (v := .int (if (sAn S + r_s) < 60 then (sAn S + r_s) else 60)) (C := RX5) (T := TX5) (N := 12) hx hb hts in_X5 tyX5 tyX5_ok nmX5 hown hG h_st hS (⟨0, by decide, rfl⟩) rfl 1 (by decide) q672 rfl rfl rfl rfl (Nat.le_of_ble_eq_true rfl) dX5_serve_103 (fun H locs h_st hbut hS => ?_)
      have h_st : va_at (gD g) bbCl ((B 0), .inr (5, [.int (sMi S), .int (if (sAn S + r_s) < 60 then (sAn S + r_s) else 60), .int (sPo S), .int (sIc S), .int (nI (sCo S)), .int (bPassing S), .int (sLa S), .ref (B 1), .ref (B 2), .ref (B 3), .ref (B 4), .ref (M 0)])) H := h_st
      have h_m := h_m.but hbut (nM 0 0 (by decide) (by decide))
      have h_ib := h_ib.but hbut (nM 1 0 (by decide) (by decide))
      have h_nd := h_nd.but hbut (nM 2 0 (by decide) (by decide))
      have h_ca := h_ca.but hbut (nM 3 0 (by decide) (by decide))
      have h_cd := h_cd.but hbut (nM 4 0 (by decide) (by decide))
      have h_ai := h_ai.but hbut (nB 1 0 (by decide) (by decide) (by decide))
      have h_aw := h_aw.but hbut (nB 2 0 (by decide) (by decide) (by decide))
      have h_al := h_al.but hbut (nB 3 0 (by decide) (by decide) (by decide))
      have h_ah := h_ah.but hbut (nB 4 0 (by decide) (by decide) (by decide))
      exact W.vret hx hb hr (fun t9 h9 hW9 => ⟨⟨(), rfl, trivial, by dsimp only; rw [h9]; exact (by rw [bServe, if_neg (show ¬ sAn S = tAngle (sTv S k) from fun e => c_18 (by rw [e, e_b]; exact (want hT).symm)), if_neg (fun e => c_68 (by rw [e_b]; exact (want_lt hT hok.2.1 (show ¬ sAn S = tAngle (sTv S k) from fun e => c_18 (by rw [e, e_b]; exact (want hT).symm))).mpr e)), ← hr_s]; exact ⟨_, _, _, _, ⟨h_st, h_ai, h_aw, h_al, h_ah⟩, hAR, hZ⟩)⟩, hS.F h9⟩) hS.2.2 dX5_serve_106
  · refine lv_aload_n hx hb dX5_serve_21 rfl (lv_at hl 1 rfl) ?_
    refine lv_iload_n hx hb dX5_serve_22 rfl (lv_at hl 2 rfl) ?_
    refine gg_put (ci := 5) (v := .int (nI k)) (C := RX5) (T := TX5) (N := 12) hx hb hts in_X5 tyX5 tyX5_ok nmX5 hown hG h_st hS (⟨0, by decide, rfl⟩) rfl 5 (by decide) q680 rfl rfl rfl rfl (Nat.le_of_ble_eq_true rfl) dX5_serve_23 (fun H locs h_st hbut hS => ?_)
    have h_st : va_at (gD g) bbCl ((B 0), .inr (5, [.int (sMi S), .int (sAn S), .int (sPo S), .int (sIc S), .int (nI (sCo S)), .int (nI k), .int (sLa S), .ref (B 1), .ref (B 2), .ref (B 3), .ref (B 4), .ref (M 0)])) H := h_st
    have h_m := h_m.but hbut (nM 0 0 (by decide) (by decide))
    have h_ib := h_ib.but hbut (nM 1 0 (by decide) (by decide))
    have h_nd := h_nd.but hbut (nM 2 0 (by decide) (by decide))
    have h_ca := h_ca.but hbut (nM 3 0 (by decide) (by decide))
    have h_cd := h_cd.but hbut (nM 4 0 (by decide) (by decide))
    have h_ai := h_ai.but hbut (nB 1 0 (by decide) (by decide) (by decide))
    have h_aw := h_aw.but hbut (nB 2 0 (by decide) (by decide) (by decide))
    have h_al := h_al.but hbut (nB 3 0 (by decide) (by decide) (by decide))
    have h_ah := h_ah.but hbut (nB 4 0 (by decide) (by decide) (by decide))
    refine lv_aload_n hx hb dX5_serve_26 rfl (lv_at hl 1 rfl) ?_
    refine gg_get (ci := 5) (C := RX5) (T := TX5) (N := 12) (v := .ref (B 1)) hx hb hts in_X5 hown hG h_st rfl 7 (by decide) q682 rfl rfl dX5_serve_27 ?_
    refine lv_iload_n hx hb dX5_serve_30 rfl (lv_at hl 2 rfl) ?_
    refine lv_iconst (v := 1) hx hb dX5_serve_31 (by decide) ?_
    refine gg_iast hx hb hG h_ai hS (⟨1, by decide, rfl⟩) k (show k < 40 by omega) (by decide) rfl dX5_serve_32 (fun H locs h_ai hbut hS => ?_)
    have h_ai : va_at (gD g) bbCl ((B 1), .inl (gI g, 40, .inl (upd fi k 1))) H := h_ai
    have h_m := h_m.but hbut (nM 0 1 (by decide) (by decide))
    have h_ib := h_ib.but hbut (nM 1 1 (by decide) (by decide))
    have h_nd := h_nd.but hbut (nM 2 1 (by decide) (by decide))
    have h_ca := h_ca.but hbut (nM 3 1 (by decide) (by decide))
    have h_cd := h_cd.but hbut (nM 4 1 (by decide) (by decide))
    have h_st := h_st.but hbut (nB 0 1 (by decide) (by decide) (by decide))
    have h_aw := h_aw.but hbut (nB 2 1 (by decide) (by decide) (by decide))
    have h_al := h_al.but hbut (nB 3 1 (by decide) (by decide) (by decide))
    have h_ah := h_ah.but hbut (nB 4 1 (by decide) (by decide) (by decide))
    refine lv_aload_n hx hb dX5_serve_33 rfl (lv_at hl 1 rfl) ?_
    refine gg_get (ci := 5) (C := RX5) (T := TX5) (N := 12) (v := .ref (B 3)) hx hb hts in_X5 hown hG h_st rfl 9 (by decide) q686 rfl rfl dX5_serve_34 ?_
    refine lv_iload_n hx hb dX5_serve_37 rfl (lv_at hl 2 rfl) ?_
    refine lv_aload_n hx hb dX5_serve_38 rfl (lv_at hl 1 rfl) ?_
    refine gg_get (ci := 5) (C := RX5) (T := TX5) (N := 12) (v := .ref (M 0)) hx hb hts in_X5 hown hG h_st rfl 11 (by decide) q690 rfl rfl dX5_serve_39 ?_
    refine gg_getN (ci := 4) (C := RX4) (T := TX4) (N := 8) (v := .ref (M 2)) hx hb hts in_X4 hown hG h_m rfl 3 (by decide) q722 rfl rfl dX5_serve_42 ?_
    refine lv_iload_n hx hb dX5_serve_45 rfl (lv_at hl 2 rfl) ?_
    refine gg_iald hx hb hG h_nd k (show k < 40 by omega) (by decide) rfl dX5_serve_46 ?_
    refine gg_iast hx hb hG h_al hS (⟨3, by decide, rfl⟩) k (show k < 40 by omega) (by decide) rfl dX5_serve_47 (fun H locs h_al hbut hS => ?_)
    have h_al : va_at (gD g) bbCl ((B 3), .inl (gI g, 40, .inl (upd fl k (fn k)))) H := h_al
    have h_m := h_m.but hbut (nM 0 3 (by decide) (by decide))
    have h_ib := h_ib.but hbut (nM 1 3 (by decide) (by decide))
    have h_nd := h_nd.but hbut (nM 2 3 (by decide) (by decide))
    have h_ca := h_ca.but hbut (nM 3 3 (by decide) (by decide))
    have h_cd := h_cd.but hbut (nM 4 3 (by decide) (by decide))
    have h_st := h_st.but hbut (nB 0 3 (by decide) (by decide) (by decide))
    have h_ai := h_ai.but hbut (nB 1 3 (by decide) (by decide) (by decide))
    have h_aw := h_aw.but hbut (nB 2 3 (by decide) (by decide) (by decide))
    have h_ah := h_ah.but hbut (nB 4 3 (by decide) (by decide) (by decide))
    refine lv_aload_n hx hb dX5_serve_48 rfl (lv_at hl 1 rfl) ?_
    refine lv_aload_n hx hb dX5_serve_49 rfl (lv_at hl 1 rfl) ?_
    refine gg_get (ci := 5) (C := RX5) (T := TX5) (N := 12) (v := .ref (M 0)) hx hb hts in_X5 hown hG h_st rfl 11 (by decide) q690 rfl rfl dX5_serve_50 ?_
    refine gg_getN (ci := 4) (C := RX4) (T := TX4) (N := 8) (v := .ref (M 1)) hx hb hts in_X4 hown hG h_m rfl 2 (by decide) q720 rfl rfl dX5_serve_53 ?_
    refine lv_iload_n hx hb dX5_serve_56 rfl (lv_at hl 2 rfl) ?_
    refine gg_iald hx hb hG h_ib k (show k < 40 by omega) (by decide) rfl dX5_serve_57 ?_
    refine gg_put (ci := 5) (v := .int (fb k)) (C := RX5) (T := TX5) (N := 12) hx hb hts in_X5 tyX5 tyX5_ok nmX5 hown hG h_st hS (⟨0, by decide, rfl⟩) rfl 6 (by decide) q681 rfl rfl rfl rfl (Nat.le_of_ble_eq_true rfl) dX5_serve_58 (fun H locs h_st hbut hS => ?_)
    have h_st : va_at (gD g) bbCl ((B 0), .inr (5, [.int (sMi S), .int (sAn S), .int (sPo S), .int (sIc S), .int (nI (sCo S)), .int (nI k), .int (fb k), .ref (B 1), .ref (B 2), .ref (B 3), .ref (B 4), .ref (M 0)])) H := h_st
    have h_m := h_m.but hbut (nM 0 0 (by decide) (by decide))
    have h_ib := h_ib.but hbut (nM 1 0 (by decide) (by decide))
    have h_nd := h_nd.but hbut (nM 2 0 (by decide) (by decide))
    have h_ca := h_ca.but hbut (nM 3 0 (by decide) (by decide))
    have h_cd := h_cd.but hbut (nM 4 0 (by decide) (by decide))
    have h_ai := h_ai.but hbut (nB 1 0 (by decide) (by decide) (by decide))
    have h_aw := h_aw.but hbut (nB 2 0 (by decide) (by decide) (by decide))
    have h_al := h_al.but hbut (nB 3 0 (by decide) (by decide) (by decide))
    have h_ah := h_ah.but hbut (nB 4 0 (by decide) (by decide) (by decide))
    have hS1 : bServe S k = ((sMi S, sAn S, sPo S, sIc S, sCo S, tBa (sTv S k)), sCd S, sN S, va_up (sTv S) k (tPass (sTv S k))) := if_pos (by rw [c_18, e_b]; exact want hT)
    have hpa : bPassing (((sMi S, sAn S, sPo S, sIc S, sCo S, tBa (sTv S k)), sCd S, sN S, va_up (sTv S) k (tPass (sTv S k))) : BS) = nI k := by
      refine bPassing_is (S := ((sMi S, sAn S, sPo S, sIc S, sCo S, tBa (sTv S k)), sCd S, sN S, va_up (sTv S) k (tPass (sTv S k)))) hn40 hk ?_ (fun j hj e => ?_)
      · show tSt (va_up (sTv S) k (tPass (sTv S k)) k) = 1
        rw [va_up_self]
        rfl
      · by_cases hjk : j = k
        · exact hjk
        · have e : tSt (va_up (sTv S) k (tPass (sTv S k)) j) = 1 := e
          rw [va_up_ne _ _ hjk] at e
          exact absurd e (h1 j hj)
    rw [← hpa, e_b] at h_st
    exact W.vret hx hb hr (fun t9 h9 hW9 => ⟨⟨(), rfl, trivial, by dsimp only; rw [h9]; exact (by rw [hS1]; exact ⟨_, _, _, _, ⟨h_st, h_ai, h_aw, h_al, h_ah⟩, fun j hj => by (show _ = nI (tSt (va_up (sTv S) k (tPass (sTv S k)) j)) ∧ _ = tWa (va_up (sTv S) k (tPass (sTv S k)) j) ∧ _ = tLe (va_up (sTv S) k (tPass (sTv S k)) j) ∧ _ = tPa (va_up (sTv S) k (tPass (sTv S k)) j); obtain ⟨a1, a2, a3, a4⟩ := hAR j hj; by_cases hjk : j = k; (subst hjk; rw [va_up_self, upd_at, upd_at, e_n]; exact ⟨rfl, a2, rfl, a4⟩); (rw [va_up_ne _ _ hjk, upd_ne _ _ hjk, upd_ne _ _ hjk]; exact ⟨a1, a2, a3, a4⟩)), (hZ.i hk _).l hk _⟩)⟩, hS.F h9⟩) hS.2.2 dX5_serve_61
