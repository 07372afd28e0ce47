/-! THE MODEL STATE, on. -/
set_option maxRecDepth 100000
def B5 (st a1 a2 a3 a4 : Nat) (i : Nat) : Nat := match i with
  | 0 => st
  | 1 => a1
  | 2 => a2
  | 3 => a3
  | _ => a4
theorem bPassing_bs0 : bPassing bs0 = -1 := bPassing_no (S := bs0) (fun j hj => absurd hj (Nat.not_lt_zero _))
theorem B5_inj {st a1 a2 a3 a4 : Nat} (h1 : st ≠ a1) (h2 : st ≠ a2) (h3 : st ≠ a3) (h4 : st ≠ a4) (h5 : a1 ≠ a2) (h6 : a1 ≠ a3) (h7 : a1 ≠ a4) (h8 : a2 ≠ a3) (h9 : a2 ≠ a4) (h10 : a3 ≠ a4) : Inj5 (B5 st a1 a2 a3 a4) := by
  intro i j hi hj e
  rcases (show i = 0 ∨ i = 1 ∨ i = 2 ∨ i = 3 ∨ i = 4 by omega) with rfl | rfl | rfl | rfl | rfl <;> rcases (show j = 0 ∨ j = 1 ∨ j = 2 ∨ j = 3 ∨ j = 4 by omega) with rfl | rfl | rfl | rfl | rfl <;> first | rfl | (simp only [B5] at e; omega)
theorem ne_up {st sz a k : Nat} (h : st < sz) (e : a = sz + k) : a ≠ st := by omega
theorem B5_up {st sz a1 a2 a3 a4 z : Nat} (h : st < sz) (e1 : a1 = sz + 0) (e2 : a2 = sz + 1) (e3 : a3 = sz + 2) (e4 : a4 = sz + 3) (hz : z = sz + 4) : Inj5 (B5 st a1 a2 a3 a4) ∧ ∀ i, 1 ≤ i → i < 5 → sz ≤ B5 st a1 a2 a3 a4 i ∧ B5 st a1 a2 a3 a4 i < z := by
  refine ⟨B5_inj (by omega) (by omega) (by omega) (by omega) (by omega) (by omega) (by omega) (by omega) (by omega) (by omega), fun i h1 h2 => ?_⟩
  rcases (show i = 1 ∨ i = 2 ∨ i = 3 ∨ i = 4 by omega) with rfl | rfl | rfl | rfl <;> (simp only [B5]; omega)

set_option maxHeartbeats 4000000 in
theorem met_X5_init (l : Launch) (g : GT) (st m0 sz : Nat) (hstz : st < sz) (hNst : gA g st) : Met l yX5_init (ws_ yX5_init cX5_init 2 none) ({ frames := 1, cells := 4, slots := 160, locals := 20 } : Room) (PcG g [.ref st, .ref m0] (fun H => H.size = sz ∧ va_at (gD g) bbCl (st, .inr (5, [.int 0, .int 0, .int 0, .int 0, .int 0, .int 0, .int 0, .null, .null, .null, .null, .null])) H)) (va_Qv (fun _ : Unit => True) (fun _ u => ∃ B : Nat → Nat, B 0 = st ∧ Inj5 B ∧ (∀ i, 1 ≤ i → i < 5 → sz ≤ B i ∧ B i < u.heap.size) ∧ SP g B m0 bs0 u.heap) (fun q => q = st ∨ sz ≤ q)) 4 160 (fun q => q = st ∨ sz ≤ q) := by
  refine gg_met (cc := cX5_init) (maxL := 2) (ret := none) (by decide) (Nat.le_of_ble_eq_true rfl) ?_
  intro p e s m below meth c hx hb hr hlk hin hml hown hts hG hB ls hl
  have hown : s.vm.findClass RX5 = some m.cls := hown
  have hl : lv_has ls 2 [(0, .ref st), (1, .ref m0)] := hl
  obtain ⟨hz, h_st⟩ := hB
  have hAN : ∀ q, q = st ∨ sz ≤ q → gA g q := fun q e => e.elim (fun e => by rw [e]; exact hNst) (fun e => Nat.le_trans (by rw [← hz]; exact hG.sz) e)
  have hS : va_S (fun q => q = st ∨ sz ≤ q) s.heap s.heap [] := va_S.rf
  refine lv_aload_n hx hb dX5_init_0 rfl (lv_at hl 0 rfl) ?_
  refine lv_aload_n hx hb dX5_init_1 rfl (lv_at hl 1 rfl) ?_
  refine gg_putF (ci := 5) (v := .ref m0) (C := RX5) (T := TX5) (N := 12) hx hb hts in_X5 tyX5 tyX5_ok nmX5 hown hG h_st hS (Or.inl rfl) rfl 11 (by decide) q690 rfl rfl hin rfl rfl (Nat.le_of_ble_eq_true rfl) dX5_init_2 (fun H locs h_st hbut hS => ?_)
  have h_st : va_at (gD g) bbCl (st, .inr (5, [.int 0, .int 0, .int 0, .int 0, .int 0, .int 0, .int 0, .null, .null, .null, .null, .ref m0])) H := h_st
  have hz : H.size = sz := by rw [hbut.1, hz]
  refine lv_aload_n hx hb dX5_init_5 rfl (lv_at hl 0 rfl) ?_
  refine W.objInit hx hb hown (hts _ q669) (hts _ q45) (hts _ q46) rfl (by rw [hml]; exact hl.1) rfl dX5_init_6 (Nat.le_of_ble_eq_true rfl) (Nat.le_of_ble_eq_true rfl) ?_
  refine W.eq (g2 := F0 m 9 ls []) rfl ?_
  refine lv_aload_n hx hb dX5_init_9 rfl (lv_at hl 0 rfl) ?_
  refine lv_bipush (v := 15) hx hb dX5_init_10 (by decide) ?_
  refine gg_put (ci := 5) (v := .int 15) (C := RX5) (T := TX5) (N := 12) hx hb hts in_X5 tyX5 tyX5_ok nmX5 hown hG h_st hS (Or.inl rfl) rfl 2 (by decide) q674 rfl rfl rfl rfl (Nat.le_of_ble_eq_true rfl) dX5_init_12 (fun H locs h_st hbut hS => ?_)
  have h_st : va_at (gD g) bbCl (st, .inr (5, [.int 0, .int 0, .int 15, .int 0, .int 0, .int 0, .int 0, .null, .null, .null, .null, .ref m0])) H := h_st
  have hz : H.size = sz := by rw [hbut.1, hz]
  refine lv_aload_n hx hb dX5_init_15 rfl (lv_at hl 0 rfl) ?_
  refine lv_iconst (v := (-1)) hx hb dX5_init_16 (by decide) ?_
  refine gg_put (ci := 5) (v := .int (-1)) (C := RX5) (T := TX5) (N := 12) hx hb hts in_X5 tyX5 tyX5_ok nmX5 hown hG h_st hS (Or.inl rfl) rfl 5 (by decide) q680 rfl rfl rfl rfl (Nat.le_of_ble_eq_true rfl) dX5_init_17 (fun H locs h_st hbut hS => ?_)
  have h_st : va_at (gD g) bbCl (st, .inr (5, [.int 0, .int 0, .int 15, .int 0, .int 0, .int (-1), .int 0, .null, .null, .null, .null, .ref m0])) H := h_st
  have hz : H.size = sz := by rw [hbut.1, hz]
  refine lv_aload_n hx hb dX5_init_20 rfl (lv_at hl 0 rfl) ?_
  refine lv_bipush (v := 40) hx hb dX5_init_21 (by decide) ?_
  refine gg_newi (N' := 40) hx hb hts hG hS rfl (by decide) (Nat.le_of_ble_eq_true rfl) (Nat.le_of_ble_eq_true rfl) dX5_init_23 (fun a1 H ha1 h_a1 hgr hS => ?_)
  have ha1 : a1 = sz + 0 := ha1.trans hz
  have hz : H.size = sz + 1 := by rw [hgr.1, hz]
  have h_st := h_st.grow hgr
  refine gg_putF (ci := 5) (v := .ref a1) (C := RX5) (T := TX5) (N := 12) hx hb hts in_X5 tyX5 tyX5_ok nmX5 hown hG h_st hS (Or.inl rfl) rfl 7 (by decide) q682 rfl rfl hin rfl rfl (Nat.le_of_ble_eq_true rfl) dX5_init_25 (fun H locs h_st hbut hS => ?_)
  have h_st : va_at (gD g) bbCl (st, .inr (5, [.int 0, .int 0, .int 15, .int 0, .int 0, .int (-1), .int 0, .ref a1, .null, .null, .null, .ref m0])) H := h_st
  have h_a1 := h_a1.but hbut (ne_up hstz ha1)
  have hz : H.size = sz + 1 := by rw [hbut.1, hz]
  refine lv_aload_n hx hb dX5_init_28 rfl (lv_at hl 0 rfl) ?_
  refine lv_bipush (v := 40) hx hb dX5_init_29 (by decide) ?_
  refine gg_newi (N' := 40) hx hb hts hG hS rfl (by decide) (Nat.le_of_ble_eq_true rfl) (Nat.le_of_ble_eq_true rfl) dX5_init_31 (fun a2 H ha2 h_a2 hgr hS => ?_)
  have ha2 : a2 = sz + 1 := ha2.trans hz
  have hz : H.size = sz + 2 := by rw [hgr.1, hz]
  have h_st := h_st.grow hgr
  have h_a1 := h_a1.grow hgr
  refine gg_putF (ci := 5) (v := .ref a2) (C := RX5) (T := TX5) (N := 12) hx hb hts in_X5 tyX5 tyX5_ok nmX5 hown hG h_st hS (Or.inl rfl) rfl 8 (by decide) q684 rfl rfl hin rfl rfl (Nat.le_of_ble_eq_true rfl) dX5_init_33 (fun H locs h_st hbut hS => ?_)
  have h_st : va_at (gD g) bbCl (st, .inr (5, [.int 0, .int 0, .int 15, .int 0, .int 0, .int (-1), .int 0, .ref a1, .ref a2, .null, .null, .ref m0])) H := h_st
  have h_a1 := h_a1.but hbut (ne_up hstz ha1)
  have h_a2 := h_a2.but hbut (ne_up hstz ha2)
  have hz : H.size = sz + 2 := by rw [hbut.1, hz]
  refine lv_aload_n hx hb dX5_init_36 rfl (lv_at hl 0 rfl) ?_
  refine lv_bipush (v := 40) hx hb dX5_init_37 (by decide) ?_
  refine gg_newi (N' := 40) hx hb hts hG hS rfl (by decide) (Nat.le_of_ble_eq_true rfl) (Nat.le_of_ble_eq_true rfl) dX5_init_39 (fun a3 H ha3 h_a3 hgr hS => ?_)
  have ha3 : a3 = sz + 2 := ha3.trans hz
  have hz : H.size = sz + 3 := by rw [hgr.1, hz]
  have h_st := h_st.grow hgr
  have h_a1 := h_a1.grow hgr
  have h_a2 := h_a2.grow hgr
  refine gg_putF (ci := 5) (v := .ref a3) (C := RX5) (T := TX5) (N := 12) hx hb hts in_X5 tyX5 tyX5_ok nmX5 hown hG h_st hS (Or.inl rfl) rfl 9 (by decide) q686 rfl rfl hin rfl rfl (Nat.le_of_ble_eq_true rfl) dX5_init_41 (fun H locs h_st hbut hS => ?_)
  have h_st : va_at (gD g) bbCl (st, .inr (5, [.int 0, .int 0, .int 15, .int 0, .int 0, .int (-1), .int 0, .ref a1, .ref a2, .ref a3, .null, .ref m0])) H := h_st
  have h_a1 := h_a1.but hbut (ne_up hstz ha1)
  have h_a2 := h_a2.but hbut (ne_up hstz ha2)
  have h_a3 := h_a3.but hbut (ne_up hstz ha3)
  have hz : H.size = sz + 3 := by rw [hbut.1, hz]
  refine lv_aload_n hx hb dX5_init_44 rfl (lv_at hl 0 rfl) ?_
  refine lv_bipush (v := 40) hx hb dX5_init_45 (by decide) ?_
  refine gg_newi (N' := 40) hx hb hts hG hS rfl (by decide) (Nat.le_of_ble_eq_true rfl) (Nat.le_of_ble_eq_true rfl) dX5_init_47 (fun a4 H ha4 h_a4 hgr hS => ?_)
  have ha4 : a4 = sz + 3 := ha4.trans hz
  have hz : H.size = sz + 4 := by rw [hgr.1, hz]
  have h_st := h_st.grow hgr
  have h_a1 := h_a1.grow hgr
  have h_a2 := h_a2.grow hgr
  have h_a3 := h_a3.grow hgr
  refine gg_putF (ci := 5) (v := .ref a4) (C := RX5) (T := TX5) (N := 12) hx hb hts in_X5 tyX5 tyX5_ok nmX5 hown hG h_st hS (Or.inl rfl) rfl 10 (by decide) q688 rfl rfl hin rfl rfl (Nat.le_of_ble_eq_true rfl) dX5_init_49 (fun H locs h_st hbut hS => ?_)
  have h_st : va_at (gD g) bbCl (st, .inr (5, [.int 0, .int 0, .int 15, .int 0, .int 0, .int (-1), .int 0, .ref a1, .ref a2, .ref a3, .ref a4, .ref m0])) H := h_st
  have h_a1 := h_a1.but hbut (ne_up hstz ha1)
  have h_a2 := h_a2.but hbut (ne_up hstz ha2)
  have h_a3 := h_a3.but hbut (ne_up hstz ha3)
  have h_a4 := h_a4.but hbut (ne_up hstz ha4)
  have hz : H.size = sz + 4 := by rw [hbut.1, hz]
  refine W.vret hx hb hr (fun t9 h9 hW9 => ⟨⟨(), rfl, trivial, ?_⟩, hS.F h9⟩) hS.2.2 dX5_init_52
  dsimp only
  rw [h9]
  have h_st : va_at (gD g) bbCl (st, stE bs0 a1 a2 a3 a4 m0) H := by
    show va_at (gD g) bbCl (st, .inr (5, [.int 0, .int 0, .int 15, .int 0, .int (nI 0), .int (bPassing bs0), .int 0, .ref a1, .ref a2, .ref a3, .ref a4, .ref m0])) H
    rw [bPassing_bs0, nI_0]
    exact h_st
  have hup := B5_up hstz ha1 ha2 ha3 ha4 hz
  exact ⟨B5 st a1 a2 a3 a4, rfl, hup.1, hup.2, fun _ => 0, fun _ => 0, fun _ => 0, fun _ => 0, ⟨h_st, h_a1, h_a2, h_a3, h_a4⟩, fun k hk => absurd hk (Nat.not_lt_zero _), fun _ _ _ => ⟨rfl, rfl, rfl⟩⟩
