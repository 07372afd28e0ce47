/-! READERS of travellers, lists and the bridge: they change nothing. -/
set_option maxRecDepth 100000

theorem b01_f {c : Prop} [Decidable c] {r : Int32} (h : r = if c then 1 else 0) (h0 : r = 0) : ¬ c := by
  intro hc
  rw [if_pos hc] at h
  rw [h] at h0
  exact absurd h0 (by decide)
theorem b01_t {c : Prop} [Decidable c] {r : Int32} (h : r = if c then 1 else 0) (h0 : ¬ r = 0) : c := by
  by_cases hc : c
  · exact hc
  · rw [if_neg hc] at h
    exact absurd h h0

set_option maxHeartbeats 4000000 in
/-- Traveller.is -/
theorem met_X6_is (l : Launch) (g : GT) (a : Nat) (t : TT) (j : Nat) (ht : tSt t < 4) (hj : j < 4) : Met l yX6_is (ws_ yX6_is cX6_is 2 (Option.some Jvm.ClassFile.FieldType.boolean)) ({ frames := 0, cells := 0, slots := 0, locals := 0 } : Room) (PcG g [.ref a, .ref (gS g j)] (fun H => va_at (gD g) bbCl (a, tvE g t) H)) (vp_Si (fun r => r = if tSt t = j then 1 else 0)) 0 0 (fun _ => False) := by
  refine gg_met (cc := cX6_is) (maxL := 2) (ret := (Option.some Jvm.ClassFile.FieldType.boolean)) (by decide) (Nat.le_of_ble_eq_true rfl) ?_
  intro p e s m below meth c hx hb hr hlk hin hml hown hts hG hB ls hl
  have hown : s.vm.findClass RX6 = some m.cls := hown
  have hl : lv_has ls 2 [(0, .ref a), (1, .ref (gS g j))] := hl
  refine lv_aload_n hx hb dX6_is_0 rfl (lv_at hl 0 rfl) ?_
  refine gg_get (ci := 2) (C := RX6) (T := TX6) (N := 7) (v := .ref (gS g (tSt t))) hx hb hts in_X6 hown hG hB rfl 3 (by decide) q369 rfl rfl dX6_is_1 ?_
  refine lv_aload_n hx hb dX6_is_4 rfl (lv_at hl 1 rfl) ?_
  refine gg_acmp_ne (tgt := 12) hx hb dX6_is_5 (by decide) (fun c_5 => ?_) (fun c_5 => ?_)
  · refine lv_iconst (v := 0) hx hb dX6_is_12 (by decide) ?_
    exact W.zret (v := 0) hx hb hr rfl (fun t9 h9 hW9 => ⟨_, rfl, (if_neg (fun e => c_5 ((hG.sinj ht hj).mpr e))).symm, h9⟩) (fun _ h => absurd h List.not_mem_nil) dX6_is_13
  · refine lv_iconst (v := 1) hx hb dX6_is_8 (by decide) ?_
    refine lv_goto (tgt := 13) hx hb dX6_is_9 (by decide) ?_
    exact W.zret (v := 1) hx hb hr rfl (fun t9 h9 hW9 => ⟨_, rfl, (if_pos ((hG.sinj ht hj).mp c_5)).symm, h9⟩) (fun _ h => absurd h List.not_mem_nil) dX6_is_13

set_option maxHeartbeats 4000000 in
/-- Traveller.angle -/
theorem met_X6_angle (l : Launch) (g : GT) (a : Nat) (t : TT) : Met l yX6_angle (ws_ yX6_angle cX6_angle 1 (Option.some Jvm.ClassFile.FieldType.int)) ({ frames := 0, cells := 0, slots := 0, locals := 0 } : Room) (PcG g [.ref a] (fun H => va_at (gD g) bbCl (a, tvE g t) H)) (vp_Si (fun r => r = tAngle t)) 0 0 (fun _ => False) := by
  refine gg_met (cc := cX6_angle) (maxL := 1) (ret := (Option.some Jvm.ClassFile.FieldType.int)) (by decide) (Nat.le_of_ble_eq_true rfl) ?_
  intro p e s m below meth c hx hb hr hlk hin hml hown hts hG hB ls hl
  have hown : s.vm.findClass RX6 = some m.cls := hown
  have hl : lv_has ls 1 [(0, .ref a)] := hl
  refine lv_aload_n hx hb dX6_angle_0 rfl (lv_at hl 0 rfl) ?_
  refine gg_get (ci := 2) (C := RX6) (T := TX6) (N := 7) (v := .int (tBa t)) hx hb hts in_X6 hown hG hB rfl 0 (by decide) q362 rfl rfl dX6_angle_1 ?_
  refine lv_if_eq (tgt := 12) hx hb dX6_angle_4 (by decide) (fun c_4 => ?_) (fun c_4 => ?_)
  · refine lv_iconst (v := 0) hx hb dX6_angle_12 (by decide) ?_
    exact W.iret (v := 0) hx hb hr (fun t9 h9 hW9 => ⟨_, rfl, (if_pos c_4).symm, h9⟩) (fun _ h => absurd h List.not_mem_nil) dX6_angle_13
  · refine lv_bipush (v := 60) hx hb dX6_angle_7 (by decide) ?_
    refine lv_goto (tgt := 13) hx hb dX6_angle_9 (by decide) ?_
    exact W.iret (v := 60) hx hb hr (fun t9 h9 hW9 => ⟨_, rfl, (if_neg c_4).symm, h9⟩) (fun _ h => absurd h List.not_mem_nil) dX6_angle_13

set_option maxHeartbeats 4000000 in
theorem met_J0_ordinalS (l : Launch) (g : GT) (i : Nat) (hi : i < 4) : Met l yJ0_ordinal (ws_ yJ0_ordinal cJ0_ordinal 1 (Option.some Jvm.ClassFile.FieldType.int)) ({ frames := 0, cells := 0, slots := 0, locals := 0 } : Room) (PcG g [.ref (gS g i)] (fun _ => True)) (vp_Si (fun r => r = nI i)) 0 0 (fun _ => False) := by
  refine gg_met (cc := cJ0_ordinal) (maxL := 1) (ret := (Option.some Jvm.ClassFile.FieldType.int)) (by decide) (Nat.le_of_ble_eq_true rfl) ?_
  intro p e s m below meth c hx hb hr hlk hin hml hown hts hG hB ls hl
  have hown : s.vm.findClass RJ0 = some m.cls := hown
  have hl : lv_has ls 1 [(0, .ref (gS g i))] := hl
  refine lv_aload_n hx hb dJ0_ordinal_0 rfl (lv_at hl 0 rfl) ?_
  refine gg_ordS hx hb hts hown hG (Kp.rf hG) i hi q922 dJ0_ordinal_1 ?_
  exact W.iret (v := (nI i)) hx hb hr (fun t9 h9 hW9 => ⟨_, rfl, rfl, h9⟩) (fun _ h => absurd h List.not_mem_nil) dJ0_ordinal_4

set_option maxHeartbeats 4000000 in
theorem met_J0_ordinalC (l : Launch) (g : GT) (i : Nat) (hi : i < 5) : Met l yJ0_ordinal (ws_ yJ0_ordinal cJ0_ordinal 1 (Option.some Jvm.ClassFile.FieldType.int)) ({ frames := 0, cells := 0, slots := 0, locals := 0 } : Room) (PcG g [.ref (gC g i)] (fun _ => True)) (vp_Si (fun r => r = nI i)) 0 0 (fun _ => False) := by
  refine gg_met (cc := cJ0_ordinal) (maxL := 1) (ret := (Option.some Jvm.ClassFile.FieldType.int)) (by decide) (Nat.le_of_ble_eq_true rfl) ?_
  intro p e s m below meth c hx hb hr hlk hin hml hown hts hG hB ls hl
  have hown : s.vm.findClass RJ0 = some m.cls := hown
  have hl : lv_has ls 1 [(0, .ref (gC g i))] := hl
  refine lv_aload_n hx hb dJ0_ordinal_0 rfl (lv_at hl 0 rfl) ?_
  refine gg_ordC hx hb hts hown hG (Kp.rf hG) i hi q922 dJ0_ordinal_1 ?_
  exact W.iret (v := (nI i)) hx hb hr (fun t9 h9 hW9 => ⟨_, rfl, rfl, h9⟩) (fun _ h => absurd h List.not_mem_nil) dJ0_ordinal_4

set_option maxHeartbeats 4000000 in
theorem met_J3_size (l : Launch) (g : GT) (al el n : Nat) (mc : Int32) : Met l yJ3_size (ws_ yJ3_size cJ3_size 1 (Option.some Jvm.ClassFile.FieldType.int)) ({ frames := 0, cells := 0, slots := 0, locals := 0 } : Room) (PcG g [.ref al] (fun H => va_at (gD g) bbCl (al, alE mc el n) H)) (vp_Si (fun r => r = nI n)) 0 0 (fun _ => False) := by
  refine gg_met (cc := cJ3_size) (maxL := 1) (ret := (Option.some Jvm.ClassFile.FieldType.int)) (by decide) (Nat.le_of_ble_eq_true rfl) ?_
  intro p e s m below meth c hx hb hr hlk hin hml hown hts hG hB ls hl
  have hown : s.vm.findClass RJ3 = some m.cls := hown
  have hl : lv_has ls 1 [(0, .ref al)] := hl
  refine lv_aload_n hx hb dJ3_size_0 rfl (lv_at hl 0 rfl) ?_
  refine gg_get (ci := 3) (C := RJ3) (T := TJ3) (N := 3) (v := .int (nI n)) hx hb hts in_J3 hown hG hB rfl 2 (by decide) q70 rfl rfl dJ3_size_1 ?_
  exact W.iret (v := (nI n)) hx hb hr (fun t9 h9 hW9 => ⟨_, rfl, rfl, h9⟩) (fun _ h => absurd h List.not_mem_nil) dJ3_size_4

set_option maxHeartbeats 4000000 in
theorem met_J3_isEmpty (l : Launch) (g : GT) (al el n : Nat) (mc : Int32) (hn : n < 2 ^ 31) : Met l yJ3_isEmpty (ws_ yJ3_isEmpty cJ3_isEmpty 1 (Option.some Jvm.ClassFile.FieldType.boolean)) ({ frames := 0, cells := 0, slots := 0, locals := 0 } : Room) (PcG g [.ref al] (fun H => va_at (gD g) bbCl (al, alE mc el n) H)) (vp_Si (fun r => r = if n = 0 then 1 else 0)) 0 0 (fun _ => False) := by
  refine gg_met (cc := cJ3_isEmpty) (maxL := 1) (ret := (Option.some Jvm.ClassFile.FieldType.boolean)) (by decide) (Nat.le_of_ble_eq_true rfl) ?_
  intro p e s m below meth c hx hb hr hlk hin hml hown hts hG hB ls hl
  have hown : s.vm.findClass RJ3 = some m.cls := hown
  have hl : lv_has ls 1 [(0, .ref al)] := hl
  refine lv_aload_n hx hb dJ3_isEmpty_0 rfl (lv_at hl 0 rfl) ?_
  refine gg_get (ci := 3) (C := RJ3) (T := TJ3) (N := 3) (v := .int (nI n)) hx hb hts in_J3 hown hG hB rfl 2 (by decide) q70 rfl rfl dJ3_isEmpty_1 ?_
  refine lv_if_ne (tgt := 11) hx hb dJ3_isEmpty_4 (by decide) (fun c_4 => ?_) (fun c_4 => ?_)
  · refine lv_iconst (v := 0) hx hb dJ3_isEmpty_11 (by decide) ?_
    exact W.zret (v := 0) hx hb hr rfl (fun t9 h9 hW9 => ⟨_, rfl, (if_neg (fun e => c_4 (by rw [e]; exact nI_0))).symm, h9⟩) (fun _ h => absurd h List.not_mem_nil) dJ3_isEmpty_12
  · refine lv_iconst (v := 1) hx hb dJ3_isEmpty_7 (by decide) ?_
    refine lv_goto (tgt := 12) hx hb dJ3_isEmpty_8 (by decide) ?_
    exact W.zret (v := 1) hx hb hr rfl (fun t9 h9 hW9 => ⟨_, rfl, (if_pos ((nI_eq hn (by decide)).mp (c_4.trans nI_0.symm))).symm, h9⟩) (fun _ h => absurd h List.not_mem_nil) dJ3_isEmpty_12

set_option maxHeartbeats 4000000 in
theorem met_J16_checkIndex (l : Launch) (g : GT) (k n : Nat) (hk : k < n) (hn : n < 2 ^ 31) : Met l yJ16_checkIndex (ws_ yJ16_checkIndex cJ16_checkIndex 3 (Option.some Jvm.ClassFile.FieldType.int)) ({ frames := 0, cells := 0, slots := 0, locals := 0 } : Room) (PcG g [.int (nI k), .int (nI n), .null] (fun _ => True)) (vp_Si (fun r => r = nI k)) 0 0 (fun _ => False) := by
  refine gg_met (cc := cJ16_checkIndex) (maxL := 3) (ret := (Option.some Jvm.ClassFile.FieldType.int)) (by decide) (Nat.le_of_ble_eq_true rfl) ?_
  intro p e s m below meth c hx hb hr hlk hin hml hown hts hG hB ls hl
  have hown : s.vm.findClass RJ16 = some m.cls := hown
  have hl : lv_has ls 3 [(0, .int (nI k)), (1, .int (nI n)), (2, .null)] := hl
  refine lv_iload_n hx hb dJ16_checkIndex_0 rfl (lv_at hl 0 rfl) ?_
  refine lv_if_lt (tgt := 9) hx hb dJ16_checkIndex_1 (by decide) (fun c_1 => absurd c_1 (nI_pos (Nat.lt_trans hk hn))) (fun c_1 => ?_)
  refine lv_iload_n hx hb dJ16_checkIndex_4 rfl (lv_at hl 0 rfl) ?_
  refine lv_iload_n hx hb dJ16_checkIndex_5 rfl (lv_at hl 1 rfl) ?_
  refine lv_icmp_lt (tgt := 16) hx hb dJ16_checkIndex_6 (by decide) (fun c_6 => ?_) (fun c_6 => absurd (nI_lt hk hn) c_6)
  refine lv_iload_n hx hb dJ16_checkIndex_16 rfl (lv_at hl 0 rfl) ?_
  exact W.iret (v := (nI k)) hx hb hr (fun t9 h9 hW9 => ⟨_, rfl, rfl, h9⟩) (fun _ h => absurd h List.not_mem_nil) dJ16_checkIndex_17

set_option maxHeartbeats 4000000 in
theorem met_J15_checkIndex (l : Launch) (g : GT) (k n : Nat) (hk : k < n) (hn : n < 2 ^ 31) : Met l yJ15_checkIndex (ws_ yJ15_checkIndex cJ15_checkIndex 2 (Option.some Jvm.ClassFile.FieldType.int)) ({ frames := 1, cells := 0, slots := 0, locals := 22 } : Room) (PcG g [.int (nI k), .int (nI n)] (fun _ => True)) (vp_Si (fun r => r = nI k)) 0 0 (fun _ => False) := by
  refine gg_met (cc := cJ15_checkIndex) (maxL := 2) (ret := (Option.some Jvm.ClassFile.FieldType.int)) (by decide) (Nat.le_of_ble_eq_true rfl) ?_
  intro p e s m below meth c hx hb hr hlk hin hml hown hts hG hB ls hl
  have hown : s.vm.findClass RJ15 = some m.cls := hown
  have hl : lv_has ls 2 [(0, .int (nI k)), (1, .int (nI n))] := hl
  refine lv_iload_n hx hb dJ15_checkIndex_0 rfl (lv_at hl 0 rfl) ?_
  refine lv_iload_n hx hb dJ15_checkIndex_1 rfl (lv_at hl 1 rfl) ?_
  refine lv_null hx hb dJ15_checkIndex_2 ?_
  refine vp_callSi (va_Run.run (va_runS (As := [.int (nI k), .int (nI n), .null]) (rest := []) ⟨hx, hb, hml, hown, hts⟩ (met_J16_checkIndex l g k n hk hn) (va_cwS 3 hts (lw_S q158 q159 q38 q160) rfl rfl rfl (by decide +kernel) ⟨Nat.le_of_ble_eq_true rfl, Nat.le_of_ble_eq_true rfl⟩) (gg_preS hG (Kp.rf hG) trivial) rfl rfl hl.1 rfl (lv_room (Nat.le_of_ble_eq_true rfl)) dJ15_checkIndex_3 ⟨Nat.le_of_ble_eq_true rfl, Nat.le_of_ble_eq_true rfl⟩)) (fun r_1 hr_1 => ?_)
  exact W.iret (v := r_1) hx hb hr (fun t9 h9 hW9 => ⟨_, rfl, hr_1, h9⟩) (fun _ h => absurd h List.not_mem_nil) dJ15_checkIndex_6

set_option maxHeartbeats 4000000 in
theorem met_J3_elementData (l : Launch) (g : GT) (al el n cap k x : Nat) (mc : Int32) (arr : Nat → Option Nat) (hk : k < cap) (hcap : cap < 2 ^ 31) (hx0 : arr k = some x) : Met l yJ3_elementData (ws_ yJ3_elementData cJ3_elementData 2 (Option.some (Jvm.ClassFile.FieldType.object "java/lang/Object"))) ({ frames := 0, cells := 0, slots := 0, locals := 0 } : Room) (PcG g [.ref al, .int (nI k)] (fun H => va_at (gD g) bbCl (al, alE mc el n) H ∧ va_at (gD g) bbCl (el, rfA g cap arr) H)) (va_Sr (fun r => r = x) Value.ref) 0 0 (fun _ => False) := by
  refine gg_met (cc := cJ3_elementData) (maxL := 2) (ret := (Option.some (Jvm.ClassFile.FieldType.object "java/lang/Object"))) (by decide) (Nat.le_of_ble_eq_true rfl) ?_
  intro p e s m below meth c hx hb hr hlk hin hml hown hts hG hB ls hl
  have hown : s.vm.findClass RJ3 = some m.cls := hown
  have hl : lv_has ls 2 [(0, .ref al), (1, .int (nI k))] := hl
  refine lv_aload_n hx hb dJ3_elementData_0 rfl (lv_at hl 0 rfl) ?_
  refine gg_get (ci := 3) (C := RJ3) (T := TJ3) (N := 3) (v := .ref el) hx hb hts in_J3 hown hG hB.1 rfl 1 (by decide) q69 rfl rfl dJ3_elementData_1 ?_
  refine lv_iload_n hx hb dJ3_elementData_4 rfl (lv_at hl 1 rfl) ?_
  refine va_aldq hx hb hG.k (P1 hB.2) 0 1 rfl rfl (vp_in_nI hk hcap) dJ3_elementData_5 ?_
  rw [nI_clamp (Nat.lt_trans hk hcap), hx0]
  refine W.eq (g2 := F0 m 6 ls [.ref x]) rfl ?_
  exact W.aret hx hb hr (Or.inl ⟨_, rfl⟩) (Or.inr ⟨_, rfl⟩) (fun t9 h9 hW9 => ⟨_, rfl, rfl, h9⟩) (fun _ h => absurd h List.not_mem_nil) dJ3_elementData_6

set_option maxHeartbeats 4000000 in
theorem met_J3_get (l : Launch) (g : GT) (al el n cap k x : Nat) (mc : Int32) (arr : Nat → Option Nat) (hk : k < n) (hn : n ≤ cap) (hcap : cap < 2 ^ 31) (hx0 : arr k = some x) : Met l yJ3_get (ws_ yJ3_get cJ3_get 2 (Option.some (Jvm.ClassFile.FieldType.object "java/lang/Object"))) ({ frames := 2, cells := 0, slots := 0, locals := 43 } : Room) (PcG g [.ref al, .int (nI k)] (fun H => va_at (gD g) bbCl (al, alE mc el n) H ∧ va_at (gD g) bbCl (el, rfA g cap arr) H)) (va_Sr (fun r => r = x) Value.ref) 0 0 (fun _ => False) := by
  refine gg_met (cc := cJ3_get) (maxL := 2) (ret := (Option.some (Jvm.ClassFile.FieldType.object "java/lang/Object"))) (by decide) (Nat.le_of_ble_eq_true rfl) ?_
  intro p e s m below meth c hx hb hr hlk hin hml hown hts hG hB ls hl
  have hown : s.vm.findClass RJ3 = some m.cls := hown
  have hl : lv_has ls 2 [(0, .ref al), (1, .int (nI k))] := hl
  refine lv_iload_n hx hb dJ3_get_0 rfl (lv_at hl 1 rfl) ?_
  refine lv_aload_n hx hb dJ3_get_1 rfl (lv_at hl 0 rfl) ?_
  refine gg_get (ci := 3) (C := RJ3) (T := TJ3) (N := 3) (v := .int (nI n)) hx hb hts in_J3 hown hG hB.1 rfl 2 (by decide) q70 rfl rfl dJ3_get_2 ?_
  refine vp_callSi (va_Run.run (va_runS (As := [.int (nI k), .int (nI n)]) (rest := []) ⟨hx, hb, hml, hown, hts⟩ (met_J15_checkIndex l g k n hk (Nat.lt_of_le_of_lt hn hcap)) (va_cwS 2 hts (lw_S q155 q156 q37 q157) rfl rfl rfl (by decide +kernel) ⟨Nat.le_of_ble_eq_true rfl, Nat.le_of_ble_eq_true rfl⟩) (gg_preS hG (Kp.rf hG) trivial) rfl rfl hl.1 rfl (lv_room (Nat.le_of_ble_eq_true rfl)) dJ3_get_5 ⟨Nat.le_of_ble_eq_true rfl, Nat.le_of_ble_eq_true rfl⟩)) (fun r_1 hr_1 => ?_)
  refine lv_pop hx hb dJ3_get_8 rfl ?_
  refine lv_aload_n hx hb dJ3_get_9 rfl (lv_at hl 0 rfl) ?_
  refine lv_iload_n hx hb dJ3_get_10 rfl (lv_at hl 1 rfl) ?_
  refine va_csr (va_Run.run (va_runV (As := [.int (nI k)]) (rest := []) ⟨hx, hb, hml, hown, hts⟩ (met_J3_elementData l g al el n cap k x mc arr (Nat.lt_of_lt_of_le hk hn) hcap hx0) (cwV 1 hts (lw_V q161 q162 q163 q20 q164) rfl rfl rfl (by decide +kernel) ⟨Nat.le_of_ble_eq_true rfl, Nat.le_of_ble_eq_true rfl⟩) (gg_preV hG (Kp.rf hG) (gg_recv hG hB.1 rfl) hB) rfl rfl hl.1 rfl (lv_room (Nat.le_of_ble_eq_true rfl)) dJ3_get_11 ⟨Nat.le_of_ble_eq_true rfl, Nat.le_of_ble_eq_true rfl⟩)) (fun a_2 ha_2 => ?_)
  subst ha_2
  exact W.aret hx hb hr (Or.inl ⟨_, rfl⟩) (Or.inr ⟨_, rfl⟩) (fun t9 h9 hW9 => ⟨_, rfl, rfl, h9⟩) (fun _ h => absurd h List.not_mem_nil) dJ3_get_14

set_option maxHeartbeats 4000000 in
theorem met_X2_first (l : Launch) (g : GT) (T b : Nat) (S : BS) (x : Int32) : Met l yX2_first (ws_ yX2_first cX2_first 3 (Option.some Jvm.ClassFile.FieldType.int)) ({ frames := 3, cells := 0, slots := 0, locals := 64 } : Room) (PcG g [.ref b, .int x] (fun H => RB g T b S H)) (vp_Si (fun r => r = bFirst S x)) 0 0 (fun _ => False) := by
  refine gg_met (cc := cX2_first) (maxL := 3) (ret := (Option.some Jvm.ClassFile.FieldType.int)) (by decide) (Nat.le_of_ble_eq_true rfl) ?_
  intro p e s m below meth c hx hb hr hlk hin hml hown hts hG hB ls hl
  have hown : s.vm.findClass RX2 = some m.cls := hown
  have hl : lv_has ls 3 [(0, .ref b), (1, .int x)] := hl
  obtain ⟨cd, al, el, cap, mc, arr, ad, h_b, h_cd, h_al, h_el, hT, hcap, hc60, hok⟩ := hB
  have hn40 : sN S ≤ 40 := hok.2.2.2.2.2.2.2.1
  have hB : RB g T b S s.heap := ⟨cd, al, el, cap, mc, arr, ad, h_b, h_cd, h_al, h_el, hT, hcap, hc60, hok⟩
  have hn31 : sN S < 2 ^ 31 := by omega
  refine lv_iconst (v := 0) hx hb dX2_first_0 (by decide) ?_
  refine lv_istore_n (lv' := [(2, .int 0), (0, .ref b), (1, .int x)]) hx hb dX2_first_1 rfl hl (by decide) rfl (fun ls hl => ?_)
  have loop : ∀ (d k : Nat) , k ≤ sN S → sN S + 1 ≤ k + d → bFirst S x = srch (pW S x) (sN S - k) k → ∀ ls : Array Slot, lv_has ls 3 [(2, .int (nI k)), (0, .ref b), (1, .int x)] → W p l e ({ frames := 3, cells := 0, slots := 0, locals := 64 } : Room) s m ([.ref b, .int x] : List Value).toArray below meth c s.heap [] 0 0 (MQ below (vp_Si (fun r => r = bFirst S x)) ([.ref b, .int x] : List Value).toArray s 0 0 (fun _ => False)) (F0 m 2 ls []) := by
    intro d
    induction d with
    | zero => intro k  h1 h2; exact absurd h2 (by omega)
    | succ d ih =>
      intro k  hkn hkd hI ls hl
      refine lv_iload_n hx hb dX2_first_2 rfl (lv_at hl 0 rfl) ?_
      refine lv_aload_n hx hb dX2_first_3 rfl (lv_at hl 1 rfl) ?_
      refine gg_get (ci := 1) (C := RX2) (T := TX2) (N := 8) (v := .ref al) hx hb hts in_X2 hown hG h_b rfl 7 (by decide) q96 rfl rfl dX2_first_4 ?_
      refine vp_callSi (va_Run.run (va_runV (As := []) (rest := [.int (nI k)]) ⟨hx, hb, hml, hown, hts⟩ (met_J3_size l g al el (sN S) mc) (cwV 0 hts (lw_V q147 q148 q149 q20 q150) rfl rfl rfl (by decide +kernel) ⟨Nat.le_of_ble_eq_true rfl, Nat.le_of_ble_eq_true rfl⟩) (gg_preV hG (Kp.rf hG) (gg_recv hG h_al rfl) h_al) rfl rfl hl.1 rfl (lv_room (Nat.le_of_ble_eq_true rfl)) dX2_first_7 ⟨Nat.le_of_ble_eq_true rfl, Nat.le_of_ble_eq_true rfl⟩)) (fun z hz => ?_)
      refine lv_icmp_ge (tgt := 59) hx hb dX2_first_10 (by decide) (fun c_10 => ?_) (fun c_10 => ?_)
      · have hk : k = sN S := by rcases Nat.lt_or_ge k (sN S) with q | q; exact absurd (by rw [← hz]; exact c_10) (nI_ge q hn31); omega
        refine lv_iconst (v := (-1)) hx hb dX2_first_59 (by decide) ?_
        exact W.iret (v := (-1)) hx hb hr (fun t9 h9 hW9 => ⟨_, rfl, (by rw [hI, hk, Nat.sub_self]; rfl), h9⟩) (fun _ h => absurd h List.not_mem_nil) dX2_first_60
      · have hk : k < sN S := by rcases Nat.lt_or_ge k (sN S) with q | q; exact q; exact absurd (by rw [hz]; exact nI_le q (by omega)) c_10
        refine lv_aload_n hx hb dX2_first_13 rfl (lv_at hl 1 rfl) ?_
        refine gg_get (ci := 1) (C := RX2) (T := TX2) (N := 8) (v := .ref al) hx hb hts in_X2 hown hG h_b rfl 7 (by decide) q96 rfl rfl dX2_first_14 ?_
        refine lv_iload_n hx hb dX2_first_17 rfl (lv_at hl 0 rfl) ?_
        refine va_csr (va_Run.run (va_runV (As := [.int (nI k)]) (rest := []) ⟨hx, hb, hml, hown, hts⟩ (met_J3_get l g al el (sN S) cap k (ad k) mc arr hk hcap (by omega) (hT k hk).1) (cwV 1 hts (lw_V q151 q152 q153 q20 q154) rfl rfl rfl (by decide +kernel) ⟨Nat.le_of_ble_eq_true rfl, Nat.le_of_ble_eq_true rfl⟩) (gg_preV hG (Kp.rf hG) (gg_recv hG h_al rfl) ⟨h_al, h_el (by omega)⟩) rfl rfl hl.1 rfl (lv_room (Nat.le_of_ble_eq_true rfl)) dX2_first_18 ⟨Nat.le_of_ble_eq_true rfl, Nat.le_of_ble_eq_true rfl⟩)) (fun a_1 ha_1 => ?_)
        subst ha_1
        refine va_castS hx hb hown (hts _ q165) (hG.k.1 2 _ rfl).2 (gg_recv hG (hT k hk).2 rfl) dX2_first_21 ?_
        refine gg_getS hx hb hts hown hG (Kp.rf hG) 0 (by decide) rfl q218 dX2_first_24 ?_
        refine vp_callSi (va_Run.run (va_runV (As := [.ref (gS g 0)]) (rest := []) ⟨hx, hb, hml, hown, hts⟩ (met_X6_is l g (ad k) (sTv S k) 0 (hok.2.2.2.2.2.2.2.2.1 k hk).2.2.1 (by decide)) (cwV 1 hts (lw_V q193 q194 q195 q28 q196) rfl rfl rfl (by decide +kernel) ⟨Nat.le_of_ble_eq_true rfl, Nat.le_of_ble_eq_true rfl⟩) (gg_preV hG (Kp.rf hG) (gg_recv hG (hT k hk).2 rfl) (hT k hk).2) rfl rfl hl.1 rfl (lv_room (Nat.le_of_ble_eq_true rfl)) dX2_first_27 ⟨Nat.le_of_ble_eq_true rfl, Nat.le_of_ble_eq_true rfl⟩)) (fun r_is hr_is => ?_)
        refine lv_if_eq (tgt := 53) hx hb dX2_first_30 (by decide) (fun c_30 => ?_) (fun c_30 => ?_)
        · refine lv_iinc (v := nI (k + 1)) (lv' := [(2, .int (nI (k + 1))), (0, .ref b), (1, .int x)]) hx hb dX2_first_53 hl (k := 0) rfl (nI_1 k) (by decide) rfl (fun ls hl => ?_)
          refine lv_goto (tgt := 2) hx hb dX2_first_56 (by decide) ?_
          exact ih (k + 1)  (by omega) (by omega) (by rw [hI]; exact srch_f hk (by simp [pW, b01_f hr_is c_30])) ls (lv_sub hl [0, 1, 2] rfl)
        · refine lv_aload_n hx hb dX2_first_33 rfl (lv_at hl 1 rfl) ?_
          refine gg_get (ci := 1) (C := RX2) (T := TX2) (N := 8) (v := .ref al) hx hb hts in_X2 hown hG h_b rfl 7 (by decide) q96 rfl rfl dX2_first_34 ?_
          refine lv_iload_n hx hb dX2_first_37 rfl (lv_at hl 0 rfl) ?_
          refine va_csr (va_Run.run (va_runV (As := [.int (nI k)]) (rest := []) ⟨hx, hb, hml, hown, hts⟩ (met_J3_get l g al el (sN S) cap k (ad k) mc arr hk hcap (by omega) (hT k hk).1) (cwV 1 hts (lw_V q151 q152 q153 q20 q154) rfl rfl rfl (by decide +kernel) ⟨Nat.le_of_ble_eq_true rfl, Nat.le_of_ble_eq_true rfl⟩) (gg_preV hG (Kp.rf hG) (gg_recv hG h_al rfl) ⟨h_al, h_el (by omega)⟩) rfl rfl hl.1 rfl (lv_room (Nat.le_of_ble_eq_true rfl)) dX2_first_38 ⟨Nat.le_of_ble_eq_true rfl, Nat.le_of_ble_eq_true rfl⟩)) (fun a_2 ha_2 => ?_)
          subst ha_2
          refine va_castS hx hb hown (hts _ q165) (hG.k.1 2 _ rfl).2 (gg_recv hG (hT k hk).2 rfl) dX2_first_41 ?_
          refine gg_get (ci := 2) (C := RX6) (T := TX6) (N := 7) (v := .int (tBa (sTv S k))) hx hb hts in_X6 hown hG (hT k hk).2 rfl 0 (by decide) q363 rfl rfl dX2_first_44 ?_
          refine lv_iload_n hx hb dX2_first_47 rfl (lv_at hl 2 rfl) ?_
          refine lv_icmp_ne (tgt := 53) hx hb dX2_first_48 (by decide) (fun c_48 => ?_) (fun c_48 => ?_)
          · refine lv_iinc (v := nI (k + 1)) (lv' := [(2, .int (nI (k + 1))), (0, .ref b), (1, .int x)]) hx hb dX2_first_53 hl (k := 0) rfl (nI_1 k) (by decide) rfl (fun ls hl => ?_)
            refine lv_goto (tgt := 2) hx hb dX2_first_56 (by decide) ?_
            exact ih (k + 1)  (by omega) (by omega) (by rw [hI]; exact srch_f hk (by simp [pW, c_48])) ls (lv_sub hl [0, 1, 2] rfl)
          · refine lv_iload_n hx hb dX2_first_51 rfl (lv_at hl 0 rfl) ?_
            exact W.iret (v := (nI k)) hx hb hr (fun t9 h9 hW9 => ⟨_, rfl, (by rw [hI]; exact (srch_t hk (by simp [pW, b01_t hr_is c_30, c_48])).symm), h9⟩) (fun _ h => absurd h List.not_mem_nil) dX2_first_52
  exact loop (sN S + 1) 0 (Nat.zero_le _) (by omega) rfl ls (lv_sub hl [0, 1, 2] rfl)

set_option maxHeartbeats 4000000 in
theorem met_X2_passing (l : Launch) (g : GT) (T b : Nat) (S : BS)  : Met l yX2_passing (ws_ yX2_passing cX2_passing 2 (Option.some Jvm.ClassFile.FieldType.int)) ({ frames := 3, cells := 0, slots := 0, locals := 64 } : Room) (PcG g [.ref b] (fun H => RB g T b S H)) (vp_Si (fun r => r = bPassing S)) 0 0 (fun _ => False) := by
  refine gg_met (cc := cX2_passing) (maxL := 2) (ret := (Option.some Jvm.ClassFile.FieldType.int)) (by decide) (Nat.le_of_ble_eq_true rfl) ?_
  intro p e s m below meth c hx hb hr hlk hin hml hown hts hG hB ls hl
  have hown : s.vm.findClass RX2 = some m.cls := hown
  have hl : lv_has ls 2 [(0, .ref b)] := hl
  obtain ⟨cd, al, el, cap, mc, arr, ad, h_b, h_cd, h_al, h_el, hT, hcap, hc60, hok⟩ := hB
  have hn40 : sN S ≤ 40 := hok.2.2.2.2.2.2.2.1
  have hB : RB g T b S s.heap := ⟨cd, al, el, cap, mc, arr, ad, h_b, h_cd, h_al, h_el, hT, hcap, hc60, hok⟩
  have hn31 : sN S < 2 ^ 31 := by omega
  refine lv_iconst (v := 0) hx hb dX2_passing_0 (by decide) ?_
  refine lv_istore_n (lv' := [(1, .int 0), (0, .ref b)]) hx hb dX2_passing_1 rfl hl (by decide) rfl (fun ls hl => ?_)
  have loop : ∀ (d k : Nat) , k ≤ sN S → sN S + 1 ≤ k + d → bPassing S = srch (pS S 1) (sN S - k) k → ∀ ls : Array Slot, lv_has ls 2 [(1, .int (nI k)), (0, .ref b)] → W p l e ({ frames := 3, cells := 0, slots := 0, locals := 64 } : Room) s m ([.ref b] : List Value).toArray below meth c s.heap [] 0 0 (MQ below (vp_Si (fun r => r = bPassing S)) ([.ref b] : List Value).toArray s 0 0 (fun _ => False)) (F0 m 2 ls []) := by
    intro d
    induction d with
    | zero => intro k  h1 h2; exact absurd h2 (by omega)
    | succ d ih =>
      intro k  hkn hkd hI ls hl
      refine lv_iload_n hx hb dX2_passing_2 rfl (lv_at hl 0 rfl) ?_
      refine lv_aload_n hx hb dX2_passing_3 rfl (lv_at hl 1 rfl) ?_
      refine gg_get (ci := 1) (C := RX2) (T := TX2) (N := 8) (v := .ref al) hx hb hts in_X2 hown hG h_b rfl 7 (by decide) q96 rfl rfl dX2_passing_4 ?_
      refine vp_callSi (va_Run.run (va_runV (As := []) (rest := [.int (nI k)]) ⟨hx, hb, hml, hown, hts⟩ (met_J3_size l g al el (sN S) mc) (cwV 0 hts (lw_V q147 q148 q149 q20 q150) rfl rfl rfl (by decide +kernel) ⟨Nat.le_of_ble_eq_true rfl, Nat.le_of_ble_eq_true rfl⟩) (gg_preV hG (Kp.rf hG) (gg_recv hG h_al rfl) h_al) rfl rfl hl.1 rfl (lv_room (Nat.le_of_ble_eq_true rfl)) dX2_passing_7 ⟨Nat.le_of_ble_eq_true rfl, Nat.le_of_ble_eq_true rfl⟩)) (fun z hz => ?_)
      refine lv_icmp_ge (tgt := 41) hx hb dX2_passing_10 (by decide) (fun c_10 => ?_) (fun c_10 => ?_)
      · have hk : k = sN S := by rcases Nat.lt_or_ge k (sN S) with q | q; exact absurd (by rw [← hz]; exact c_10) (nI_ge q hn31); omega
        refine lv_iconst (v := (-1)) hx hb dX2_passing_41 (by decide) ?_
        exact W.iret (v := (-1)) hx hb hr (fun t9 h9 hW9 => ⟨_, rfl, (by rw [hI, hk, Nat.sub_self]; rfl), h9⟩) (fun _ h => absurd h List.not_mem_nil) dX2_passing_42
      · have hk : k < sN S := by rcases Nat.lt_or_ge k (sN S) with q | q; exact q; exact absurd (by rw [hz]; exact nI_le q (by omega)) c_10
        refine lv_aload_n hx hb dX2_passing_13 rfl (lv_at hl 1 rfl) ?_
        refine gg_get (ci := 1) (C := RX2) (T := TX2) (N := 8) (v := .ref al) hx hb hts in_X2 hown hG h_b rfl 7 (by decide) q96 rfl rfl dX2_passing_14 ?_
        refine lv_iload_n hx hb dX2_passing_17 rfl (lv_at hl 0 rfl) ?_
        refine va_csr (va_Run.run (va_runV (As := [.int (nI k)]) (rest := []) ⟨hx, hb, hml, hown, hts⟩ (met_J3_get l g al el (sN S) cap k (ad k) mc arr hk hcap (by omega) (hT k hk).1) (cwV 1 hts (lw_V q151 q152 q153 q20 q154) rfl rfl rfl (by decide +kernel) ⟨Nat.le_of_ble_eq_true rfl, Nat.le_of_ble_eq_true rfl⟩) (gg_preV hG (Kp.rf hG) (gg_recv hG h_al rfl) ⟨h_al, h_el (by omega)⟩) rfl rfl hl.1 rfl (lv_room (Nat.le_of_ble_eq_true rfl)) dX2_passing_18 ⟨Nat.le_of_ble_eq_true rfl, Nat.le_of_ble_eq_true rfl⟩)) (fun a_1 ha_1 => ?_)
        subst ha_1
        refine va_castS hx hb hown (hts _ q165) (hG.k.1 2 _ rfl).2 (gg_recv hG (hT k hk).2 rfl) dX2_passing_21 ?_
        refine gg_getS hx hb hts hown hG (Kp.rf hG) 1 (by decide) rfl q201 dX2_passing_24 ?_
        refine vp_callSi (va_Run.run (va_runV (As := [.ref (gS g 1)]) (rest := []) ⟨hx, hb, hml, hown, hts⟩ (met_X6_is l g (ad k) (sTv S k) 1 (hok.2.2.2.2.2.2.2.2.1 k hk).2.2.1 (by decide)) (cwV 1 hts (lw_V q193 q194 q195 q28 q196) rfl rfl rfl (by decide +kernel) ⟨Nat.le_of_ble_eq_true rfl, Nat.le_of_ble_eq_true rfl⟩) (gg_preV hG (Kp.rf hG) (gg_recv hG (hT k hk).2 rfl) (hT k hk).2) rfl rfl hl.1 rfl (lv_room (Nat.le_of_ble_eq_true rfl)) dX2_passing_27 ⟨Nat.le_of_ble_eq_true rfl, Nat.le_of_ble_eq_true rfl⟩)) (fun r_is hr_is => ?_)
        refine lv_if_eq (tgt := 35) hx hb dX2_passing_30 (by decide) (fun c_30 => ?_) (fun c_30 => ?_)
        · refine lv_iinc (v := nI (k + 1)) (lv' := [(1, .int (nI (k + 1))), (0, .ref b)]) hx hb dX2_passing_35 hl (k := 0) rfl (nI_1 k) (by decide) rfl (fun ls hl => ?_)
          refine lv_goto (tgt := 2) hx hb dX2_passing_38 (by decide) ?_
          exact ih (k + 1)  (by omega) (by omega) (by rw [hI]; exact srch_f hk (by simp [pS, b01_f hr_is c_30])) ls (lv_sub hl [0, 1] rfl)
        · refine lv_iload_n hx hb dX2_passing_33 rfl (lv_at hl 0 rfl) ?_
          exact W.iret (v := (nI k)) hx hb hr (fun t9 h9 hW9 => ⟨_, rfl, (by rw [hI]; exact (srch_t hk (by simp [pS, b01_t hr_is c_30])).symm), h9⟩) (fun _ h => absurd h List.not_mem_nil) dX2_passing_34
  exact loop (sN S + 1) 0 (Nat.zero_le _) (by omega) rfl ls (lv_sub hl [0, 1] rfl)

set_option maxHeartbeats 4000000 in
theorem met_X2_waiting (l : Launch) (g : GT) (T b : Nat) (S : BS) (x : Int32) : Met l yX2_waiting (ws_ yX2_waiting cX2_waiting 4 (Option.some Jvm.ClassFile.FieldType.int)) ({ frames := 3, cells := 0, slots := 0, locals := 64 } : Room) (PcG g [.ref b, .int x] (fun H => RB g T b S H)) (vp_Si (fun r => r = bWaiting S x)) 0 0 (fun _ => False) := by
  refine gg_met (cc := cX2_waiting) (maxL := 4) (ret := (Option.some Jvm.ClassFile.FieldType.int)) (by decide) (Nat.le_of_ble_eq_true rfl) ?_
  intro p e s m below meth c hx hb hr hlk hin hml hown hts hG hB ls hl
  have hown : s.vm.findClass RX2 = some m.cls := hown
  have hl : lv_has ls 4 [(0, .ref b), (1, .int x)] := hl
  obtain ⟨cd, al, el, cap, mc, arr, ad, h_b, h_cd, h_al, h_el, hT, hcap, hc60, hok⟩ := hB
  have hn40 : sN S ≤ 40 := hok.2.2.2.2.2.2.2.1
  have hB : RB g T b S s.heap := ⟨cd, al, el, cap, mc, arr, ad, h_b, h_cd, h_al, h_el, hT, hcap, hc60, hok⟩
  have hn31 : sN S < 2 ^ 31 := by omega
  refine lv_iconst (v := 0) hx hb dX2_waiting_0 (by decide) ?_
  refine lv_istore_n (lv' := [(2, .int 0), (0, .ref b), (1, .int x)]) hx hb dX2_waiting_1 rfl hl (by decide) rfl (fun ls hl => ?_)
  refine lv_iconst (v := 0) hx hb dX2_waiting_2 (by decide) ?_
  refine lv_istore_n (lv' := [(3, .int 0), (2, .int 0), (0, .ref b), (1, .int x)]) hx hb dX2_waiting_3 rfl hl (by decide) rfl (fun ls hl => ?_)
  have loop : ∀ (d k : Nat) (many : Int32) , k ≤ sN S → sN S + 1 ≤ k + d → many = cnt (pW S x) k → ∀ ls : Array Slot, lv_has ls 4 [(3, .int (nI k)), (2, .int many), (0, .ref b), (1, .int x)] → W p l e ({ frames := 3, cells := 0, slots := 0, locals := 64 } : Room) s m ([.ref b, .int x] : List Value).toArray below meth c s.heap [] 0 0 (MQ below (vp_Si (fun r => r = bWaiting S x)) ([.ref b, .int x] : List Value).toArray s 0 0 (fun _ => False)) (F0 m 4 ls []) := by
    intro d
    induction d with
    | zero => intro k many h1 h2; exact absurd h2 (by omega)
    | succ d ih =>
      intro k many hkn hkd hI ls hl
      refine lv_iload_n hx hb dX2_waiting_4 rfl (lv_at hl 0 rfl) ?_
      refine lv_aload_n hx hb dX2_waiting_5 rfl (lv_at hl 2 rfl) ?_
      refine gg_get (ci := 1) (C := RX2) (T := TX2) (N := 8) (v := .ref al) hx hb hts in_X2 hown hG h_b rfl 7 (by decide) q96 rfl rfl dX2_waiting_6 ?_
      refine vp_callSi (va_Run.run (va_runV (As := []) (rest := [.int (nI k)]) ⟨hx, hb, hml, hown, hts⟩ (met_J3_size l g al el (sN S) mc) (cwV 0 hts (lw_V q147 q148 q149 q20 q150) rfl rfl rfl (by decide +kernel) ⟨Nat.le_of_ble_eq_true rfl, Nat.le_of_ble_eq_true rfl⟩) (gg_preV hG (Kp.rf hG) (gg_recv hG h_al rfl) h_al) rfl rfl hl.1 rfl (lv_room (Nat.le_of_ble_eq_true rfl)) dX2_waiting_9 ⟨Nat.le_of_ble_eq_true rfl, Nat.le_of_ble_eq_true rfl⟩)) (fun z hz => ?_)
      refine lv_icmp_ge (tgt := 67) hx hb dX2_waiting_12 (by decide) (fun c_12 => ?_) (fun c_12 => ?_)
      · have hk : k = sN S := by rcases Nat.lt_or_ge k (sN S) with q | q; exact absurd (by rw [← hz]; exact c_12) (nI_ge q hn31); omega
        refine lv_iload_n hx hb dX2_waiting_67 rfl (lv_at hl 1 rfl) ?_
        exact W.iret (v := many) hx hb hr (fun t9 h9 hW9 => ⟨_, rfl, (by rw [hI, hk]; rfl), h9⟩) (fun _ h => absurd h List.not_mem_nil) dX2_waiting_68
      · have hk : k < sN S := by rcases Nat.lt_or_ge k (sN S) with q | q; exact q; exact absurd (by rw [hz]; exact nI_le q (by omega)) c_12
        refine lv_iload_n hx hb dX2_waiting_15 rfl (lv_at hl 1 rfl) ?_
        refine lv_aload_n hx hb dX2_waiting_16 rfl (lv_at hl 2 rfl) ?_
        refine gg_get (ci := 1) (C := RX2) (T := TX2) (N := 8) (v := .ref al) hx hb hts in_X2 hown hG h_b rfl 7 (by decide) q96 rfl rfl dX2_waiting_17 ?_
        refine lv_iload_n hx hb dX2_waiting_20 rfl (lv_at hl 0 rfl) ?_
        refine va_csr (va_Run.run (va_runV (As := [.int (nI k)]) (rest := [.int many]) ⟨hx, hb, hml, hown, hts⟩ (met_J3_get l g al el (sN S) cap k (ad k) mc arr hk hcap (by omega) (hT k hk).1) (cwV 1 hts (lw_V q151 q152 q153 q20 q154) rfl rfl rfl (by decide +kernel) ⟨Nat.le_of_ble_eq_true rfl, Nat.le_of_ble_eq_true rfl⟩) (gg_preV hG (Kp.rf hG) (gg_recv hG h_al rfl) ⟨h_al, h_el (by omega)⟩) rfl rfl hl.1 rfl (lv_room (Nat.le_of_ble_eq_true rfl)) dX2_waiting_21 ⟨Nat.le_of_ble_eq_true rfl, Nat.le_of_ble_eq_true rfl⟩)) (fun a_1 ha_1 => ?_)
        subst ha_1
        refine va_castS hx hb hown (hts _ q165) (hG.k.1 2 _ rfl).2 (gg_recv hG (hT k hk).2 rfl) dX2_waiting_24 ?_
        refine gg_getS hx hb hts hown hG (Kp.rf hG) 0 (by decide) rfl q218 dX2_waiting_27 ?_
        refine vp_callSi (va_Run.run (va_runV (As := [.ref (gS g 0)]) (rest := [.int many]) ⟨hx, hb, hml, hown, hts⟩ (met_X6_is l g (ad k) (sTv S k) 0 (hok.2.2.2.2.2.2.2.2.1 k hk).2.2.1 (by decide)) (cwV 1 hts (lw_V q193 q194 q195 q28 q196) rfl rfl rfl (by decide +kernel) ⟨Nat.le_of_ble_eq_true rfl, Nat.le_of_ble_eq_true rfl⟩) (gg_preV hG (Kp.rf hG) (gg_recv hG (hT k hk).2 rfl) (hT k hk).2) rfl rfl hl.1 rfl (lv_room (Nat.le_of_ble_eq_true rfl)) dX2_waiting_30 ⟨Nat.le_of_ble_eq_true rfl, Nat.le_of_ble_eq_true rfl⟩)) (fun r_is hr_is => ?_)
        refine lv_if_eq (tgt := 58) hx hb dX2_waiting_33 (by decide) (fun c_33 => ?_) (fun c_33 => ?_)
        · refine lv_iconst (v := 0) hx hb dX2_waiting_58 (by decide) ?_
          refine lv_iadd hx hb dX2_waiting_59 ?_
          refine lv_istore_n (lv' := [(2, .int (many + 0)), (3, .int (nI k)), (0, .ref b), (1, .int x)]) hx hb dX2_waiting_60 rfl hl (by decide) rfl (fun ls hl => ?_)
          refine lv_iinc (v := nI (k + 1)) (lv' := [(3, .int (nI (k + 1))), (2, .int (many + 0)), (0, .ref b), (1, .int x)]) hx hb dX2_waiting_61 hl (k := 1) rfl (nI_1 k) (by decide) rfl (fun ls hl => ?_)
          refine lv_goto (tgt := 4) hx hb dX2_waiting_64 (by decide) ?_
          exact ih (k + 1) (many + 0) (by omega) (by omega) (by rw [hI]; exact (cnt_f (by simp [pW, b01_f hr_is c_33])).symm) ls (lv_sub hl [0, 1, 2, 3] rfl)
        · refine lv_aload_n hx hb dX2_waiting_36 rfl (lv_at hl 2 rfl) ?_
          refine gg_get (ci := 1) (C := RX2) (T := TX2) (N := 8) (v := .ref al) hx hb hts in_X2 hown hG h_b rfl 7 (by decide) q96 rfl rfl dX2_waiting_37 ?_
          refine lv_iload_n hx hb dX2_waiting_40 rfl (lv_at hl 0 rfl) ?_
          refine va_csr (va_Run.run (va_runV (As := [.int (nI k)]) (rest := [.int many]) ⟨hx, hb, hml, hown, hts⟩ (met_J3_get l g al el (sN S) cap k (ad k) mc arr hk hcap (by omega) (hT k hk).1) (cwV 1 hts (lw_V q151 q152 q153 q20 q154) rfl rfl rfl (by decide +kernel) ⟨Nat.le_of_ble_eq_true rfl, Nat.le_of_ble_eq_true rfl⟩) (gg_preV hG (Kp.rf hG) (gg_recv hG h_al rfl) ⟨h_al, h_el (by omega)⟩) rfl rfl hl.1 rfl (lv_room (Nat.le_of_ble_eq_true rfl)) dX2_waiting_41 ⟨Nat.le_of_ble_eq_true rfl, Nat.le_of_ble_eq_true rfl⟩)) (fun a_2 ha_2 => ?_)
          subst ha_2
          refine va_castS hx hb hown (hts _ q165) (hG.k.1 2 _ rfl).2 (gg_recv hG (hT k hk).2 rfl) dX2_waiting_44 ?_
          refine gg_get (ci := 2) (C := RX6) (T := TX6) (N := 7) (v := .int (tBa (sTv S k))) hx hb hts in_X6 hown hG (hT k hk).2 rfl 0 (by decide) q363 rfl rfl dX2_waiting_47 ?_
          refine lv_iload_n hx hb dX2_waiting_50 rfl (lv_at hl 3 rfl) ?_
          refine lv_icmp_ne (tgt := 58) hx hb dX2_waiting_51 (by decide) (fun c_51 => ?_) (fun c_51 => ?_)
          · refine lv_iconst (v := 0) hx hb dX2_waiting_58 (by decide) ?_
            refine lv_iadd hx hb dX2_waiting_59 ?_
            refine lv_istore_n (lv' := [(2, .int (many + 0)), (3, .int (nI k)), (0, .ref b), (1, .int x)]) hx hb dX2_waiting_60 rfl hl (by decide) rfl (fun ls hl => ?_)
            refine lv_iinc (v := nI (k + 1)) (lv' := [(3, .int (nI (k + 1))), (2, .int (many + 0)), (0, .ref b), (1, .int x)]) hx hb dX2_waiting_61 hl (k := 1) rfl (nI_1 k) (by decide) rfl (fun ls hl => ?_)
            refine lv_goto (tgt := 4) hx hb dX2_waiting_64 (by decide) ?_
            exact ih (k + 1) (many + 0) (by omega) (by omega) (by rw [hI]; exact (cnt_f (by simp [pW, c_51])).symm) ls (lv_sub hl [0, 1, 2, 3] rfl)
          · refine lv_iconst (v := 1) hx hb dX2_waiting_54 (by decide) ?_
            refine lv_goto (tgt := 59) hx hb dX2_waiting_55 (by decide) ?_
            refine lv_iadd hx hb dX2_waiting_59 ?_
            refine lv_istore_n (lv' := [(2, .int (many + 1)), (3, .int (nI k)), (0, .ref b), (1, .int x)]) hx hb dX2_waiting_60 rfl hl (by decide) rfl (fun ls hl => ?_)
            refine lv_iinc (v := nI (k + 1)) (lv' := [(3, .int (nI (k + 1))), (2, .int (many + 1)), (0, .ref b), (1, .int x)]) hx hb dX2_waiting_61 hl (k := 1) rfl (nI_1 k) (by decide) rfl (fun ls hl => ?_)
            refine lv_goto (tgt := 4) hx hb dX2_waiting_64 (by decide) ?_
            exact ih (k + 1) (many + 1) (by omega) (by omega) (by rw [hI]; exact (cnt_t (by simp [pW, b01_t hr_is c_33, c_51])).symm) ls (lv_sub hl [0, 1, 2, 3] rfl)
  exact loop (sN S + 1) 0 0 (Nat.zero_le _) (by omega) rfl ls (lv_sub hl [0, 1, 2, 3] rfl)

set_option maxHeartbeats 4000000 in
theorem met_X2_passed (l : Launch) (g : GT) (T b : Nat) (S : BS)  : Met l yX2_passed (ws_ yX2_passed cX2_passed 3 (Option.some Jvm.ClassFile.FieldType.int)) ({ frames := 3, cells := 0, slots := 0, locals := 64 } : Room) (PcG g [.ref b] (fun H => RB g T b S H)) (vp_Si (fun r => r = bPassed S)) 0 0 (fun _ => False) := by
  refine gg_met (cc := cX2_passed) (maxL := 3) (ret := (Option.some Jvm.ClassFile.FieldType.int)) (by decide) (Nat.le_of_ble_eq_true rfl) ?_
  intro p e s m below meth c hx hb hr hlk hin hml hown hts hG hB ls hl
  have hown : s.vm.findClass RX2 = some m.cls := hown
  have hl : lv_has ls 3 [(0, .ref b)] := hl
  obtain ⟨cd, al, el, cap, mc, arr, ad, h_b, h_cd, h_al, h_el, hT, hcap, hc60, hok⟩ := hB
  have hn40 : sN S ≤ 40 := hok.2.2.2.2.2.2.2.1
  have hB : RB g T b S s.heap := ⟨cd, al, el, cap, mc, arr, ad, h_b, h_cd, h_al, h_el, hT, hcap, hc60, hok⟩
  have hn31 : sN S < 2 ^ 31 := by omega
  refine lv_iconst (v := 0) hx hb dX2_passed_0 (by decide) ?_
  refine lv_istore_n (lv' := [(1, .int 0), (0, .ref b)]) hx hb dX2_passed_1 rfl hl (by decide) rfl (fun ls hl => ?_)
  refine lv_iconst (v := 0) hx hb dX2_passed_2 (by decide) ?_
  refine lv_istore_n (lv' := [(2, .int 0), (1, .int 0), (0, .ref b)]) hx hb dX2_passed_3 rfl hl (by decide) rfl (fun ls hl => ?_)
  have loop : ∀ (d k : Nat) (many : Int32) , k ≤ sN S → sN S + 1 ≤ k + d → many = cnt (pS S 2) k → ∀ ls : Array Slot, lv_has ls 3 [(2, .int (nI k)), (1, .int many), (0, .ref b)] → W p l e ({ frames := 3, cells := 0, slots := 0, locals := 64 } : Room) s m ([.ref b] : List Value).toArray below meth c s.heap [] 0 0 (MQ below (vp_Si (fun r => r = bPassed S)) ([.ref b] : List Value).toArray s 0 0 (fun _ => False)) (F0 m 4 ls []) := by
    intro d
    induction d with
    | zero => intro k many h1 h2; exact absurd h2 (by omega)
    | succ d ih =>
      intro k many hkn hkd hI ls hl
      refine lv_iload_n hx hb dX2_passed_4 rfl (lv_at hl 0 rfl) ?_
      refine lv_aload_n hx hb dX2_passed_5 rfl (lv_at hl 2 rfl) ?_
      refine gg_get (ci := 1) (C := RX2) (T := TX2) (N := 8) (v := .ref al) hx hb hts in_X2 hown hG h_b rfl 7 (by decide) q96 rfl rfl dX2_passed_6 ?_
      refine vp_callSi (va_Run.run (va_runV (As := []) (rest := [.int (nI k)]) ⟨hx, hb, hml, hown, hts⟩ (met_J3_size l g al el (sN S) mc) (cwV 0 hts (lw_V q147 q148 q149 q20 q150) rfl rfl rfl (by decide +kernel) ⟨Nat.le_of_ble_eq_true rfl, Nat.le_of_ble_eq_true rfl⟩) (gg_preV hG (Kp.rf hG) (gg_recv hG h_al rfl) h_al) rfl rfl hl.1 rfl (lv_room (Nat.le_of_ble_eq_true rfl)) dX2_passed_9 ⟨Nat.le_of_ble_eq_true rfl, Nat.le_of_ble_eq_true rfl⟩)) (fun z hz => ?_)
      refine lv_icmp_ge (tgt := 49) hx hb dX2_passed_12 (by decide) (fun c_12 => ?_) (fun c_12 => ?_)
      · have hk : k = sN S := by rcases Nat.lt_or_ge k (sN S) with q | q; exact absurd (by rw [← hz]; exact c_12) (nI_ge q hn31); omega
        refine lv_iload_n hx hb dX2_passed_49 rfl (lv_at hl 1 rfl) ?_
        exact W.iret (v := many) hx hb hr (fun t9 h9 hW9 => ⟨_, rfl, (by rw [hI, hk]; rfl), h9⟩) (fun _ h => absurd h List.not_mem_nil) dX2_passed_50
      · have hk : k < sN S := by rcases Nat.lt_or_ge k (sN S) with q | q; exact q; exact absurd (by rw [hz]; exact nI_le q (by omega)) c_12
        refine lv_iload_n hx hb dX2_passed_15 rfl (lv_at hl 1 rfl) ?_
        refine lv_aload_n hx hb dX2_passed_16 rfl (lv_at hl 2 rfl) ?_
        refine gg_get (ci := 1) (C := RX2) (T := TX2) (N := 8) (v := .ref al) hx hb hts in_X2 hown hG h_b rfl 7 (by decide) q96 rfl rfl dX2_passed_17 ?_
        refine lv_iload_n hx hb dX2_passed_20 rfl (lv_at hl 0 rfl) ?_
        refine va_csr (va_Run.run (va_runV (As := [.int (nI k)]) (rest := [.int many]) ⟨hx, hb, hml, hown, hts⟩ (met_J3_get l g al el (sN S) cap k (ad k) mc arr hk hcap (by omega) (hT k hk).1) (cwV 1 hts (lw_V q151 q152 q153 q20 q154) rfl rfl rfl (by decide +kernel) ⟨Nat.le_of_ble_eq_true rfl, Nat.le_of_ble_eq_true rfl⟩) (gg_preV hG (Kp.rf hG) (gg_recv hG h_al rfl) ⟨h_al, h_el (by omega)⟩) rfl rfl hl.1 rfl (lv_room (Nat.le_of_ble_eq_true rfl)) dX2_passed_21 ⟨Nat.le_of_ble_eq_true rfl, Nat.le_of_ble_eq_true rfl⟩)) (fun a_1 ha_1 => ?_)
        subst ha_1
        refine va_castS hx hb hown (hts _ q165) (hG.k.1 2 _ rfl).2 (gg_recv hG (hT k hk).2 rfl) dX2_passed_24 ?_
        refine gg_getS hx hb hts hown hG (Kp.rf hG) 2 (by decide) rfl q191 dX2_passed_27 ?_
        refine vp_callSi (va_Run.run (va_runV (As := [.ref (gS g 2)]) (rest := [.int many]) ⟨hx, hb, hml, hown, hts⟩ (met_X6_is l g (ad k) (sTv S k) 2 (hok.2.2.2.2.2.2.2.2.1 k hk).2.2.1 (by decide)) (cwV 1 hts (lw_V q193 q194 q195 q28 q196) rfl rfl rfl (by decide +kernel) ⟨Nat.le_of_ble_eq_true rfl, Nat.le_of_ble_eq_true rfl⟩) (gg_preV hG (Kp.rf hG) (gg_recv hG (hT k hk).2 rfl) (hT k hk).2) rfl rfl hl.1 rfl (lv_room (Nat.le_of_ble_eq_true rfl)) dX2_passed_30 ⟨Nat.le_of_ble_eq_true rfl, Nat.le_of_ble_eq_true rfl⟩)) (fun r_is hr_is => ?_)
        refine lv_if_eq (tgt := 40) hx hb dX2_passed_33 (by decide) (fun c_33 => ?_) (fun c_33 => ?_)
        · refine lv_iconst (v := 0) hx hb dX2_passed_40 (by decide) ?_
          refine lv_iadd hx hb dX2_passed_41 ?_
          refine lv_istore_n (lv' := [(1, .int (many + 0)), (2, .int (nI k)), (0, .ref b)]) hx hb dX2_passed_42 rfl hl (by decide) rfl (fun ls hl => ?_)
          refine lv_iinc (v := nI (k + 1)) (lv' := [(2, .int (nI (k + 1))), (1, .int (many + 0)), (0, .ref b)]) hx hb dX2_passed_43 hl (k := 1) rfl (nI_1 k) (by decide) rfl (fun ls hl => ?_)
          refine lv_goto (tgt := 4) hx hb dX2_passed_46 (by decide) ?_
          exact ih (k + 1) (many + 0) (by omega) (by omega) (by rw [hI]; exact (cnt_f (by simp [pS, b01_f hr_is c_33])).symm) ls (lv_sub hl [0, 1, 2] rfl)
        · refine lv_iconst (v := 1) hx hb dX2_passed_36 (by decide) ?_
          refine lv_goto (tgt := 41) hx hb dX2_passed_37 (by decide) ?_
          refine lv_iadd hx hb dX2_passed_41 ?_
          refine lv_istore_n (lv' := [(1, .int (many + 1)), (2, .int (nI k)), (0, .ref b)]) hx hb dX2_passed_42 rfl hl (by decide) rfl (fun ls hl => ?_)
          refine lv_iinc (v := nI (k + 1)) (lv' := [(2, .int (nI (k + 1))), (1, .int (many + 1)), (0, .ref b)]) hx hb dX2_passed_43 hl (k := 1) rfl (nI_1 k) (by decide) rfl (fun ls hl => ?_)
          refine lv_goto (tgt := 4) hx hb dX2_passed_46 (by decide) ?_
          exact ih (k + 1) (many + 1) (by omega) (by omega) (by rw [hI]; exact (cnt_t (by simp [pS, b01_t hr_is c_33])).symm) ls (lv_sub hl [0, 1, 2] rfl)
  exact loop (sN S + 1) 0 0 (Nat.zero_le _) (by omega) rfl ls (lv_sub hl [0, 1, 2] rfl)

set_option maxHeartbeats 4000000 in
theorem met_X2_waited (l : Launch) (g : GT) (T b : Nat) (S : BS)  : Met l yX2_waited (ws_ yX2_waited cX2_waited 3 (Option.some Jvm.ClassFile.FieldType.int)) ({ frames := 3, cells := 0, slots := 0, locals := 64 } : Room) (PcG g [.ref b] (fun H => RB g T b S H)) (vp_Si (fun r => r = bWaited S)) 0 0 (fun _ => False) := by
  refine gg_met (cc := cX2_waited) (maxL := 3) (ret := (Option.some Jvm.ClassFile.FieldType.int)) (by decide) (Nat.le_of_ble_eq_true rfl) ?_
  intro p e s m below meth c hx hb hr hlk hin hml hown hts hG hB ls hl
  have hown : s.vm.findClass RX2 = some m.cls := hown
  have hl : lv_has ls 3 [(0, .ref b)] := hl
  obtain ⟨cd, al, el, cap, mc, arr, ad, h_b, h_cd, h_al, h_el, hT, hcap, hc60, hok⟩ := hB
  have hn40 : sN S ≤ 40 := hok.2.2.2.2.2.2.2.1
  have hB : RB g T b S s.heap := ⟨cd, al, el, cap, mc, arr, ad, h_b, h_cd, h_al, h_el, hT, hcap, hc60, hok⟩
  have hn31 : sN S < 2 ^ 31 := by omega
  refine lv_iconst (v := 0) hx hb dX2_waited_0 (by decide) ?_
  refine lv_istore_n (lv' := [(1, .int 0), (0, .ref b)]) hx hb dX2_waited_1 rfl hl (by decide) rfl (fun ls hl => ?_)
  refine lv_iconst (v := 0) hx hb dX2_waited_2 (by decide) ?_
  refine lv_istore_n (lv' := [(2, .int 0), (1, .int 0), (0, .ref b)]) hx hb dX2_waited_3 rfl hl (by decide) rfl (fun ls hl => ?_)
  have loop : ∀ (d k : Nat) (many : Int32) , k ≤ sN S → sN S + 1 ≤ k + d → many = sm (fun k => tWa (sTv S k)) k → ∀ ls : Array Slot, lv_has ls 3 [(2, .int (nI k)), (1, .int many), (0, .ref b)] → W p l e ({ frames := 3, cells := 0, slots := 0, locals := 64 } : Room) s m ([.ref b] : List Value).toArray below meth c s.heap [] 0 0 (MQ below (vp_Si (fun r => r = bWaited S)) ([.ref b] : List Value).toArray s 0 0 (fun _ => False)) (F0 m 4 ls []) := by
    intro d
    induction d with
    | zero => intro k many h1 h2; exact absurd h2 (by omega)
    | succ d ih =>
      intro k many hkn hkd hI ls hl
      refine lv_iload_n hx hb dX2_waited_4 rfl (lv_at hl 0 rfl) ?_
      refine lv_aload_n hx hb dX2_waited_5 rfl (lv_at hl 2 rfl) ?_
      refine gg_get (ci := 1) (C := RX2) (T := TX2) (N := 8) (v := .ref al) hx hb hts in_X2 hown hG h_b rfl 7 (by decide) q96 rfl rfl dX2_waited_6 ?_
      refine vp_callSi (va_Run.run (va_runV (As := []) (rest := [.int (nI k)]) ⟨hx, hb, hml, hown, hts⟩ (met_J3_size l g al el (sN S) mc) (cwV 0 hts (lw_V q147 q148 q149 q20 q150) rfl rfl rfl (by decide +kernel) ⟨Nat.le_of_ble_eq_true rfl, Nat.le_of_ble_eq_true rfl⟩) (gg_preV hG (Kp.rf hG) (gg_recv hG h_al rfl) h_al) rfl rfl hl.1 rfl (lv_room (Nat.le_of_ble_eq_true rfl)) dX2_waited_9 ⟨Nat.le_of_ble_eq_true rfl, Nat.le_of_ble_eq_true rfl⟩)) (fun z hz => ?_)
      refine lv_icmp_ge (tgt := 38) hx hb dX2_waited_12 (by decide) (fun c_12 => ?_) (fun c_12 => ?_)
      · have hk : k = sN S := by rcases Nat.lt_or_ge k (sN S) with q | q; exact absurd (by rw [← hz]; exact c_12) (nI_ge q hn31); omega
        refine lv_iload_n hx hb dX2_waited_38 rfl (lv_at hl 1 rfl) ?_
        exact W.iret (v := many) hx hb hr (fun t9 h9 hW9 => ⟨_, rfl, (by rw [hI, hk]; rfl), h9⟩) (fun _ h => absurd h List.not_mem_nil) dX2_waited_39
      · have hk : k < sN S := by rcases Nat.lt_or_ge k (sN S) with q | q; exact q; exact absurd (by rw [hz]; exact nI_le q (by omega)) c_12
        refine lv_iload_n hx hb dX2_waited_15 rfl (lv_at hl 1 rfl) ?_
        refine lv_aload_n hx hb dX2_waited_16 rfl (lv_at hl 2 rfl) ?_
        refine gg_get (ci := 1) (C := RX2) (T := TX2) (N := 8) (v := .ref al) hx hb hts in_X2 hown hG h_b rfl 7 (by decide) q96 rfl rfl dX2_waited_17 ?_
        refine lv_iload_n hx hb dX2_waited_20 rfl (lv_at hl 0 rfl) ?_
        refine va_csr (va_Run.run (va_runV (As := [.int (nI k)]) (rest := [.int many]) ⟨hx, hb, hml, hown, hts⟩ (met_J3_get l g al el (sN S) cap k (ad k) mc arr hk hcap (by omega) (hT k hk).1) (cwV 1 hts (lw_V q151 q152 q153 q20 q154) rfl rfl rfl (by decide +kernel) ⟨Nat.le_of_ble_eq_true rfl, Nat.le_of_ble_eq_true rfl⟩) (gg_preV hG (Kp.rf hG) (gg_recv hG h_al rfl) ⟨h_al, h_el (by omega)⟩) rfl rfl hl.1 rfl (lv_room (Nat.le_of_ble_eq_true rfl)) dX2_waited_21 ⟨Nat.le_of_ble_eq_true rfl, Nat.le_of_ble_eq_true rfl⟩)) (fun a_1 ha_1 => ?_)
        subst ha_1
        refine va_castS hx hb hown (hts _ q165) (hG.k.1 2 _ rfl).2 (gg_recv hG (hT k hk).2 rfl) dX2_waited_24 ?_
        refine gg_getN (ci := 2) (C := RX6) (T := TX6) (N := 7) (v := .int (tWa (sTv S k))) hx hb hts in_X6 hown hG (hT k hk).2 rfl 4 (by decide) q373 rfl rfl dX2_waited_27 ?_
        refine lv_iadd hx hb dX2_waited_30 ?_
        refine lv_istore_n (lv' := [(1, .int (many + tWa (sTv S k))), (2, .int (nI k)), (0, .ref b)]) hx hb dX2_waited_31 rfl hl (by decide) rfl (fun ls hl => ?_)
        refine lv_iinc (v := nI (k + 1)) (lv' := [(2, .int (nI (k + 1))), (1, .int (many + tWa (sTv S k))), (0, .ref b)]) hx hb dX2_waited_32 hl (k := 1) rfl (nI_1 k) (by decide) rfl (fun ls hl => ?_)
        refine lv_goto (tgt := 4) hx hb dX2_waited_35 (by decide) ?_
        exact ih (k + 1) (many + tWa (sTv S k)) (by omega) (by omega) (by rw [hI]; rfl) ls (lv_sub hl [0, 1, 2] rfl)
  exact loop (sN S + 1) 0 0 (Nat.zero_le _) (by omega) rfl ls (lv_sub hl [0, 1, 2] rfl)
