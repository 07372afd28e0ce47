/-! THE COMPONENT THROWS: every method on what it refuses. -/
set_option maxRecDepth 100000
theorem lt_of_le7 {x : Int32} {a b : Int32} {n : Nat} (ha : a = nI n) (hb : b = nI (n + 1)) (hn : n < 1000) : (0 ≤ x ∧ x < b) ↔ (0 ≤ x ∧ x ≤ a) := by
  subst ha hb
  rw [i_lt, i_le, i_le, nI_toInt (by omega), nI_toInt (by omega)]
  constructor
  · intro ⟨h1, h2⟩
    exact ⟨h1, by omega⟩
  · intro ⟨h1, h2⟩
    exact ⟨h1, by omega⟩

set_option maxHeartbeats 4000000 in
theorem xm_X1_known_IOB (l : Launch) (hl0 : l.stackTraces = false) (g : GT) (al el n : Nat) (mc k : Int32) (h : ¬ (0 ≤ k ∧ k < nI n)) : vx_Met l yX1_known (ws_ yX1_known cX1_known 2 (Option.some (Jvm.ClassFile.FieldType.object "java/lang/Object"))) ({ frames := 7, cells := 1, slots := 6, locals := 110 } : Room) (PcG g [.ref al, .int k] (fun H => va_at (gD g) bbCl (al, alE mc el n) H)) xQq (xX xIOB) 1 6 (fun _ => False) := by
  refine gg_xmet (cc := cX1_known) (maxL := 2) (ret := (Option.some (Jvm.ClassFile.FieldType.object "java/lang/Object"))) (by decide) (Nat.le_of_ble_eq_true rfl) ?_
  intro p e s m below meth c hx hb hr hlk hin hml hown hts htab hG hB ls hl
  have hown : s.vm.findClass RX1 = some m.cls := hown
  have hl : lv_has ls 2 [(0, .ref al), (1, .int k)] := hl
  refine lv_iload_n hx hb dX1_known_0 rfl (lv_at hl 1 rfl) ?_
  refine lv_aload_n hx hb dX1_known_1 rfl (lv_at hl 0 rfl) ?_
  refine va_csFi (va_runF (As := []) (rest := [.int k]) (hG.k.1 3 _ rfl).2 ⟨hx, hb, hml, hown, hts⟩ (met_J3_size l g al el n mc) (va_cwF 0 hts (lw_F q496 q500 q148 q20 q150) rfl rfl rfl hG.1.2.2.2.2.1 (by decide +kernel) ⟨Nat.le_of_ble_eq_true rfl, Nat.le_of_ble_eq_true rfl⟩) (gg_preV hG (Kp.rf hG) (gg_recv hG hB rfl) hB) rfl rfl hl.1 rfl (lv_room (Nat.le_of_ble_eq_true rfl)) dX1_known_2 ⟨Nat.le_of_ble_eq_true rfl, Nat.le_of_ble_eq_true rfl⟩) (fun z hz => ?_)
  subst hz
  exact vx_callv (vx_runS (As := [.int k, .int (nI n)]) (rest := []) ⟨hx, hb, hml, hown, hts⟩ (xm_X1_requireIndex_IOB l hl0 g k (nI n) h) (va_cwS 2 hts (lw_S q503 q504 q14 q505) rfl rfl rfl (by decide +kernel) ⟨Nat.le_of_ble_eq_true rfl, Nat.le_of_ble_eq_true rfl⟩) (gg_preS hG (Kp.rf hG) trivial) rfl rfl hl.1 rfl (lv_room (Nat.le_of_ble_eq_true rfl)) dX1_known_7 ⟨Nat.le_of_ble_eq_true rfl, Nat.le_of_ble_eq_true rfl⟩) (va_S.rf (A := fun _ => False) (H0 := s.heap)) (fun q _ e => e) (fun q e => e) (fun q _ e => e) (fun E ce q9 u t9 H1 locs ht hvm _ hE hz1 hk1 hS hce hcv hcl => gg_out htab hlk hE hS hce hcv hcl (Nat.le_of_ble_eq_true rfl) (Nat.le_of_ble_eq_true rfl)) (fun _ t9 H1 locs _ _ h9 => h9.elim)

set_option maxHeartbeats 4000000 in
theorem xm_X1_come_IAE (l : Launch) (hl0 : l.stackTraces = false) (g : GT) (T x b : Nat) (S : BS) (F : Nat → Prop) (hok : OKS T S) (ba v : Int32) (h : ¬ (1 ≤ v ∧ v ≤ 6)) : vx_Met l yX1_come (ws_ yX1_come cX1_come 3 (Option.some Jvm.ClassFile.FieldType.int)) ({ frames := 8, cells := 1, slots := 6, locals := 131 } : Room) (PcG g [.ref x, .int ba, .int v] (fun H => XB g F x b S H)) xQi (xX xIAE) 1 6 (fun _ => False) := by
  refine gg_xmet (cc := cX1_come) (maxL := 3) (ret := (Option.some Jvm.ClassFile.FieldType.int)) (by decide) (Nat.le_of_ble_eq_true rfl) ?_
  intro p e s m below meth c hx hb hr hlk hin hml hown hts htab hG hB ls hl
  have hown : s.vm.findClass RX1 = some m.cls := hown
  have hl : lv_has ls 3 [(0, .ref x), (1, .int ba), (2, .int v)] := hl
  obtain ⟨h_x, ⟨cd, al, el, cap, mc, arr, ad, hX⟩, hFx⟩ := hB
  have hn40 : sN S ≤ 40 := hok.2.2.2.2.2.2.2.1
  refine lv_iconst (v := 1) hx hb dX1_come_0 (by decide) ?_
  refine lv_bipush (v := 6) hx hb dX1_come_1 (by decide) ?_
  refine lv_iload_n hx hb dX1_come_3 rfl (lv_at hl 2 rfl) ?_
  exact vx_callv (vx_runS (As := [.int 1, .int 6, .int v]) (rest := []) ⟨hx, hb, hml, hown, hts⟩ (xm_X1_requireFrom_IAE l hl0 g 1 6 v h) (va_cwS 3 hts (lw_S q267 q268 q14 q269) rfl rfl rfl (by decide +kernel) ⟨Nat.le_of_ble_eq_true rfl, Nat.le_of_ble_eq_true rfl⟩) (gg_preS hG (Kp.rf hG) trivial) rfl rfl hl.1 rfl (lv_room (Nat.le_of_ble_eq_true rfl)) dX1_come_4 ⟨Nat.le_of_ble_eq_true rfl, Nat.le_of_ble_eq_true rfl⟩) (va_S.rf (A := fun _ => False) (H0 := s.heap)) (fun q _ e => e) (fun q e => e) (fun q _ e => e) (fun E ce q9 u t9 H1 locs ht hvm _ hE hz1 hk1 hS hce hcv hcl => gg_out htab hlk hE hS hce hcv hcl (Nat.le_of_ble_eq_true rfl) (Nat.le_of_ble_eq_true rfl)) (fun _ t9 H1 locs _ _ h9 => h9.elim)

set_option maxHeartbeats 4000000 in
theorem xm_X1_come_ISE (l : Launch) (hl0 : l.stackTraces = false) (g : GT) (T x b : Nat) (S : BS) (F : Nat → Prop) (hok : OKS T S) (ba v : Int32) (h1 : 1 ≤ v ∧ v ≤ 6) (h : nI (sN S) = 40) : vx_Met l yX1_come (ws_ yX1_come cX1_come 3 (Option.some Jvm.ClassFile.FieldType.int)) ({ frames := 7, cells := 1, slots := 6, locals := 109 } : Room) (PcG g [.ref x, .int ba, .int v] (fun H => XB g F x b S H)) xQi (xX xISE) 1 6 (fun _ => False) := by
  refine gg_xmet (cc := cX1_come) (maxL := 3) (ret := (Option.some Jvm.ClassFile.FieldType.int)) (by decide) (Nat.le_of_ble_eq_true rfl) ?_
  intro p e s m below meth c hx hb hr hlk hin hml hown hts htab hG hB ls hl
  have hown : s.vm.findClass RX1 = some m.cls := hown
  have hl : lv_has ls 3 [(0, .ref x), (1, .int ba), (2, .int v)] := hl
  obtain ⟨h_x, ⟨cd, al, el, cap, mc, arr, ad, hX⟩, hFx⟩ := hB
  have hn40 : sN S ≤ 40 := hok.2.2.2.2.2.2.2.1
  refine lv_iconst (v := 1) hx hb dX1_come_0 (by decide) ?_
  refine lv_bipush (v := 6) hx hb dX1_come_1 (by decide) ?_
  refine lv_iload_n hx hb dX1_come_3 rfl (lv_at hl 2 rfl) ?_
  refine va_csv (va_Run.run (va_runS (As := [.int 1, .int 6, .int v]) (rest := []) ⟨hx, hb, hml, hown, hts⟩ (met_X1_requireFrom l g 1 6 v h1.1 h1.2) (va_cwS 3 hts (lw_S q267 q268 q14 q269) rfl rfl rfl (by decide +kernel) ⟨Nat.le_of_ble_eq_true rfl, Nat.le_of_ble_eq_true rfl⟩) (gg_preS hG (Kp.rf hG) trivial) rfl rfl hl.1 rfl (lv_room (Nat.le_of_ble_eq_true rfl)) dX1_come_4 ⟨Nat.le_of_ble_eq_true rfl, Nat.le_of_ble_eq_true rfl⟩)) (fun _ => ?_)
  refine lv_aload_n hx hb dX1_come_7 rfl (lv_at hl 0 rfl) ?_
  refine gg_get (ci := 0) (C := RX1) (T := TX1) (N := 1) (v := .ref b) hx hb hts in_X1 hown hG h_x rfl 0 (by decide) q115 rfl rfl dX1_come_8 ?_
  refine gg_getN (ci := 1) (C := RX2) (T := TX2) (N := 8) (v := .ref al) hx hb hts in_X2 hown hG hX.1 rfl 7 (by decide) q97 rfl rfl dX1_come_11 ?_
  refine vp_callSi (va_Run.run (va_runV (As := []) (rest := []) ⟨hx, hb, hml, hown, hts⟩ (met_J3_size l g al el (sN S) mc) (cwV 0 hts (lw_V q166 q148 q149 q20 q150) rfl rfl rfl (by decide +kernel) ⟨Nat.le_of_ble_eq_true rfl, Nat.le_of_ble_eq_true rfl⟩) (gg_preV hG (Kp.rf hG) (gg_recv hG hX.2.2.1 rfl) hX.2.2.1) rfl rfl hl.1 rfl (lv_room (Nat.le_of_ble_eq_true rfl)) dX1_come_14 ⟨Nat.le_of_ble_eq_true rfl, Nat.le_of_ble_eq_true rfl⟩)) (fun r_z hr_z => ?_)
  refine lv_bipush (v := 40) hx hb dX1_come_17 (by decide) ?_
  refine lv_icmp_ge (tgt := 26) hx hb dX1_come_19 (by decide) (fun c_19 => ?_) (fun c_19 => absurd (by rw [hr_z, h]; decide) c_19)
  refine lv_iconst (v := 0) hx hb dX1_come_26 (by decide) ?_
  exact vx_callv (vx_runS (As := [.int 0]) (rest := []) ⟨hx, hb, hml, hown, hts⟩ (xm_X1_requireState_ISE l hl0 g 0 rfl) (va_cwS 1 hts (lw_S q338 q339 q14 q340) rfl rfl rfl (by decide +kernel) ⟨Nat.le_of_ble_eq_true rfl, Nat.le_of_ble_eq_true rfl⟩) (gg_preS hG (Kp.rf hG) trivial) rfl rfl hl.1 rfl (lv_room (Nat.le_of_ble_eq_true rfl)) dX1_come_27 ⟨Nat.le_of_ble_eq_true rfl, Nat.le_of_ble_eq_true rfl⟩) (va_S.rf (A := fun _ => False) (H0 := s.heap)) (fun q _ e => e) (fun q e => e) (fun q _ e => e) (fun E ce q9 u t9 H1 locs ht hvm _ hE hz1 hk1 hS hce hcv hcl => gg_out htab hlk hE hS hce hcv hcl (Nat.le_of_ble_eq_true rfl) (Nat.le_of_ble_eq_true rfl)) (fun _ t9 H1 locs _ _ h9 => h9.elim)

set_option maxHeartbeats 4000000 in
theorem xm_X1_leave_IOB (l : Launch) (hl0 : l.stackTraces = false) (g : GT) (T x b : Nat) (S : BS) (F : Nat → Prop) (hok : OKS T S) (k : Int32) (h : ¬ (0 ≤ k ∧ k < nI (sN S))) : vx_Met l yX1_leave (ws_ yX1_leave cX1_leave 3 (Option.some Jvm.ClassFile.FieldType.int)) ({ frames := 8, cells := 1, slots := 6, locals := 131 } : Room) (PcG g [.ref x, .int k] (fun H => XB g F x b S H)) xQi (xX xIOB) 1 6 (fun _ => False) := by
  refine gg_xmet (cc := cX1_leave) (maxL := 3) (ret := (Option.some Jvm.ClassFile.FieldType.int)) (by decide) (Nat.le_of_ble_eq_true rfl) ?_
  intro p e s m below meth c hx hb hr hlk hin hml hown hts htab hG hB ls hl
  have hown : s.vm.findClass RX1 = some m.cls := hown
  have hl : lv_has ls 3 [(0, .ref x), (1, .int k)] := hl
  obtain ⟨h_x, ⟨cd, al, el, cap, mc, arr, ad, hX⟩, hFx⟩ := hB
  have hn40 : sN S ≤ 40 := hok.2.2.2.2.2.2.2.1
  refine lv_aload_n hx hb dX1_leave_0 rfl (lv_at hl 0 rfl) ?_
  refine gg_get (ci := 0) (C := RX1) (T := TX1) (N := 1) (v := .ref b) hx hb hts in_X1 hown hG h_x rfl 0 (by decide) q115 rfl rfl dX1_leave_1 ?_
  refine gg_getN (ci := 1) (C := RX2) (T := TX2) (N := 8) (v := .ref al) hx hb hts in_X2 hown hG hX.1 rfl 7 (by decide) q97 rfl rfl dX1_leave_4 ?_
  refine lv_iload_n hx hb dX1_leave_7 rfl (lv_at hl 1 rfl) ?_
  exact vx_callq (vx_runS (As := [.ref al, .int k]) (rest := []) ⟨hx, hb, hml, hown, hts⟩ (xm_X1_known_IOB l hl0 g al el (sN S) mc k h) (va_cwS 2 hts (lw_S q492 q493 q14 q494) rfl rfl rfl (by decide +kernel) ⟨Nat.le_of_ble_eq_true rfl, Nat.le_of_ble_eq_true rfl⟩) (gg_preS hG (Kp.rf hG) hX.2.2.1) rfl rfl hl.1 rfl (lv_room (Nat.le_of_ble_eq_true rfl)) dX1_leave_8 ⟨Nat.le_of_ble_eq_true rfl, Nat.le_of_ble_eq_true rfl⟩) (va_S.rf (A := fun _ => False) (H0 := s.heap)) (fun q _ e => e) (fun q e => e) (fun q _ e => e) (fun E ce q9 u t9 H1 locs ht hvm _ hE hz1 hk1 hS hce hcv hcl => gg_out htab hlk hE hS hce hcv hcl (Nat.le_of_ble_eq_true rfl) (Nat.le_of_ble_eq_true rfl)) (fun r9 _ t9 H1 locs _ _ h9 => h9.elim)

set_option maxHeartbeats 4000000 in
theorem xm_X1_leave_ISE (l : Launch) (hl0 : l.stackTraces = false) (g : GT) (T x b : Nat) (S : BS) (F : Nat → Prop) (hok : OKS T S) (k : Nat) (hk : k < sN S) (h : ¬ tSt (sTv S k) = 0) : vx_Met l yX1_leave (ws_ yX1_leave cX1_leave 3 (Option.some Jvm.ClassFile.FieldType.int)) ({ frames := 7, cells := 1, slots := 6, locals := 109 } : Room) (PcG g [.ref x, .int (nI k)] (fun H => XB g F x b S H)) xQi (xX xISE) 1 6 (fun _ => False) := by
  refine gg_xmet (cc := cX1_leave) (maxL := 3) (ret := (Option.some Jvm.ClassFile.FieldType.int)) (by decide) (Nat.le_of_ble_eq_true rfl) ?_
  intro p e s m below meth c hx hb hr hlk hin hml hown hts htab hG hB ls hl
  have hown : s.vm.findClass RX1 = some m.cls := hown
  have hl : lv_has ls 3 [(0, .ref x), (1, .int (nI k))] := hl
  obtain ⟨h_x, ⟨cd, al, el, cap, mc, arr, ad, hX⟩, hFx⟩ := hB
  have hn40 : sN S ≤ 40 := hok.2.2.2.2.2.2.2.1
  refine lv_aload_n hx hb dX1_leave_0 rfl (lv_at hl 0 rfl) ?_
  refine gg_get (ci := 0) (C := RX1) (T := TX1) (N := 1) (v := .ref b) hx hb hts in_X1 hown hG h_x rfl 0 (by decide) q115 rfl rfl dX1_leave_1 ?_
  refine gg_getN (ci := 1) (C := RX2) (T := TX2) (N := 8) (v := .ref al) hx hb hts in_X2 hown hG hX.1 rfl 7 (by decide) q97 rfl rfl dX1_leave_4 ?_
  refine lv_iload_n hx hb dX1_leave_7 rfl (lv_at hl 1 rfl) ?_
  refine va_csr (va_Run.run (va_runS (As := [.ref al, .int (nI k)]) (rest := []) ⟨hx, hb, hml, hown, hts⟩ (met_X1_known l g al el (sN S) cap k (ad k) mc arr hk hX.2.2.2.2.2.1 (by have := hX.2.2.2.2.2.2.1; omega) (hX.2.2.2.2.1 k hk).1) (va_cwS 2 hts (lw_S q492 q493 q14 q494) rfl rfl rfl (by decide +kernel) ⟨Nat.le_of_ble_eq_true rfl, Nat.le_of_ble_eq_true rfl⟩) (gg_preS hG (Kp.rf hG) ⟨hX.2.2.1, hX.2.2.2.1 (by omega)⟩) rfl rfl hl.1 rfl (lv_room (Nat.le_of_ble_eq_true rfl)) dX1_leave_8 ⟨Nat.le_of_ble_eq_true rfl, Nat.le_of_ble_eq_true rfl⟩)) (fun a_k ha_k => ?_)
  subst ha_k
  refine va_castS hx hb hown (hts _ q251) (hG.k.1 2 _ rfl).2 (gg_recv hG (hX.2.2.2.2.1 k hk).2 rfl) dX1_leave_11 ?_
  refine lv_astore_n (lv' := [(2, .ref (ad k)), (0, .ref x), (1, .int (nI k))]) hx hb dX1_leave_14 rfl hl (by decide) rfl (fun ls hl => ?_)
  refine lv_aload_n hx hb dX1_leave_15 rfl (lv_at hl 0 rfl) ?_
  refine gg_getS hx hb hts hown hG (Kp.rf hG) 0 (by decide) rfl q528 dX1_leave_16 ?_
  refine vp_callSi (va_Run.run (va_runV (As := [.ref (gS g 0)]) (rest := []) ⟨hx, hb, hml, hown, hts⟩ (met_X6_is l g (ad k) (sTv S k) 0 (hok.2.2.2.2.2.2.2.2.1 k hk).2.2.1 (by decide)) (cwV 1 hts (lw_V q529 q194 q195 q28 q196) rfl rfl rfl (by decide +kernel) ⟨Nat.le_of_ble_eq_true rfl, Nat.le_of_ble_eq_true rfl⟩) (gg_preV hG (Kp.rf hG) (gg_recv hG (hX.2.2.2.2.1 k hk).2 rfl) (hX.2.2.2.2.1 k hk).2) rfl rfl hl.1 rfl (lv_room (Nat.le_of_ble_eq_true rfl)) dX1_leave_19 ⟨Nat.le_of_ble_eq_true rfl, Nat.le_of_ble_eq_true rfl⟩)) (fun r_is hr_is => ?_)
  exact vx_callv (vx_runS (As := [.int r_is]) (rest := []) ⟨hx, hb, hml, hown, hts⟩ (xm_X1_requireState_ISE l hl0 g r_is (by rw [hr_is, if_neg h])) (va_cwS 1 hts (lw_S q338 q339 q14 q340) rfl rfl rfl (by decide +kernel) ⟨Nat.le_of_ble_eq_true rfl, Nat.le_of_ble_eq_true rfl⟩) (gg_preS hG (Kp.rf hG) trivial) rfl rfl hl.1 rfl (lv_room (Nat.le_of_ble_eq_true rfl)) dX1_leave_22 ⟨Nat.le_of_ble_eq_true rfl, Nat.le_of_ble_eq_true rfl⟩) (va_S.rf (A := fun _ => False) (H0 := s.heap)) (fun q _ e => e) (fun q e => e) (fun q _ e => e) (fun E ce q9 u t9 H1 locs ht hvm _ hE hz1 hk1 hS hce hcv hcl => gg_out htab hlk hE hS hce hcv hcl (Nat.le_of_ble_eq_true rfl) (Nat.le_of_ble_eq_true rfl)) (fun _ t9 H1 locs _ _ h9 => h9.elim)

set_option maxHeartbeats 4000000 in
theorem xm_X1_ring_IAE (l : Launch) (hl0 : l.stackTraces = false) (g : GT) (T x b : Nat) (S : BS) (F : Nat → Prop) (hok : OKS T S) (v : Int32) (h : ¬ (0 ≤ v ∧ v ≤ 4)) : vx_Met l yX1_ring (ws_ yX1_ring cX1_ring 3 (Option.some Jvm.ClassFile.FieldType.int)) ({ frames := 8, cells := 1, slots := 6, locals := 131 } : Room) (PcG g [.ref x, .int v] (fun H => XB g F x b S H)) xQi (xX xIAE) 1 6 (fun _ => False) := by
  refine gg_xmet (cc := cX1_ring) (maxL := 3) (ret := (Option.some Jvm.ClassFile.FieldType.int)) (by decide) (Nat.le_of_ble_eq_true rfl) ?_
  intro p e s m below meth c hx hb hr hlk hin hml hown hts htab hG hB ls hl
  have hown : s.vm.findClass RX1 = some m.cls := hown
  have hl : lv_has ls 3 [(0, .ref x), (1, .int v)] := hl
  obtain ⟨h_x, ⟨cd, al, el, cap, mc, arr, ad, hX⟩, hFx⟩ := hB
  have hn40 : sN S ≤ 40 := hok.2.2.2.2.2.2.2.1
  refine lv_iconst (v := 0) hx hb dX1_ring_0 (by decide) ?_
  refine lv_iconst (v := 4) hx hb dX1_ring_1 (by decide) ?_
  refine lv_iload_n hx hb dX1_ring_2 rfl (lv_at hl 1 rfl) ?_
  exact vx_callv (vx_runS (As := [.int 0, .int 4, .int v]) (rest := []) ⟨hx, hb, hml, hown, hts⟩ (xm_X1_requireFrom_IAE l hl0 g 0 4 v h) (va_cwS 3 hts (lw_S q267 q268 q14 q269) rfl rfl rfl (by decide +kernel) ⟨Nat.le_of_ble_eq_true rfl, Nat.le_of_ble_eq_true rfl⟩) (gg_preS hG (Kp.rf hG) trivial) rfl rfl hl.1 rfl (lv_room (Nat.le_of_ble_eq_true rfl)) dX1_ring_3 ⟨Nat.le_of_ble_eq_true rfl, Nat.le_of_ble_eq_true rfl⟩) (va_S.rf (A := fun _ => False) (H0 := s.heap)) (fun q _ e => e) (fun q e => e) (fun q _ e => e) (fun E ce q9 u t9 H1 locs ht hvm _ hE hz1 hk1 hS hce hcv hcl => gg_out htab hlk hE hS hce hcv hcl (Nat.le_of_ble_eq_true rfl) (Nat.le_of_ble_eq_true rfl)) (fun _ t9 H1 locs _ _ h9 => h9.elim)

set_option maxHeartbeats 4000000 in
theorem xm_X1_poise_IAE (l : Launch) (hl0 : l.stackTraces = false) (g : GT) (T x b : Nat) (S : BS) (F : Nat → Prop) (hok : OKS T S) (v : Int32) (h : ¬ (0 ≤ v ∧ v ≤ 30)) : vx_Met l yX1_poise (ws_ yX1_poise cX1_poise 3 (Option.some Jvm.ClassFile.FieldType.int)) ({ frames := 8, cells := 1, slots := 6, locals := 131 } : Room) (PcG g [.ref x, .int v] (fun H => XB g F x b S H)) xQi (xX xIAE) 1 6 (fun _ => False) := by
  refine gg_xmet (cc := cX1_poise) (maxL := 3) (ret := (Option.some Jvm.ClassFile.FieldType.int)) (by decide) (Nat.le_of_ble_eq_true rfl) ?_
  intro p e s m below meth c hx hb hr hlk hin hml hown hts htab hG hB ls hl
  have hown : s.vm.findClass RX1 = some m.cls := hown
  have hl : lv_has ls 3 [(0, .ref x), (1, .int v)] := hl
  obtain ⟨h_x, ⟨cd, al, el, cap, mc, arr, ad, hX⟩, hFx⟩ := hB
  have hn40 : sN S ≤ 40 := hok.2.2.2.2.2.2.2.1
  refine lv_iconst (v := 0) hx hb dX1_poise_0 (by decide) ?_
  refine lv_bipush (v := 30) hx hb dX1_poise_1 (by decide) ?_
  refine lv_iload_n hx hb dX1_poise_3 rfl (lv_at hl 1 rfl) ?_
  exact vx_callv (vx_runS (As := [.int 0, .int 30, .int v]) (rest := []) ⟨hx, hb, hml, hown, hts⟩ (xm_X1_requireFrom_IAE l hl0 g 0 30 v h) (va_cwS 3 hts (lw_S q267 q268 q14 q269) rfl rfl rfl (by decide +kernel) ⟨Nat.le_of_ble_eq_true rfl, Nat.le_of_ble_eq_true rfl⟩) (gg_preS hG (Kp.rf hG) trivial) rfl rfl hl.1 rfl (lv_room (Nat.le_of_ble_eq_true rfl)) dX1_poise_4 ⟨Nat.le_of_ble_eq_true rfl, Nat.le_of_ble_eq_true rfl⟩) (va_S.rf (A := fun _ => False) (H0 := s.heap)) (fun q _ e => e) (fun q e => e) (fun q _ e => e) (fun E ce q9 u t9 H1 locs ht hvm _ hE hz1 hk1 hS hce hcv hcl => gg_out htab hlk hE hS hce hcv hcl (Nat.le_of_ble_eq_true rfl) (Nat.le_of_ble_eq_true rfl)) (fun _ t9 H1 locs _ _ h9 => h9.elim)

set_option maxHeartbeats 4000000 in
theorem xm_X1_poise_ISE (l : Launch) (hl0 : l.stackTraces = false) (g : GT) (T x b : Nat) (S : BS) (F : Nat → Prop) (hok : OKS T S) (v : Int32) (h1 : 0 ≤ v ∧ v ≤ 30) (h : ¬ (sAn S = 0 ∨ sAn S = 60)) : vx_Met l yX1_poise (ws_ yX1_poise cX1_poise 3 (Option.some Jvm.ClassFile.FieldType.int)) ({ frames := 7, cells := 1, slots := 6, locals := 109 } : Room) (PcG g [.ref x, .int v] (fun H => XB g F x b S H)) xQi (xX xISE) 1 6 (fun _ => False) := by
  refine gg_xmet (cc := cX1_poise) (maxL := 3) (ret := (Option.some Jvm.ClassFile.FieldType.int)) (by decide) (Nat.le_of_ble_eq_true rfl) ?_
  intro p e s m below meth c hx hb hr hlk hin hml hown hts htab hG hB ls hl
  have hown : s.vm.findClass RX1 = some m.cls := hown
  have hl : lv_has ls 3 [(0, .ref x), (1, .int v)] := hl
  obtain ⟨h_x, ⟨cd, al, el, cap, mc, arr, ad, hX⟩, hFx⟩ := hB
  have hn40 : sN S ≤ 40 := hok.2.2.2.2.2.2.2.1
  refine lv_iconst (v := 0) hx hb dX1_poise_0 (by decide) ?_
  refine lv_bipush (v := 30) hx hb dX1_poise_1 (by decide) ?_
  refine lv_iload_n hx hb dX1_poise_3 rfl (lv_at hl 1 rfl) ?_
  refine va_csv (va_Run.run (va_runS (As := [.int 0, .int 30, .int v]) (rest := []) ⟨hx, hb, hml, hown, hts⟩ (met_X1_requireFrom l g 0 30 v h1.1 h1.2) (va_cwS 3 hts (lw_S q267 q268 q14 q269) rfl rfl rfl (by decide +kernel) ⟨Nat.le_of_ble_eq_true rfl, Nat.le_of_ble_eq_true rfl⟩) (gg_preS hG (Kp.rf hG) trivial) rfl rfl hl.1 rfl (lv_room (Nat.le_of_ble_eq_true rfl)) dX1_poise_4 ⟨Nat.le_of_ble_eq_true rfl, Nat.le_of_ble_eq_true rfl⟩)) (fun _ => ?_)
  refine lv_aload_n hx hb dX1_poise_7 rfl (lv_at hl 0 rfl) ?_
  refine gg_get (ci := 0) (C := RX1) (T := TX1) (N := 1) (v := .ref b) hx hb hts in_X1 hown hG h_x rfl 0 (by decide) q115 rfl rfl dX1_poise_8 ?_
  refine gg_getN (ci := 1) (C := RX2) (T := TX2) (N := 8) (v := .int (sAn S)) hx hb hts in_X2 hown hG hX.1 rfl 1 (by decide) q85 rfl rfl dX1_poise_11 ?_
  refine lv_if_eq (tgt := 29) hx hb dX1_poise_14 (by decide) (fun c_14 => absurd c_14 (fun e => h (Or.inl e))) (fun c_14 => ?_)
  refine lv_aload_n hx hb dX1_poise_17 rfl (lv_at hl 0 rfl) ?_
  refine gg_get (ci := 0) (C := RX1) (T := TX1) (N := 1) (v := .ref b) hx hb hts in_X1 hown hG h_x rfl 0 (by decide) q115 rfl rfl dX1_poise_18 ?_
  refine gg_getN (ci := 1) (C := RX2) (T := TX2) (N := 8) (v := .int (sAn S)) hx hb hts in_X2 hown hG hX.1 rfl 1 (by decide) q85 rfl rfl dX1_poise_21 ?_
  refine lv_bipush (v := 60) hx hb dX1_poise_24 (by decide) ?_
  refine lv_icmp_ne (tgt := 33) hx hb dX1_poise_26 (by decide) (fun c_26 => ?_) (fun c_26 => absurd c_26 (fun e => h (Or.inr e)))
  refine lv_iconst (v := 0) hx hb dX1_poise_33 (by decide) ?_
  exact vx_callv (vx_runS (As := [.int 0]) (rest := []) ⟨hx, hb, hml, hown, hts⟩ (xm_X1_requireState_ISE l hl0 g 0 rfl) (va_cwS 1 hts (lw_S q338 q339 q14 q340) rfl rfl rfl (by decide +kernel) ⟨Nat.le_of_ble_eq_true rfl, Nat.le_of_ble_eq_true rfl⟩) (gg_preS hG (Kp.rf hG) trivial) rfl rfl hl.1 rfl (lv_room (Nat.le_of_ble_eq_true rfl)) dX1_poise_34 ⟨Nat.le_of_ble_eq_true rfl, Nat.le_of_ble_eq_true rfl⟩) (va_S.rf (A := fun _ => False) (H0 := s.heap)) (fun q _ e => e) (fun q e => e) (fun q _ e => e) (fun E ce q9 u t9 H1 locs ht hvm _ hE hz1 hk1 hS hce hcv hcl => gg_out htab hlk hE hS hce hcv hcl (Nat.le_of_ble_eq_true rfl) (Nat.le_of_ble_eq_true rfl)) (fun _ t9 H1 locs _ _ h9 => h9.elim)

set_option maxHeartbeats 4000000 in
theorem xm_X1_setCold_IOB (l : Launch) (hl0 : l.stackTraces = false) (g : GT) (T x b : Nat) (S : BS) (F : Nat → Prop) (hok : OKS T S) (k v : Int32) (h : ¬ (0 ≤ k ∧ k < 8)) : vx_Met l yX1_setCold (ws_ yX1_setCold cX1_setCold 4 (Option.some Jvm.ClassFile.FieldType.int)) ({ frames := 7, cells := 1, slots := 6, locals := 110 } : Room) (PcG g [.ref x, .int k, .int v] (fun H => XB g F x b S H)) xQi (xX xIOB) 1 6 (fun _ => False) := by
  refine gg_xmet (cc := cX1_setCold) (maxL := 4) (ret := (Option.some Jvm.ClassFile.FieldType.int)) (by decide) (Nat.le_of_ble_eq_true rfl) ?_
  intro p e s m below meth c hx hb hr hlk hin hml hown hts htab hG hB ls hl
  have hown : s.vm.findClass RX1 = some m.cls := hown
  have hl : lv_has ls 4 [(0, .ref x), (1, .int k), (2, .int v)] := hl
  obtain ⟨h_x, ⟨cd, al, el, cap, mc, arr, ad, hX⟩, hFx⟩ := hB
  have hn40 : sN S ≤ 40 := hok.2.2.2.2.2.2.2.1
  refine lv_iload_n hx hb dX1_setCold_0 rfl (lv_at hl 1 rfl) ?_
  refine lv_bipush (v := 8) hx hb dX1_setCold_1 (by decide) ?_
  exact vx_callv (vx_runS (As := [.int k, .int 8]) (rest := []) ⟨hx, hb, hml, hown, hts⟩ (xm_X1_requireIndex_IOB l hl0 g k 8 h) (va_cwS 2 hts (lw_S q503 q504 q14 q505) rfl rfl rfl (by decide +kernel) ⟨Nat.le_of_ble_eq_true rfl, Nat.le_of_ble_eq_true rfl⟩) (gg_preS hG (Kp.rf hG) trivial) rfl rfl hl.1 rfl (lv_room (Nat.le_of_ble_eq_true rfl)) dX1_setCold_3 ⟨Nat.le_of_ble_eq_true rfl, Nat.le_of_ble_eq_true rfl⟩) (va_S.rf (A := fun _ => False) (H0 := s.heap)) (fun q _ e => e) (fun q e => e) (fun q _ e => e) (fun E ce q9 u t9 H1 locs ht hvm _ hE hz1 hk1 hS hce hcv hcl => gg_out htab hlk hE hS hce hcv hcl (Nat.le_of_ble_eq_true rfl) (Nat.le_of_ble_eq_true rfl)) (fun _ t9 H1 locs _ _ h9 => h9.elim)

set_option maxHeartbeats 4000000 in
theorem xm_X1_setCold_IAE (l : Launch) (hl0 : l.stackTraces = false) (g : GT) (T x b : Nat) (S : BS) (F : Nat → Prop) (hok : OKS T S) (k : Nat) (v : Int32) (hk : k < 8) (h : ¬ (-3 ≤ v ∧ v ≤ 3)) : vx_Met l yX1_setCold (ws_ yX1_setCold cX1_setCold 4 (Option.some Jvm.ClassFile.FieldType.int)) ({ frames := 8, cells := 1, slots := 6, locals := 131 } : Room) (PcG g [.ref x, .int (nI k), .int v] (fun H => XB g F x b S H)) xQi (xX xIAE) 1 6 (fun _ => False) := by
  refine gg_xmet (cc := cX1_setCold) (maxL := 4) (ret := (Option.some Jvm.ClassFile.FieldType.int)) (by decide) (Nat.le_of_ble_eq_true rfl) ?_
  intro p e s m below meth c hx hb hr hlk hin hml hown hts htab hG hB ls hl
  have hown : s.vm.findClass RX1 = some m.cls := hown
  have hl : lv_has ls 4 [(0, .ref x), (1, .int (nI k)), (2, .int v)] := hl
  obtain ⟨h_x, ⟨cd, al, el, cap, mc, arr, ad, hX⟩, hFx⟩ := hB
  have hn40 : sN S ≤ 40 := hok.2.2.2.2.2.2.2.1
  refine lv_iload_n hx hb dX1_setCold_0 rfl (lv_at hl 1 rfl) ?_
  refine lv_bipush (v := 8) hx hb dX1_setCold_1 (by decide) ?_
  refine va_csv (va_Run.run (va_runS (As := [.int (nI k), .int 8]) (rest := []) ⟨hx, hb, hml, hown, hts⟩ (met_X1_requireIndex l g k 8 hk (by decide)) (va_cwS 2 hts (lw_S q503 q504 q14 q505) rfl rfl rfl (by decide +kernel) ⟨Nat.le_of_ble_eq_true rfl, Nat.le_of_ble_eq_true rfl⟩) (gg_preS hG (Kp.rf hG) trivial) rfl rfl hl.1 rfl (lv_room (Nat.le_of_ble_eq_true rfl)) dX1_setCold_3 ⟨Nat.le_of_ble_eq_true rfl, Nat.le_of_ble_eq_true rfl⟩)) (fun _ => ?_)
  refine lv_bipush (v := (-3)) hx hb dX1_setCold_6 (by decide) ?_
  refine lv_iconst (v := 3) hx hb dX1_setCold_8 (by decide) ?_
  refine lv_iload_n hx hb dX1_setCold_9 rfl (lv_at hl 2 rfl) ?_
  exact vx_callv (vx_runS (As := [.int (-3), .int 3, .int v]) (rest := []) ⟨hx, hb, hml, hown, hts⟩ (xm_X1_requireFrom_IAE l hl0 g (-3) 3 v h) (va_cwS 3 hts (lw_S q267 q268 q14 q269) rfl rfl rfl (by decide +kernel) ⟨Nat.le_of_ble_eq_true rfl, Nat.le_of_ble_eq_true rfl⟩) (gg_preS hG (Kp.rf hG) trivial) rfl rfl hl.1 rfl (lv_room (Nat.le_of_ble_eq_true rfl)) dX1_setCold_10 ⟨Nat.le_of_ble_eq_true rfl, Nat.le_of_ble_eq_true rfl⟩) (va_S.rf (A := fun _ => False) (H0 := s.heap)) (fun q _ e => e) (fun q e => e) (fun q _ e => e) (fun E ce q9 u t9 H1 locs ht hvm _ hE hz1 hk1 hS hce hcv hcl => gg_out htab hlk hE hS hce hcv hcl (Nat.le_of_ble_eq_true rfl) (Nat.le_of_ble_eq_true rfl)) (fun _ t9 H1 locs _ _ h9 => h9.elim)

set_option maxHeartbeats 4000000 in
theorem xm_X1_traveller_IOB (l : Launch) (hl0 : l.stackTraces = false) (g : GT) (T x b : Nat) (S : BS) (F : Nat → Prop) (hok : OKS T S) (k w : Int32) (h : ¬ ((0 ≤ k ∧ k < nI (sN S)) ∧ (0 ≤ w ∧ w < 7))) : vx_Met l yX1_traveller (ws_ yX1_traveller cX1_traveller 4 (Option.some Jvm.ClassFile.FieldType.int)) ({ frames := 8, cells := 1, slots := 6, locals := 131 } : Room) (PcG g [.ref x, .int k, .int w] (fun H => XB g F x b S H)) xQi (xX xIOB) 1 6 (fun _ => False) := by
  refine gg_xmet (cc := cX1_traveller) (maxL := 4) (ret := (Option.some Jvm.ClassFile.FieldType.int)) (by decide) (Nat.le_of_ble_eq_true rfl) ?_
  intro p e s m below meth c hx hb hr hlk hin hml hown hts htab hG hB ls hl
  have hown : s.vm.findClass RX1 = some m.cls := hown
  have hl : lv_has ls 4 [(0, .ref x), (1, .int k), (2, .int w)] := hl
  obtain ⟨h_x, ⟨cd, al, el, cap, mc, arr, ad, hX⟩, hFx⟩ := hB
  have hn40 : sN S ≤ 40 := hok.2.2.2.2.2.2.2.1
  by_cases hk9 : 0 ≤ k ∧ k < nI (sN S)
  · obtain ⟨k1, hk, hkj⟩ := isT_ex hn40 hk9
    subst hkj
    generalize k1 = k at *
    refine lv_aload_n hx hb dX1_traveller_0 rfl (lv_at hl 0 rfl) ?_
    refine gg_get (ci := 0) (C := RX1) (T := TX1) (N := 1) (v := .ref b) hx hb hts in_X1 hown hG h_x rfl 0 (by decide) q115 rfl rfl dX1_traveller_1 ?_
    refine gg_getN (ci := 1) (C := RX2) (T := TX2) (N := 8) (v := .ref al) hx hb hts in_X2 hown hG hX.1 rfl 7 (by decide) q97 rfl rfl dX1_traveller_4 ?_
    refine lv_iload_n hx hb dX1_traveller_7 rfl (lv_at hl 1 rfl) ?_
    refine va_csr (va_Run.run (va_runS (As := [.ref al, .int (nI k)]) (rest := []) ⟨hx, hb, hml, hown, hts⟩ (met_X1_known l g al el (sN S) cap k (ad k) mc arr hk hX.2.2.2.2.2.1 (by have := hX.2.2.2.2.2.2.1; omega) (hX.2.2.2.2.1 k hk).1) (va_cwS 2 hts (lw_S q492 q493 q14 q494) rfl rfl rfl (by decide +kernel) ⟨Nat.le_of_ble_eq_true rfl, Nat.le_of_ble_eq_true rfl⟩) (gg_preS hG (Kp.rf hG) ⟨hX.2.2.1, hX.2.2.2.1 (by omega)⟩) rfl rfl hl.1 rfl (lv_room (Nat.le_of_ble_eq_true rfl)) dX1_traveller_8 ⟨Nat.le_of_ble_eq_true rfl, Nat.le_of_ble_eq_true rfl⟩)) (fun a_k ha_k => ?_)
    subst ha_k
    refine va_castS hx hb hown (hts _ q251) (hG.k.1 2 _ rfl).2 (gg_recv hG (hX.2.2.2.2.1 k hk).2 rfl) dX1_traveller_11 ?_
    refine lv_astore_n (lv' := [(3, .ref (ad k)), (0, .ref x), (1, .int (nI k)), (2, .int w)]) hx hb dX1_traveller_14 rfl hl (by decide) rfl (fun ls hl => ?_)
    refine lv_iload_n hx hb dX1_traveller_15 rfl (lv_at hl 3 rfl) ?_
    refine lv_bipush (v := 7) hx hb dX1_traveller_16 (by decide) ?_
    exact vx_callv (vx_runS (As := [.int w, .int 7]) (rest := []) ⟨hx, hb, hml, hown, hts⟩ (xm_X1_requireIndex_IOB l hl0 g w 7 (fun e => h ⟨hk9, e⟩)) (va_cwS 2 hts (lw_S q503 q504 q14 q505) rfl rfl rfl (by decide +kernel) ⟨Nat.le_of_ble_eq_true rfl, Nat.le_of_ble_eq_true rfl⟩) (gg_preS hG (Kp.rf hG) trivial) rfl rfl hl.1 rfl (lv_room (Nat.le_of_ble_eq_true rfl)) dX1_traveller_18 ⟨Nat.le_of_ble_eq_true rfl, Nat.le_of_ble_eq_true rfl⟩) (va_S.rf (A := fun _ => False) (H0 := s.heap)) (fun q _ e => e) (fun q e => e) (fun q _ e => e) (fun E ce q9 u t9 H1 locs ht hvm _ hE hz1 hk1 hS hce hcv hcl => gg_out htab hlk hE hS hce hcv hcl (Nat.le_of_ble_eq_true rfl) (Nat.le_of_ble_eq_true rfl)) (fun _ t9 H1 locs _ _ h9 => h9.elim)
  · refine lv_aload_n hx hb dX1_traveller_0 rfl (lv_at hl 0 rfl) ?_
    refine gg_get (ci := 0) (C := RX1) (T := TX1) (N := 1) (v := .ref b) hx hb hts in_X1 hown hG h_x rfl 0 (by decide) q115 rfl rfl dX1_traveller_1 ?_
    refine gg_getN (ci := 1) (C := RX2) (T := TX2) (N := 8) (v := .ref al) hx hb hts in_X2 hown hG hX.1 rfl 7 (by decide) q97 rfl rfl dX1_traveller_4 ?_
    refine lv_iload_n hx hb dX1_traveller_7 rfl (lv_at hl 1 rfl) ?_
    exact vx_callq (vx_runS (As := [.ref al, .int k]) (rest := []) ⟨hx, hb, hml, hown, hts⟩ (xm_X1_known_IOB l hl0 g al el (sN S) mc k hk9) (va_cwS 2 hts (lw_S q492 q493 q14 q494) rfl rfl rfl (by decide +kernel) ⟨Nat.le_of_ble_eq_true rfl, Nat.le_of_ble_eq_true rfl⟩) (gg_preS hG (Kp.rf hG) hX.2.2.1) rfl rfl hl.1 rfl (lv_room (Nat.le_of_ble_eq_true rfl)) dX1_traveller_8 ⟨Nat.le_of_ble_eq_true rfl, Nat.le_of_ble_eq_true rfl⟩) (va_S.rf (A := fun _ => False) (H0 := s.heap)) (fun q _ e => e) (fun q e => e) (fun q _ e => e) (fun E ce q9 u t9 H1 locs ht hvm _ hE hz1 hk1 hS hce hcv hcl => gg_out htab hlk hE hS hce hcv hcl (Nat.le_of_ble_eq_true rfl) (Nat.le_of_ble_eq_true rfl)) (fun r9 _ t9 H1 locs _ _ h9 => h9.elim)

set_option maxHeartbeats 4000000 in
theorem xm_X1_count_IOB (l : Launch) (hl0 : l.stackTraces = false) (g : GT) (T x b : Nat) (S : BS) (F : Nat → Prop) (hok : OKS T S) (w : Int32) (h : ¬ (0 ≤ w ∧ w < 12)) : vx_Met l yX1_count (ws_ yX1_count cX1_count 2 (Option.some Jvm.ClassFile.FieldType.int)) ({ frames := 7, cells := 1, slots := 6, locals := 110 } : Room) (PcG g [.ref x, .int w] (fun H => XB g F x b S H)) xQi (xX xIOB) 1 6 (fun _ => False) := by
  refine gg_xmet (cc := cX1_count) (maxL := 2) (ret := (Option.some Jvm.ClassFile.FieldType.int)) (by decide) (Nat.le_of_ble_eq_true rfl) ?_
  intro p e s m below meth c hx hb hr hlk hin hml hown hts htab hG hB ls hl
  have hown : s.vm.findClass RX1 = some m.cls := hown
  have hl : lv_has ls 2 [(0, .ref x), (1, .int w)] := hl
  obtain ⟨h_x, ⟨cd, al, el, cap, mc, arr, ad, hX⟩, hFx⟩ := hB
  have hn40 : sN S ≤ 40 := hok.2.2.2.2.2.2.2.1
  refine lv_iload_n hx hb dX1_count_0 rfl (lv_at hl 1 rfl) ?_
  refine lv_bipush (v := 12) hx hb dX1_count_1 (by decide) ?_
  exact vx_callv (vx_runS (As := [.int w, .int 12]) (rest := []) ⟨hx, hb, hml, hown, hts⟩ (xm_X1_requireIndex_IOB l hl0 g w 12 h) (va_cwS 2 hts (lw_S q503 q504 q14 q505) rfl rfl rfl (by decide +kernel) ⟨Nat.le_of_ble_eq_true rfl, Nat.le_of_ble_eq_true rfl⟩) (gg_preS hG (Kp.rf hG) trivial) rfl rfl hl.1 rfl (lv_room (Nat.le_of_ble_eq_true rfl)) dX1_count_3 ⟨Nat.le_of_ble_eq_true rfl, Nat.le_of_ble_eq_true rfl⟩) (va_S.rf (A := fun _ => False) (H0 := s.heap)) (fun q _ e => e) (fun q e => e) (fun q _ e => e) (fun E ce q9 u t9 H1 locs ht hvm _ hE hz1 hk1 hS hce hcv hcl => gg_out htab hlk hE hS hce hcv hcl (Nat.le_of_ble_eq_true rfl) (Nat.le_of_ble_eq_true rfl)) (fun _ t9 H1 locs _ _ h9 => h9.elim)

set_option maxHeartbeats 4000000 in
theorem xm_X1_pass_IAE (l : Launch) (hl0 : l.stackTraces = false) (g : GT) (T x b : Nat) (S : BS) (F : Nat → Prop) (hok : OKS T S) (v : Int32) (h : ¬ (1 ≤ v ∧ v ≤ 240)) : vx_Met l yX1_pass (ws_ yX1_pass cX1_pass 3 (Option.some Jvm.ClassFile.FieldType.int)) ({ frames := 8, cells := 1, slots := 6, locals := 131 } : Room) (PcG g [.ref x, .int v] (fun H => XB g F x b S H)) xQi (xX xIAE) 1 6 (fun _ => False) := by
  refine gg_xmet (cc := cX1_pass) (maxL := 3) (ret := (Option.some Jvm.ClassFile.FieldType.int)) (by decide) (Nat.le_of_ble_eq_true rfl) ?_
  intro p e s m below meth c hx hb hr hlk hin hml hown hts htab hG hB ls hl
  have hown : s.vm.findClass RX1 = some m.cls := hown
  have hl : lv_has ls 3 [(0, .ref x), (1, .int v)] := hl
  obtain ⟨h_x, ⟨cd, al, el, cap, mc, arr, ad, hX⟩, hFx⟩ := hB
  have hn40 : sN S ≤ 40 := hok.2.2.2.2.2.2.2.1
  refine lv_iconst (v := 1) hx hb dX1_pass_0 (by decide) ?_
  refine lv_sipush (v := 240) hx hb dX1_pass_1 (by decide) ?_
  refine lv_iload_n hx hb dX1_pass_4 rfl (lv_at hl 1 rfl) ?_
  exact vx_callv (vx_runS (As := [.int 1, .int 240, .int v]) (rest := []) ⟨hx, hb, hml, hown, hts⟩ (xm_X1_requireFrom_IAE l hl0 g 1 240 v h) (va_cwS 3 hts (lw_S q267 q268 q14 q269) rfl rfl rfl (by decide +kernel) ⟨Nat.le_of_ble_eq_true rfl, Nat.le_of_ble_eq_true rfl⟩) (gg_preS hG (Kp.rf hG) trivial) rfl rfl hl.1 rfl (lv_room (Nat.le_of_ble_eq_true rfl)) dX1_pass_5 ⟨Nat.le_of_ble_eq_true rfl, Nat.le_of_ble_eq_true rfl⟩) (va_S.rf (A := fun _ => False) (H0 := s.heap)) (fun q _ e => e) (fun q e => e) (fun q _ e => e) (fun E ce q9 u t9 H1 locs ht hvm _ hE hz1 hk1 hS hce hcv hcl => gg_out htab hlk hE hS hce hcv hcl (Nat.le_of_ble_eq_true rfl) (Nat.le_of_ble_eq_true rfl)) (fun _ t9 H1 locs _ _ h9 => h9.elim)

set_option maxHeartbeats 4000000 in
theorem xm_X1_when_IOB (l : Launch) (hl0 : l.stackTraces = false) (g : GT) (T x b : Nat) (S : BS) (F : Nat → Prop) (hok : OKS T S) (k : Int32) (h : ¬ (0 ≤ k ∧ k < nI (sN S))) : vx_Met l yX1_when (ws_ yX1_when cX1_when 4 (Option.some Jvm.ClassFile.FieldType.int)) ({ frames := 8, cells := 1, slots := 6, locals := 131 } : Room) (PcG g [.ref x, .int k] (fun H => XB g F x b S H)) xQi (xX xIOB) 1 6 (fun _ => False) := by
  refine gg_xmet (cc := cX1_when) (maxL := 4) (ret := (Option.some Jvm.ClassFile.FieldType.int)) (by decide) (Nat.le_of_ble_eq_true rfl) ?_
  intro p e s m below meth c hx hb hr hlk hin hml hown hts htab hG hB ls hl
  have hown : s.vm.findClass RX1 = some m.cls := hown
  have hl : lv_has ls 4 [(0, .ref x), (1, .int k)] := hl
  obtain ⟨h_x, ⟨cd, al, el, cap, mc, arr, ad, hX⟩, hFx⟩ := hB
  have hn40 : sN S ≤ 40 := hok.2.2.2.2.2.2.2.1
  refine lv_aload_n hx hb dX1_when_0 rfl (lv_at hl 0 rfl) ?_
  refine gg_get (ci := 0) (C := RX1) (T := TX1) (N := 1) (v := .ref b) hx hb hts in_X1 hown hG h_x rfl 0 (by decide) q115 rfl rfl dX1_when_1 ?_
  refine gg_getN (ci := 1) (C := RX2) (T := TX2) (N := 8) (v := .ref al) hx hb hts in_X2 hown hG hX.1 rfl 7 (by decide) q97 rfl rfl dX1_when_4 ?_
  refine lv_iload_n hx hb dX1_when_7 rfl (lv_at hl 1 rfl) ?_
  exact vx_callq (vx_runS (As := [.ref al, .int k]) (rest := []) ⟨hx, hb, hml, hown, hts⟩ (xm_X1_known_IOB l hl0 g al el (sN S) mc k h) (va_cwS 2 hts (lw_S q492 q493 q14 q494) rfl rfl rfl (by decide +kernel) ⟨Nat.le_of_ble_eq_true rfl, Nat.le_of_ble_eq_true rfl⟩) (gg_preS hG (Kp.rf hG) hX.2.2.1) rfl rfl hl.1 rfl (lv_room (Nat.le_of_ble_eq_true rfl)) dX1_when_8 ⟨Nat.le_of_ble_eq_true rfl, Nat.le_of_ble_eq_true rfl⟩) (va_S.rf (A := fun _ => False) (H0 := s.heap)) (fun q _ e => e) (fun q e => e) (fun q _ e => e) (fun E ce q9 u t9 H1 locs ht hvm _ hE hz1 hk1 hS hce hcv hcl => gg_out htab hlk hE hS hce hcv hcl (Nat.le_of_ble_eq_true rfl) (Nat.le_of_ble_eq_true rfl)) (fun r9 _ t9 H1 locs _ _ h9 => h9.elim)

set_option maxHeartbeats 4000000 in
theorem xm_X1_foresee_IAE (l : Launch) (hl0 : l.stackTraces = false) (g : GT) (T x b : Nat) (S : BS) (F : Nat → Prop) (hok : OKS T S) (v w : Int32) (h : ¬ (1 ≤ v ∧ v ≤ 240)) : vx_Met l yX1_foresee (ws_ yX1_foresee cX1_foresee 4 (Option.some Jvm.ClassFile.FieldType.int)) ({ frames := 8, cells := 1, slots := 6, locals := 131 } : Room) (PcG g [.ref x, .int v, .int w] (fun H => XB g F x b S H)) xQi (xX xIAE) 1 6 (fun _ => False) := by
  refine gg_xmet (cc := cX1_foresee) (maxL := 4) (ret := (Option.some Jvm.ClassFile.FieldType.int)) (by decide) (Nat.le_of_ble_eq_true rfl) ?_
  intro p e s m below meth c hx hb hr hlk hin hml hown hts htab hG hB ls hl
  have hown : s.vm.findClass RX1 = some m.cls := hown
  have hl : lv_has ls 4 [(0, .ref x), (1, .int v), (2, .int w)] := hl
  obtain ⟨h_x, ⟨cd, al, el, cap, mc, arr, ad, hX⟩, hFx⟩ := hB
  have hn40 : sN S ≤ 40 := hok.2.2.2.2.2.2.2.1
  refine lv_iconst (v := 1) hx hb dX1_foresee_0 (by decide) ?_
  refine lv_sipush (v := 240) hx hb dX1_foresee_1 (by decide) ?_
  refine lv_iload_n hx hb dX1_foresee_4 rfl (lv_at hl 1 rfl) ?_
  exact vx_callv (vx_runS (As := [.int 1, .int 240, .int v]) (rest := []) ⟨hx, hb, hml, hown, hts⟩ (xm_X1_requireFrom_IAE l hl0 g 1 240 v h) (va_cwS 3 hts (lw_S q267 q268 q14 q269) rfl rfl rfl (by decide +kernel) ⟨Nat.le_of_ble_eq_true rfl, Nat.le_of_ble_eq_true rfl⟩) (gg_preS hG (Kp.rf hG) trivial) rfl rfl hl.1 rfl (lv_room (Nat.le_of_ble_eq_true rfl)) dX1_foresee_5 ⟨Nat.le_of_ble_eq_true rfl, Nat.le_of_ble_eq_true rfl⟩) (va_S.rf (A := fun _ => False) (H0 := s.heap)) (fun q _ e => e) (fun q e => e) (fun q _ e => e) (fun E ce q9 u t9 H1 locs ht hvm _ hE hz1 hk1 hS hce hcv hcl => gg_out htab hlk hE hS hce hcv hcl (Nat.le_of_ble_eq_true rfl) (Nat.le_of_ble_eq_true rfl)) (fun _ t9 H1 locs _ _ h9 => h9.elim)

set_option maxHeartbeats 4000000 in
theorem xm_X1_foresee_IOB (l : Launch) (hl0 : l.stackTraces = false) (g : GT) (T x b : Nat) (S : BS) (F : Nat → Prop) (hok : OKS T S) (v w : Int32) (h1 : 1 ≤ v ∧ v ≤ 240) (h : ¬ (0 ≤ w ∧ w < 4)) : vx_Met l yX1_foresee (ws_ yX1_foresee cX1_foresee 4 (Option.some Jvm.ClassFile.FieldType.int)) ({ frames := 7, cells := 1, slots := 6, locals := 110 } : Room) (PcG g [.ref x, .int v, .int w] (fun H => XB g F x b S H)) xQi (xX xIOB) 1 6 (fun _ => False) := by
  refine gg_xmet (cc := cX1_foresee) (maxL := 4) (ret := (Option.some Jvm.ClassFile.FieldType.int)) (by decide) (Nat.le_of_ble_eq_true rfl) ?_
  intro p e s m below meth c hx hb hr hlk hin hml hown hts htab hG hB ls hl
  have hown : s.vm.findClass RX1 = some m.cls := hown
  have hl : lv_has ls 4 [(0, .ref x), (1, .int v), (2, .int w)] := hl
  obtain ⟨h_x, ⟨cd, al, el, cap, mc, arr, ad, hX⟩, hFx⟩ := hB
  have hn40 : sN S ≤ 40 := hok.2.2.2.2.2.2.2.1
  refine lv_iconst (v := 1) hx hb dX1_foresee_0 (by decide) ?_
  refine lv_sipush (v := 240) hx hb dX1_foresee_1 (by decide) ?_
  refine lv_iload_n hx hb dX1_foresee_4 rfl (lv_at hl 1 rfl) ?_
  refine va_csv (va_Run.run (va_runS (As := [.int 1, .int 240, .int v]) (rest := []) ⟨hx, hb, hml, hown, hts⟩ (met_X1_requireFrom l g 1 240 v h1.1 h1.2) (va_cwS 3 hts (lw_S q267 q268 q14 q269) rfl rfl rfl (by decide +kernel) ⟨Nat.le_of_ble_eq_true rfl, Nat.le_of_ble_eq_true rfl⟩) (gg_preS hG (Kp.rf hG) trivial) rfl rfl hl.1 rfl (lv_room (Nat.le_of_ble_eq_true rfl)) dX1_foresee_5 ⟨Nat.le_of_ble_eq_true rfl, Nat.le_of_ble_eq_true rfl⟩)) (fun _ => ?_)
  refine lv_iload_n hx hb dX1_foresee_8 rfl (lv_at hl 2 rfl) ?_
  refine lv_iconst (v := 4) hx hb dX1_foresee_9 (by decide) ?_
  exact vx_callv (vx_runS (As := [.int w, .int 4]) (rest := []) ⟨hx, hb, hml, hown, hts⟩ (xm_X1_requireIndex_IOB l hl0 g w 4 h) (va_cwS 2 hts (lw_S q503 q504 q14 q505) rfl rfl rfl (by decide +kernel) ⟨Nat.le_of_ble_eq_true rfl, Nat.le_of_ble_eq_true rfl⟩) (gg_preS hG (Kp.rf hG) trivial) rfl rfl hl.1 rfl (lv_room (Nat.le_of_ble_eq_true rfl)) dX1_foresee_10 ⟨Nat.le_of_ble_eq_true rfl, Nat.le_of_ble_eq_true rfl⟩) (va_S.rf (A := fun _ => False) (H0 := s.heap)) (fun q _ e => e) (fun q e => e) (fun q _ e => e) (fun E ce q9 u t9 H1 locs ht hvm _ hE hz1 hk1 hS hce hcv hcl => gg_out htab hlk hE hS hce hcv hcl (Nat.le_of_ble_eq_true rfl) (Nat.le_of_ble_eq_true rfl)) (fun _ t9 H1 locs _ _ h9 => h9.elim)

set_option maxHeartbeats 4000000 in
theorem xm_X1_bestCode_IAE (l : Launch) (hl0 : l.stackTraces = false) (g : GT) (T x b : Nat) (S : BS) (F : Nat → Prop) (hok : OKS T S) (v : Int32) (h : ¬ (1 ≤ v ∧ v ≤ 240)) : vx_Met l yX1_bestCode (ws_ yX1_bestCode cX1_bestCode 7 (Option.some Jvm.ClassFile.FieldType.int)) ({ frames := 8, cells := 1, slots := 6, locals := 131 } : Room) (PcG g [.ref x, .int v] (fun H => XB g F x b S H)) xQi (xX xIAE) 1 6 (fun _ => False) := by
  refine gg_xmet (cc := cX1_bestCode) (maxL := 7) (ret := (Option.some Jvm.ClassFile.FieldType.int)) (by decide) (Nat.le_of_ble_eq_true rfl) ?_
  intro p e s m below meth c hx hb hr hlk hin hml hown hts htab hG hB ls hl
  have hown : s.vm.findClass RX1 = some m.cls := hown
  have hl : lv_has ls 7 [(0, .ref x), (1, .int v)] := hl
  obtain ⟨h_x, ⟨cd, al, el, cap, mc, arr, ad, hX⟩, hFx⟩ := hB
  have hn40 : sN S ≤ 40 := hok.2.2.2.2.2.2.2.1
  refine lv_iconst (v := 1) hx hb dX1_bestCode_0 (by decide) ?_
  refine lv_sipush (v := 240) hx hb dX1_bestCode_1 (by decide) ?_
  refine lv_iload_n hx hb dX1_bestCode_4 rfl (lv_at hl 1 rfl) ?_
  exact vx_callv (vx_runS (As := [.int 1, .int 240, .int v]) (rest := []) ⟨hx, hb, hml, hown, hts⟩ (xm_X1_requireFrom_IAE l hl0 g 1 240 v h) (va_cwS 3 hts (lw_S q267 q268 q14 q269) rfl rfl rfl (by decide +kernel) ⟨Nat.le_of_ble_eq_true rfl, Nat.le_of_ble_eq_true rfl⟩) (gg_preS hG (Kp.rf hG) trivial) rfl rfl hl.1 rfl (lv_room (Nat.le_of_ble_eq_true rfl)) dX1_bestCode_5 ⟨Nat.le_of_ble_eq_true rfl, Nat.le_of_ble_eq_true rfl⟩) (va_S.rf (A := fun _ => False) (H0 := s.heap)) (fun q _ e => e) (fun q e => e) (fun q _ e => e) (fun E ce q9 u t9 H1 locs ht hvm _ hE hz1 hk1 hS hce hcv hcl => gg_out htab hlk hE hS hce hcv hcl (Nat.le_of_ble_eq_true rfl) (Nat.le_of_ble_eq_true rfl)) (fun _ t9 H1 locs _ _ h9 => h9.elim)

set_option maxHeartbeats 4000000 in
theorem xm_X1_bestPoise_IAE (l : Launch) (hl0 : l.stackTraces = false) (g : GT) (T x b : Nat) (S : BS) (F : Nat → Prop) (hok : OKS T S) (v : Int32) (h : ¬ (1 ≤ v ∧ v ≤ 240)) : vx_Met l yX1_bestPoise (ws_ yX1_bestPoise cX1_bestPoise 7 (Option.some Jvm.ClassFile.FieldType.int)) ({ frames := 8, cells := 1, slots := 6, locals := 131 } : Room) (PcG g [.ref x, .int v] (fun H => XB g F x b S H)) xQi (xX xIAE) 1 6 (fun _ => False) := by
  refine gg_xmet (cc := cX1_bestPoise) (maxL := 7) (ret := (Option.some Jvm.ClassFile.FieldType.int)) (by decide) (Nat.le_of_ble_eq_true rfl) ?_
  intro p e s m below meth c hx hb hr hlk hin hml hown hts htab hG hB ls hl
  have hown : s.vm.findClass RX1 = some m.cls := hown
  have hl : lv_has ls 7 [(0, .ref x), (1, .int v)] := hl
  obtain ⟨h_x, ⟨cd, al, el, cap, mc, arr, ad, hX⟩, hFx⟩ := hB
  have hn40 : sN S ≤ 40 := hok.2.2.2.2.2.2.2.1
  refine lv_iconst (v := 1) hx hb dX1_bestPoise_0 (by decide) ?_
  refine lv_sipush (v := 240) hx hb dX1_bestPoise_1 (by decide) ?_
  refine lv_iload_n hx hb dX1_bestPoise_4 rfl (lv_at hl 1 rfl) ?_
  exact vx_callv (vx_runS (As := [.int 1, .int 240, .int v]) (rest := []) ⟨hx, hb, hml, hown, hts⟩ (xm_X1_requireFrom_IAE l hl0 g 1 240 v h) (va_cwS 3 hts (lw_S q267 q268 q14 q269) rfl rfl rfl (by decide +kernel) ⟨Nat.le_of_ble_eq_true rfl, Nat.le_of_ble_eq_true rfl⟩) (gg_preS hG (Kp.rf hG) trivial) rfl rfl hl.1 rfl (lv_room (Nat.le_of_ble_eq_true rfl)) dX1_bestPoise_5 ⟨Nat.le_of_ble_eq_true rfl, Nat.le_of_ble_eq_true rfl⟩) (va_S.rf (A := fun _ => False) (H0 := s.heap)) (fun q _ e => e) (fun q e => e) (fun q _ e => e) (fun E ce q9 u t9 H1 locs ht hvm _ hE hz1 hk1 hS hce hcv hcl => gg_out htab hlk hE hS hce hcv hcl (Nat.le_of_ble_eq_true rfl) (Nat.le_of_ble_eq_true rfl)) (fun _ t9 H1 locs _ _ h9 => h9.elim)
