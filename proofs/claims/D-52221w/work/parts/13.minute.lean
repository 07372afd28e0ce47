/-! A MINUTE: travellers go, one is served, the bridge passes a minute. -/
set_option maxRecDepth 100000

set_option maxHeartbeats 4000000 in
theorem met_X6_pass (l : Launch) (g : GT) (a : Nat) (t : TT) : Met l yX6_pass (ws_ yX6_pass cX6_pass 1 none) ({ frames := 0, cells := 0, slots := 0, locals := 0 } : Room) (PcG g [.ref a] (fun H => va_at (gD g) bbCl (a, tvE g t) H ∧ gA g a)) (va_Qv (fun _ : Unit => True) (fun _ u => va_at (gD g) bbCl (a, tvE g (tPass t)) u.heap) (fun q => q = a)) 0 0 (fun q => q = a) := by
  refine gg_met (cc := cX6_pass) (maxL := 1) (ret := none) (by decide) (Nat.le_of_ble_eq_true rfl) ?_
  intro p e s m below meth c hx hb hr hlk hin hml hown hts hG hB ls hl
  have hown : s.vm.findClass RX6 = some m.cls := hown
  have hl : lv_has ls 1 [(0, .ref a)] := hl
  have hAN : ∀ q, q = a → gA g q := fun q e => by rw [e]; exact hB.2
  have hS : va_S (fun q => q = a) s.heap s.heap [] := va_S.rf
  have h_a := hB.1
  refine lv_aload_n hx hb dX6_pass_0 rfl (lv_at hl 0 rfl) ?_
  refine gg_getS hx hb hts hown hG (hS.kp hG hAN) 1 (by decide) rfl q607 dX6_pass_1 ?_
  refine gg_put (ci := 2) (v := .ref (gS g 1)) (C := RX6) (T := TX6) (N := 7) hx hb hts in_X6 tyX6 tyX6_ok nmX6 hown hG h_a hS rfl rfl 3 (by decide) q369 rfl rfl rfl rfl (Nat.le_of_ble_eq_true rfl) dX6_pass_4 (fun H locs h_a hbut hS => ?_)
  have h_a : va_at (gD g) bbCl (a, .inr (2, [.int (tBa t), .int (tMi t), .int (tCa t), .ref (gS g 1), .int (tWa t), .int (tLe t), .int (tPa t)])) H := h_a
  refine lv_aload_n hx hb dX6_pass_7 rfl (lv_at hl 0 rfl) ?_
  refine lv_aload_n hx hb dX6_pass_8 rfl (lv_at hl 0 rfl) ?_
  refine gg_get (ci := 2) (C := RX6) (T := TX6) (N := 7) (v := .int (tMi t)) hx hb hts in_X6 hown hG h_a rfl 1 (by decide) q365 rfl rfl dX6_pass_9 ?_
  refine gg_put (ci := 2) (v := .int (tMi t)) (C := RX6) (T := TX6) (N := 7) hx hb hts in_X6 tyX6 tyX6_ok nmX6 hown hG h_a hS rfl rfl 5 (by decide) q374 rfl rfl rfl rfl (Nat.le_of_ble_eq_true rfl) dX6_pass_12 (fun H locs h_a hbut hS => ?_)
  have h_a : va_at (gD g) bbCl (a, .inr (2, [.int (tBa t), .int (tMi t), .int (tCa t), .ref (gS g 1), .int (tWa t), .int (tMi t), .int (tPa t)])) H := h_a
  exact W.vret hx hb hr (fun t9 h9 hW9 => ⟨⟨(), rfl, trivial, by dsimp only; rw [h9]; exact h_a⟩, hS.F h9⟩) hS.2.2 dX6_pass_15

set_option maxHeartbeats 4000000 in
theorem met_X6_go (l : Launch) (g : GT) (a : Nat) (t : TT) (mi : Int32) (ht : tSt t < 4) : Met l yX6_go (ws_ yX6_go cX6_go 2 none) ({ frames := 1, cells := 0, slots := 0, locals := 21 } : Room) (PcG g [.ref a, .int mi] (fun H => va_at (gD g) bbCl (a, tvE g t) H ∧ gA g a)) (va_Qv (fun _ : Unit => True) (fun _ u => va_at (gD g) bbCl (a, tvE g (tGo mi t)) u.heap) (fun q => q = a)) 0 0 (fun q => q = a) := by
  refine gg_met (cc := cX6_go) (maxL := 2) (ret := none) (by decide) (Nat.le_of_ble_eq_true rfl) ?_
  intro p e s m below meth c hx hb hr hlk hin hml hown hts hG hB ls hl
  have hown : s.vm.findClass RX6 = some m.cls := hown
  have hl : lv_has ls 2 [(0, .ref a), (1, .int mi)] := hl
  have hAN : ∀ q, q = a → gA g q := fun q e => by rw [e]; exact hB.2
  have hS : va_S (fun q => q = a) s.heap s.heap [] := va_S.rf
  have h_a := hB.1
  refine lv_aload_n hx hb dX6_go_0 rfl (lv_at hl 0 rfl) ?_
  refine gg_getS hx hb hts hown hG (hS.kp hG hAN) 0 (by decide) rfl q361 dX6_go_1 ?_
  refine vp_callSi (va_Run.run (va_runV (As := [.ref (gS g 0)]) (rest := []) ⟨hx, hb, hml, hown, hts⟩ (met_X6_is l g a t 0 ht (by decide)) (cwV 1 hts (lw_V q613 q194 q195 q28 q196) rfl rfl rfl (by decide +kernel) ⟨Nat.le_of_ble_eq_true rfl, Nat.le_of_ble_eq_true rfl⟩) (gg_preV hG (hS.kp hG hAN) (gg_recv hG h_a rfl) h_a) rfl rfl hl.1 rfl (lv_room (Nat.le_of_ble_eq_true rfl)) dX6_go_4 ⟨Nat.le_of_ble_eq_true rfl, Nat.le_of_ble_eq_true rfl⟩)) (fun r_1 hr_1 => ?_)
  refine lv_if_eq (tgt := 20) hx hb dX6_go_7 (by decide) (fun c_7 => ?_) (fun c_7 => ?_)
  · refine lv_aload_n hx hb dX6_go_20 rfl (lv_at hl 0 rfl) ?_
    refine gg_getS hx hb hts hown hG (hS.kp hG hAN) 1 (by decide) rfl q607 dX6_go_21 ?_
    refine vp_callSi (va_Run.run (va_runV (As := [.ref (gS g 1)]) (rest := []) ⟨hx, hb, hml, hown, hts⟩ (met_X6_is l g a t 1 ht (by decide)) (cwV 1 hts (lw_V q613 q194 q195 q28 q196) rfl rfl rfl (by decide +kernel) ⟨Nat.le_of_ble_eq_true rfl, Nat.le_of_ble_eq_true rfl⟩) (gg_preV hG (hS.kp hG hAN) (gg_recv hG h_a rfl) h_a) rfl rfl hl.1 rfl (lv_room (Nat.le_of_ble_eq_true rfl)) dX6_go_24 ⟨Nat.le_of_ble_eq_true rfl, Nat.le_of_ble_eq_true rfl⟩)) (fun r_2 hr_2 => ?_)
    refine lv_if_ne (tgt := 31) hx hb dX6_go_27 (by decide) (fun c_27 => ?_) (fun c_27 => ?_)
    · refine lv_aload_n hx hb dX6_go_31 rfl (lv_at hl 0 rfl) ?_
      refine lv_dup hx hb dX6_go_32 rfl ?_
      refine gg_get (ci := 2) (C := RX6) (T := TX6) (N := 7) (v := .int (tLe t)) hx hb hts in_X6 hown hG h_a rfl 5 (by decide) q374 rfl rfl dX6_go_33 ?_
      refine lv_iconst (v := 1) hx hb dX6_go_36 (by decide) ?_
      refine lv_isub hx hb dX6_go_37 ?_
      refine gg_put (ci := 2) (v := .int (tLe t - 1)) (C := RX6) (T := TX6) (N := 7) hx hb hts in_X6 tyX6 tyX6_ok nmX6 hown hG h_a hS rfl rfl 5 (by decide) q374 rfl rfl rfl rfl (Nat.le_of_ble_eq_true rfl) dX6_go_38 (fun H locs h_a hbut hS => ?_)
      have h_a : va_at (gD g) bbCl (a, .inr (2, [.int (tBa t), .int (tMi t), .int (tCa t), .ref (gS g (tSt t)), .int (tWa t), .int (tLe t - 1), .int (tPa t)])) H := h_a
      refine lv_aload_n hx hb dX6_go_41 rfl (lv_at hl 0 rfl) ?_
      refine gg_get (ci := 2) (C := RX6) (T := TX6) (N := 7) (v := .int (tLe t - 1)) hx hb hts in_X6 hown hG h_a rfl 5 (by decide) q374 rfl rfl dX6_go_42 ?_
      refine lv_if_le (tgt := 49) hx hb dX6_go_45 (by decide) (fun c_45 => ?_) (fun c_45 => ?_)
      · refine lv_aload_n hx hb dX6_go_49 rfl (lv_at hl 0 rfl) ?_
        refine gg_getS hx hb hts hown hG (hS.kp hG hAN) 2 (by decide) rfl q614 dX6_go_50 ?_
        refine gg_put (ci := 2) (v := .ref (gS g 2)) (C := RX6) (T := TX6) (N := 7) hx hb hts in_X6 tyX6 tyX6_ok nmX6 hown hG h_a hS rfl rfl 3 (by decide) q369 rfl rfl rfl rfl (Nat.le_of_ble_eq_true rfl) dX6_go_53 (fun H locs h_a hbut hS => ?_)
        have h_a : va_at (gD g) bbCl (a, .inr (2, [.int (tBa t), .int (tMi t), .int (tCa t), .ref (gS g 2), .int (tWa t), .int (tLe t - 1), .int (tPa t)])) H := h_a
        refine lv_aload_n hx hb dX6_go_56 rfl (lv_at hl 0 rfl) ?_
        refine lv_iload_n hx hb dX6_go_57 rfl (lv_at hl 1 rfl) ?_
        refine gg_put (ci := 2) (v := .int mi) (C := RX6) (T := TX6) (N := 7) hx hb hts in_X6 tyX6 tyX6_ok nmX6 hown hG h_a hS rfl rfl 6 (by decide) q376 rfl rfl rfl rfl (Nat.le_of_ble_eq_true rfl) dX6_go_58 (fun H locs h_a hbut hS => ?_)
        have h_a : va_at (gD g) bbCl (a, .inr (2, [.int (tBa t), .int (tMi t), .int (tCa t), .ref (gS g 2), .int (tWa t), .int (tLe t - 1), .int mi])) H := h_a
        exact W.vret hx hb hr (fun t9 h9 hW9 => ⟨⟨(), rfl, trivial, by dsimp only; rw [h9]; exact (by rw [tGo, if_neg (b01_f hr_1 c_7), if_pos (b01_t hr_2 c_27), if_pos c_45]; exact h_a)⟩, hS.F h9⟩) hS.2.2 dX6_go_61
      · exact W.vret hx hb hr (fun t9 h9 hW9 => ⟨⟨(), rfl, trivial, by dsimp only; rw [h9]; exact (by rw [tGo, if_neg (b01_f hr_1 c_7), if_pos (b01_t hr_2 c_27), if_neg c_45]; exact h_a)⟩, hS.F h9⟩) hS.2.2 dX6_go_48
    · exact W.vret hx hb hr (fun t9 h9 hW9 => ⟨⟨(), rfl, trivial, by dsimp only; rw [h9]; exact (by rw [tGo, if_neg (b01_f hr_1 c_7), if_neg (b01_f hr_2 c_27)]; exact h_a)⟩, hS.F h9⟩) hS.2.2 dX6_go_30
  · refine lv_aload_n hx hb dX6_go_10 rfl (lv_at hl 0 rfl) ?_
    refine lv_dup hx hb dX6_go_11 rfl ?_
    refine gg_get (ci := 2) (C := RX6) (T := TX6) (N := 7) (v := .int (tWa t)) hx hb hts in_X6 hown hG h_a rfl 4 (by decide) q371 rfl rfl dX6_go_12 ?_
    refine lv_iconst (v := 1) hx hb dX6_go_15 (by decide) ?_
    refine lv_iadd hx hb dX6_go_16 ?_
    refine gg_put (ci := 2) (v := .int (tWa t + 1)) (C := RX6) (T := TX6) (N := 7) hx hb hts in_X6 tyX6 tyX6_ok nmX6 hown hG h_a hS rfl rfl 4 (by decide) q371 rfl rfl rfl rfl (Nat.le_of_ble_eq_true rfl) dX6_go_17 (fun H locs h_a hbut hS => ?_)
    have h_a : va_at (gD g) bbCl (a, .inr (2, [.int (tBa t), .int (tMi t), .int (tCa t), .ref (gS g (tSt t)), .int (tWa t + 1), .int (tLe t), .int (tPa t)])) H := h_a
    refine lv_aload_n hx hb dX6_go_20 rfl (lv_at hl 0 rfl) ?_
    refine gg_getS hx hb hts hown hG (hS.kp hG hAN) 1 (by decide) rfl q607 dX6_go_21 ?_
    refine vp_callSi (va_Run.run (va_runV (As := [.ref (gS g 1)]) (rest := []) ⟨hx, hb, hml, hown, hts⟩ (met_X6_is l g a (tBa t, tMi t, tCa t, tSt t, tWa t + 1, tLe t, tPa t) 1 ht (by decide)) (cwV 1 hts (lw_V q613 q194 q195 q28 q196) rfl rfl rfl (by decide +kernel) ⟨Nat.le_of_ble_eq_true rfl, Nat.le_of_ble_eq_true rfl⟩) (gg_preV hG (hS.kp hG hAN) (gg_recv hG h_a rfl) h_a) rfl rfl hl.1 rfl (lv_room (Nat.le_of_ble_eq_true rfl)) dX6_go_24 ⟨Nat.le_of_ble_eq_true rfl, Nat.le_of_ble_eq_true rfl⟩)) (fun r_2 hr_2 => ?_)
    refine lv_if_ne (tgt := 31) hx hb dX6_go_27 (by decide) (fun c_27 => absurd (by rw [hr_2]; exact if_neg (by have := b01_t hr_1 c_7; show ¬ tSt t = 1; omega)) c_27) (fun c_27 => ?_)
    exact W.vret hx hb hr (fun t9 h9 hW9 => ⟨⟨(), rfl, trivial, by dsimp only; rw [h9]; exact (by rw [tGo, if_pos (b01_t hr_1 c_7)]; exact h_a)⟩, hS.F h9⟩) hS.2.2 dX6_go_30

set_option maxHeartbeats 4000000 in
theorem met_X2_serve (l : Launch) (g : GT) (T b : Nat) (S : BS) (F : Nat → Prop) (cd al el cap : Nat) (mc : Int32) (arr : Nat → Option Nat) (ad : Nat → Nat) (k : Nat) (hk : k < sN S) (hok : OKS T S) : Met l yX2_serve (ws_ yX2_serve cX2_serve 2 none) ({ frames := 2, cells := 0, slots := 0, locals := 43 } : Room) (PcG g [.ref b, .ref (ad k)] (fun H => BX g F b cd al el cap mc arr ad S H)) (va_Qv (fun _ : Unit => True) (fun _ u => BX g F b cd al el cap mc arr ad (bServe S k) u.heap) F) 0 0 (F) := by
  refine gg_met (cc := cX2_serve) (maxL := 2) (ret := none) (by decide) (Nat.le_of_ble_eq_true rfl) ?_
  intro p e s m below meth c hx hb hr hlk hin hml hown hts hG hB ls hl
  have hown : s.vm.findClass RX2 = some m.cls := hown
  have hl : lv_has ls 2 [(0, .ref b), (1, .ref (ad k))] := hl
  have hAN : ∀ q, F q → gA g q := hB.2.2.2.2.2.2.2.2.1
  have hS : va_S F s.heap s.heap [] := va_S.rf
  have hX := hB
  have hFb : F b := hX.2.2.2.2.2.2.2.1.1
  have hFk : F (ad k) := hX.2.2.2.2.2.2.2.1.2.2.2.2 k hk
  have hba := (hok.2.2.2.2.2.2.2.2.1 k hk).1
  refine lv_aload_n hx hb dX2_serve_0 rfl (lv_at hl 0 rfl) ?_
  refine gg_get (ci := 1) (C := RX2) (T := TX2) (N := 8) (v := .int (sAn S)) hx hb hts in_X2 hown hG hX.1 rfl 1 (by decide) q84 rfl rfl dX2_serve_1 ?_
  refine lv_aload_n hx hb dX2_serve_4 rfl (lv_at hl 1 rfl) ?_
  refine vp_callSi (va_Run.run (va_runV (As := []) (rest := [.int (sAn S)]) ⟨hx, hb, hml, hown, hts⟩ (met_X6_angle l g (ad k) (sTv S k)) (cwV 0 hts (lw_V q599 q600 q601 q28 q602) rfl rfl rfl (by decide +kernel) ⟨Nat.le_of_ble_eq_true rfl, Nat.le_of_ble_eq_true rfl⟩) (gg_preV hG (hS.kp hG hAN) (gg_recv hG (hX.2.2.2.2.1 k hk).2 rfl) (hX.2.2.2.2.1 k hk).2) rfl rfl hl.1 rfl (lv_room (Nat.le_of_ble_eq_true rfl)) dX2_serve_5 ⟨Nat.le_of_ble_eq_true rfl, Nat.le_of_ble_eq_true rfl⟩)) (fun r_a hr_a => ?_)
  refine lv_icmp_ne (tgt := 26) hx hb dX2_serve_8 (by decide) (fun c_8 => ?_) (fun c_8 => ?_)
  · refine lv_aload_n hx hb dX2_serve_26 rfl (lv_at hl 1 rfl) ?_
    refine gg_get (ci := 2) (C := RX6) (T := TX6) (N := 7) (v := .int (tBa (sTv S k))) hx hb hts in_X6 hown hG (hX.2.2.2.2.1 k hk).2 rfl 0 (by decide) q363 rfl rfl dX2_serve_27 ?_
    refine lv_if_eq (tgt := 55) hx hb dX2_serve_30 (by decide) (fun c_30 => ?_) (fun c_30 => ?_)
    · refine lv_aload_n hx hb dX2_serve_55 rfl (lv_at hl 0 rfl) ?_
      refine lv_iconst (v := 0) hx hb dX2_serve_56 (by decide) ?_
      refine lv_aload_n hx hb dX2_serve_57 rfl (lv_at hl 0 rfl) ?_
      refine gg_get (ci := 1) (C := RX2) (T := TX2) (N := 8) (v := .int (sAn S)) hx hb hts in_X2 hown hG hX.1 rfl 1 (by decide) q84 rfl rfl dX2_serve_58 ?_
      refine lv_aload_n hx hb dX2_serve_61 rfl (lv_at hl 0 rfl) ?_
      refine lv_iconst (v := 0) hx hb dX2_serve_62 (by decide) ?_
      refine vp_callSi (va_Run.run (va_runV (As := [.int 0]) (rest := [.int (sAn S), .int 0, .ref b]) ⟨hx, hb, hml, hown, hts⟩ (met_X2_speed l g T b S 0) (cwV 1 hts (lw_V q608 q131 q132 q15 q133) rfl rfl rfl (by decide +kernel) ⟨Nat.le_of_ble_eq_true rfl, Nat.le_of_ble_eq_true rfl⟩) (gg_preV hG (hS.kp hG hAN) (gg_recv hG hX.1 rfl) (hX.rb hok)) rfl rfl hl.1 rfl (lv_room (Nat.le_of_ble_eq_true rfl)) dX2_serve_63 ⟨Nat.le_of_ble_eq_true rfl, Nat.le_of_ble_eq_true rfl⟩)) (fun r_s hr_s => ?_)
      refine lv_isub hx hb dX2_serve_66 ?_
      refine va_mmax hx hb (by rw [hml]; exact hl.1.symm) hown (hts _ q134) (hts _ q124) (hts _ q31) (hts _ q125) (Nat.le_of_ble_eq_true rfl) (Nat.le_of_ble_eq_true rfl) (Nat.zero_le _) (Nat.zero_le _) dX2_serve_67 ?_
      refine gg_put (ci := 1) (v := .int (if 0 < (sAn S - r_s) then (sAn S - r_s) else 0)) (C := RX2) (T := TX2) (N := 8) hx hb hts in_X2 tyX2 tyX2_ok nmX2 hown hG hX.1 hS hFb rfl 1 (by decide) q84 rfl rfl rfl rfl (Nat.le_of_ble_eq_true rfl) dX2_serve_70 (fun H locs h_b hbut hS => ?_)
      have h_b : va_at (gD g) bbCl (b, .inr (1, [.int (sMi S), .int (if 0 < (sAn S - r_s) then (sAn S - r_s) else 0), .int (sPo S), .int (sIc S), .ref (gC g (sCo S)), .int (sLa S), .ref cd, .ref al])) H := h_b
      exact W.vret hx hb hr (fun t9 h9 hW9 => ⟨⟨(), rfl, trivial, by dsimp only; rw [h9]; exact (by rw [bServe, if_neg (by rw [← hr_a]; exact c_8), if_pos c_30, ← hr_s]; exact hX.putB (S1 := sAng S _) hbut h_b rfl)⟩, hS.F h9⟩) hS.2.2 dX2_serve_73
    · refine lv_aload_n hx hb dX2_serve_33 rfl (lv_at hl 0 rfl) ?_
      refine lv_bipush (v := 60) hx hb dX2_serve_34 (by decide) ?_
      refine lv_aload_n hx hb dX2_serve_36 rfl (lv_at hl 0 rfl) ?_
      refine gg_get (ci := 1) (C := RX2) (T := TX2) (N := 8) (v := .int (sAn S)) hx hb hts in_X2 hown hG hX.1 rfl 1 (by decide) q84 rfl rfl dX2_serve_37 ?_
      refine lv_aload_n hx hb dX2_serve_40 rfl (lv_at hl 0 rfl) ?_
      refine lv_iconst (v := 1) hx hb dX2_serve_41 (by decide) ?_
      refine vp_callSi (va_Run.run (va_runV (As := [.int 1]) (rest := [.int (sAn S), .int 60, .ref b]) ⟨hx, hb, hml, hown, hts⟩ (met_X2_speed l g T b S 1) (cwV 1 hts (lw_V q608 q131 q132 q15 q133) rfl rfl rfl (by decide +kernel) ⟨Nat.le_of_ble_eq_true rfl, Nat.le_of_ble_eq_true rfl⟩) (gg_preV hG (hS.kp hG hAN) (gg_recv hG hX.1 rfl) (hX.rb hok)) rfl rfl hl.1 rfl (lv_room (Nat.le_of_ble_eq_true rfl)) dX2_serve_42 ⟨Nat.le_of_ble_eq_true rfl, Nat.le_of_ble_eq_true rfl⟩)) (fun r_s hr_s => ?_)
      refine lv_iadd hx hb dX2_serve_45 ?_
      refine va_mmin hx hb (by rw [hml]; exact hl.1.symm) hown (hts _ q224) (hts _ q225) (hts _ q31) (hts _ q226) (Nat.le_of_ble_eq_true rfl) (Nat.le_of_ble_eq_true rfl) (Nat.zero_le _) (Nat.zero_le _) dX2_serve_46 ?_
      refine gg_put (ci := 1) (v := .int (if (sAn S + r_s) < 60 then (sAn S + r_s) else 60)) (C := RX2) (T := TX2) (N := 8) hx hb hts in_X2 tyX2 tyX2_ok nmX2 hown hG hX.1 hS hFb rfl 1 (by decide) q84 rfl rfl rfl rfl (Nat.le_of_ble_eq_true rfl) dX2_serve_49 (fun H locs h_b hbut hS => ?_)
      have h_b : va_at (gD g) bbCl (b, .inr (1, [.int (sMi S), .int (if (sAn S + r_s) < 60 then (sAn S + r_s) else 60), .int (sPo S), .int (sIc S), .ref (gC g (sCo S)), .int (sLa S), .ref cd, .ref al])) H := h_b
      refine lv_goto (tgt := 73) hx hb dX2_serve_52 (by decide) ?_
      exact W.vret hx hb hr (fun t9 h9 hW9 => ⟨⟨(), rfl, trivial, by dsimp only; rw [h9]; exact (by rw [bServe, if_neg (by rw [← hr_a]; exact c_8), if_neg c_30, ← hr_s]; exact hX.putB (S1 := sAng S _) hbut h_b rfl)⟩, hS.F h9⟩) hS.2.2 dX2_serve_73
  · refine lv_aload_n hx hb dX2_serve_11 rfl (lv_at hl 1 rfl) ?_
    refine va_callv (va_runV (As := []) (rest := []) ⟨hx, hb, hml, hown, hts⟩ (met_X6_pass l g (ad k) (sTv S k)) (cwV 0 hts (lw_V q603 q604 q605 q28 q606) rfl rfl rfl (by decide +kernel) ⟨Nat.le_of_ble_eq_true rfl, Nat.le_of_ble_eq_true rfl⟩) (gg_preV hG (hS.kp hG hAN) (gg_recv hG (hX.2.2.2.2.1 k hk).2 rfl) ⟨(hX.2.2.2.2.1 k hk).2, hAN _ hFk⟩) rfl rfl hl.1 rfl (lv_room (Nat.le_of_ble_eq_true rfl)) dX2_serve_12 ⟨Nat.le_of_ble_eq_true rfl, Nat.le_of_ble_eq_true rfl⟩) hS (fun q _ e => by rw [show q = ad k from e]; exact hFk) (fun q e => by rw [show q = ad k from e]; exact hFk) (fun u t H1 locs ht hvm _ hB1 hz1 hk1 hS => ?_)
    rw [ht] at hB1
    have hX := hX.putT hk (fun q h1 h2 => hk1 q h1 h2) hB1
    have h_t := hB1
    generalize H1 = H at hX hS h_t ⊢
    refine lv_aload_n hx hb dX2_serve_15 rfl (lv_at hl 0 rfl) ?_
    refine lv_aload_n hx hb dX2_serve_16 rfl (lv_at hl 1 rfl) ?_
    refine gg_get (ci := 2) (C := RX6) (T := TX6) (N := 7) (v := .int (tBa (sTv S k))) hx hb hts in_X6 hown hG h_t rfl 0 (by decide) q363 rfl rfl dX2_serve_17 ?_
    refine gg_put (ci := 1) (v := .int (tBa (sTv S k))) (C := RX2) (T := TX2) (N := 8) hx hb hts in_X2 tyX2 tyX2_ok nmX2 hown hG hX.1 hS hFb rfl 5 (by decide) q93 rfl rfl (bool_n hba) (bool_f hba) (Nat.le_of_ble_eq_true rfl) dX2_serve_20 (fun H locs h_b hbut hS => ?_)
    have h_b : va_at (gD g) bbCl (b, .inr (1, [.int (sMi S), .int (sAn S), .int (sPo S), .int (sIc S), .ref (gC g (sCo S)), .int (tBa (sTv S k)), .ref cd, .ref al])) H := h_b
    refine lv_goto (tgt := 73) hx hb dX2_serve_23 (by decide) ?_
    exact W.vret hx hb hr (fun t9 h9 hW9 => ⟨⟨(), rfl, trivial, by dsimp only; rw [h9]; exact (by rw [bServe, if_pos (c_8.trans hr_a)]; exact hX.putB (S1 := ((sMi S, sAn S, sPo S, sIc S, sCo S, tBa (sTv S k)), sCd S, sN S, va_up (sTv S) k (tPass (sTv S k)))) hbut h_b rfl)⟩, hS.F h9⟩) hS.2.2 dX2_serve_73
