/-! THE BRIDGE PASSES A MINUTE. -/
set_option maxRecDepth 100000
theorem bIce_pos {S : BS} {j : Nat} (h : sMi S - sMi S / 60 * 60 = 0) (hj : (sMi S / 60 - sMi S / 60 / 8 * 8).toNatClampNeg = j) : bIce S = (if 0 < (if (sIc S + sCd S j) < 9 then (sIc S + sCd S j) else 9) then (if (sIc S + sCd S j) < 9 then (sIc S + sCd S j) else 9) else 0) := by
  unfold bIce
  rw [if_pos h]
  dsimp only
  rw [hj]

set_option maxHeartbeats 4000000 in
theorem met_X2_pass (l : Launch) (g : GT) (T b : Nat) (S : BS) (F : Nat → Prop) (hok : OKS T S) (hT30 : T < 2 ^ 30) : Met l yX2_pass (ws_ yX2_pass cX2_pass 3 none) ({ frames := 7, cells := 0, slots := 0, locals := 149 } : Room) (PcG g [.ref b] (fun H => BW g F b S H)) (va_Qv (fun _ : Unit => True) (fun _ u => BW g F b (bStep S) u.heap) F) 0 0 (F) := by
  refine gg_met (cc := cX2_pass) (maxL := 3) (ret := none) (by decide) (Nat.le_of_ble_eq_true rfl) ?_
  intro p e s m below meth c hx hb hr hlk hin hml hown hts hG hB ls hl
  have hown : s.vm.findClass RX2 = some m.cls := hown
  have hl : lv_has ls 3 [(0, .ref b)] := hl
  obtain ⟨cd, al, el, cap, mc, arr, ad, hX⟩ := hB
  have hAN : ∀ q, F q → gA g q := hX.2.2.2.2.2.2.2.2.1
  have hS : va_S F s.heap s.heap [] := va_S.rf
  have hn40 : sN S ≤ 40 := hok.2.2.2.2.2.2.2.1
  refine lv_aload_n hx hb dX2_pass_0 rfl (lv_at hl 0 rfl) ?_
  refine vp_callSi (va_Run.run (va_runV (As := []) (rest := []) ⟨hx, hb, hml, hown, hts⟩ (met_X2_next l g T b S) (cwV 0 hts (lw_V q594 q204 q205 q15 q206) rfl rfl rfl (by decide +kernel) ⟨Nat.le_of_ble_eq_true rfl, Nat.le_of_ble_eq_true rfl⟩) (gg_preV hG (hS.kp hG hAN) (gg_recv hG hX.1 rfl) (hX.rb hok)) rfl rfl hl.1 rfl (lv_room (Nat.le_of_ble_eq_true rfl)) dX2_pass_1 ⟨Nat.le_of_ble_eq_true rfl, Nat.le_of_ble_eq_true rfl⟩)) (fun r_1 hr_1 => ?_)
  refine lv_istore_n (lv' := [(1, .int r_1), (0, .ref b)]) hx hb dX2_pass_4 rfl hl (by decide) rfl (fun ls hl => ?_)
  refine lv_iload_n hx hb dX2_pass_5 rfl (lv_at hl 0 rfl) ?_
  refine lv_iconst (v := (-1)) hx hb dX2_pass_6 (by decide) ?_
  have rest : ∀ (S1 : BS), bServed S = S1 → ∀ (H : Heap) (locs : List Loc), BX g F b cd al el cap mc arr ad S1 H → va_S F s.heap H locs → ∀ ls : Array Slot, lv_has ls 3 [(0, .ref b)] → W p l e ({ frames := 7, cells := 0, slots := 0, locals := 149 } : Room) s m ([.ref b] : List Value).toArray below meth c H locs 0 0 (MQ below (va_Qv (fun _ : Unit => True) (fun _ u => BW g F b (bStep S) u.heap) F) ([.ref b] : List Value).toArray s 0 0 (F)) (F0 m 25 ls []) := by
    intro S1 hS1 H locs hX hS ls hl
    have hok1 : OKS T S1 := by rw [← hS1]; exact OKS_served hok
    have hn40 : sN S1 ≤ 40 := hok1.2.2.2.2.2.2.2.1
    obtain ⟨mi, hmi1, hmi2⟩ := hok1.1
    refine lv_iconst (v := 0) hx hb dX2_pass_25 (by decide) ?_
    refine lv_istore_n (lv' := [(2, .int 0), (0, .ref b)]) hx hb dX2_pass_26 rfl hl (by decide) rfl (fun ls hl => ?_)
    have loop : ∀ (d k : Nat), k ≤ sN S1 → sN S1 + 1 ≤ k + d → ∀ (H : Heap) (locs : List Loc), BX g F b cd al el cap mc arr ad (bGoK S1 k) H → va_S F s.heap H locs → ∀ ls : Array Slot, lv_has ls 3 [(2, .int (nI k)), (0, .ref b)] → W p l e ({ frames := 7, cells := 0, slots := 0, locals := 149 } : Room) s m ([.ref b] : List Value).toArray below meth c H locs 0 0 (MQ below (va_Qv (fun _ : Unit => True) (fun _ u => BW g F b (bStep S) u.heap) F) ([.ref b] : List Value).toArray s 0 0 (F)) (F0 m 27 ls []) := by
      intro d
      induction d with
      | zero => intro k h1 h2; exact absurd h2 (by omega)
      | succ d ih =>
        intro k hkn hkd H locs hX hS ls hl
        refine lv_iload_n hx hb dX2_pass_27 rfl (lv_at hl 0 rfl) ?_
        refine lv_aload_n hx hb dX2_pass_28 rfl (lv_at hl 1 rfl) ?_
        refine gg_get (ci := 1) (C := RX2) (T := TX2) (N := 8) (v := .ref al) hx hb hts in_X2 hown hG hX.1 rfl 7 (by decide) q96 rfl rfl dX2_pass_29 ?_
        refine vp_callSi (va_Run.run (va_runV (As := []) (rest := [.int (nI k)]) ⟨hx, hb, hml, hown, hts⟩ (met_J3_size l g al el (sN S1) mc) (cwV 0 hts (lw_V q147 q148 q149 q20 q150) rfl rfl rfl (by decide +kernel) ⟨Nat.le_of_ble_eq_true rfl, Nat.le_of_ble_eq_true rfl⟩) (gg_preV hG (hS.kp hG hAN) (gg_recv hG hX.2.2.1 rfl) hX.2.2.1) rfl rfl hl.1 rfl (lv_room (Nat.le_of_ble_eq_true rfl)) dX2_pass_32 ⟨Nat.le_of_ble_eq_true rfl, Nat.le_of_ble_eq_true rfl⟩)) (fun z hz => ?_)
        refine lv_icmp_ge (tgt := 62) hx hb dX2_pass_35 (by decide) (fun c_35 => ?_) (fun c_35 => ?_)
        · have hk : k = sN S1 := by rcases Nat.lt_or_ge k (sN S1) with q | q; exact absurd (by rw [← hz]; exact c_35) (nI_ge q (by omega)); omega
          have hX : BX g F b cd al el cap mc arr ad (bGo S1) H := hX.ext (fun i => tGo (sMi S1) (sTv S1 i)) (fun i hi => by show _ = (if i < k then _ else _); rw [if_pos (by rw [hk]; exact hi)])
          refine lv_aload_n hx hb dX2_pass_62 rfl (lv_at hl 1 rfl) ?_
          refine gg_get (ci := 1) (C := RX2) (T := TX2) (N := 8) (v := .int (sMi S1)) hx hb hts in_X2 hown hG hX.1 rfl 0 (by decide) q82 rfl rfl dX2_pass_63 ?_
          refine lv_bipush (v := 60) hx hb dX2_pass_66 (by decide) ?_
          refine lv_irem hx hb dX2_pass_68 (by decide) ?_
          refine lv_if_ne (tgt := 105) hx hb dX2_pass_69 (by decide) (fun c_69 => ?_) (fun c_69 => ?_)
          · refine lv_aload_n hx hb dX2_pass_105 rfl (lv_at hl 1 rfl) ?_
            refine lv_dup hx hb dX2_pass_106 rfl ?_
            refine gg_get (ci := 1) (C := RX2) (T := TX2) (N := 8) (v := .int (sMi S1)) hx hb hts in_X2 hown hG hX.1 rfl 0 (by decide) q82 rfl rfl dX2_pass_107 ?_
            refine lv_iconst (v := 1) hx hb dX2_pass_110 (by decide) ?_
            refine lv_iadd hx hb dX2_pass_111 ?_
            refine gg_put (ci := 1) (v := .int (sMi S1 + 1)) (C := RX2) (T := TX2) (N := 8) hx hb hts in_X2 tyX2 tyX2_ok nmX2 hown hG hX.1 hS hX.2.2.2.2.2.2.2.1.1 rfl 0 (by decide) q82 rfl rfl rfl rfl (Nat.le_of_ble_eq_true rfl) dX2_pass_112 (fun H locs h_b hbut hS => ?_)
            have h_b : va_at (gD g) bbCl (b, .inr (1, [.int (sMi S1 + 1), .int (sAn S1), .int (sPo S1), .int (sIc S1), .ref (gC g (sCo S1)), .int (sLa S1), .ref cd, .ref al])) H := h_b
            exact W.vret hx hb hr (fun t9 h9 hW9 => ⟨⟨(), rfl, trivial, by dsimp only; rw [h9]; exact ⟨_, _, _, _, _, _, _, (by rw [bStep, hS1]; exact hX.putB (S1 := bTick (bGo S1)) hbut (by have e : bIce (bGo S1) = sIc S1 := if_neg c_69; show va_at (gD g) bbCl (b, .inr (1, [_, _, _, .int (bIce (bGo S1)), _, _, _, _])) _; rw [e]; exact h_b) rfl)⟩⟩, hS.F h9⟩) hS.2.2 dX2_pass_115
          · have hcl : (sMi S1 / 60 - sMi S1 / 60 / 8 * 8).toNatClampNeg = mi / 60 % 8 := by rw [hmi2, mi_cold (by omega)]; exact nI_clamp (by omega)
            refine lv_aload_n hx hb dX2_pass_72 rfl (lv_at hl 1 rfl) ?_
            refine lv_iconst (v := 0) hx hb dX2_pass_73 (by decide) ?_
            refine lv_bipush (v := 9) hx hb dX2_pass_74 (by decide) ?_
            refine lv_aload_n hx hb dX2_pass_76 rfl (lv_at hl 1 rfl) ?_
            refine gg_get (ci := 1) (C := RX2) (T := TX2) (N := 8) (v := .int (sIc S1)) hx hb hts in_X2 hown hG hX.1 rfl 3 (by decide) q88 rfl rfl dX2_pass_77 ?_
            refine lv_aload_n hx hb dX2_pass_80 rfl (lv_at hl 1 rfl) ?_
            refine gg_get (ci := 1) (C := RX2) (T := TX2) (N := 8) (v := .ref cd) hx hb hts in_X2 hown hG hX.1 rfl 6 (by decide) q94 rfl rfl dX2_pass_81 ?_
            refine lv_aload_n hx hb dX2_pass_84 rfl (lv_at hl 1 rfl) ?_
            refine gg_get (ci := 1) (C := RX2) (T := TX2) (N := 8) (v := .int (sMi S1)) hx hb hts in_X2 hown hG hX.1 rfl 0 (by decide) q82 rfl rfl dX2_pass_85 ?_
            refine lv_bipush (v := 60) hx hb dX2_pass_88 (by decide) ?_
            refine lv_idiv hx hb dX2_pass_90 (by decide) ?_
            refine lv_bipush (v := 8) hx hb dX2_pass_91 (by decide) ?_
            refine lv_irem hx hb dX2_pass_93 (by decide) ?_
            refine gg_iald hx hb hG hX.2.1 (mi / 60 % 8) (Nat.mod_lt _ (by decide)) (by decide) (by rw [hmi2]; exact mi_cold (by omega)) dX2_pass_94 ?_
            refine lv_iadd hx hb dX2_pass_95 ?_
            refine va_mmin hx hb (by rw [hml]; exact hl.1.symm) hown (hts _ q224) (hts _ q225) (hts _ q31) (hts _ q226) (Nat.le_of_ble_eq_true rfl) (Nat.le_of_ble_eq_true rfl) (Nat.zero_le _) (Nat.zero_le _) dX2_pass_96 ?_
            refine va_mmax hx hb (by rw [hml]; exact hl.1.symm) hown (hts _ q134) (hts _ q124) (hts _ q31) (hts _ q125) (Nat.le_of_ble_eq_true rfl) (Nat.le_of_ble_eq_true rfl) (Nat.zero_le _) (Nat.zero_le _) dX2_pass_99 ?_
            refine gg_put (ci := 1) (v := .int (if 0 < (if (sIc S1 + ((sCd S1) (mi / 60 % 8))) < 9 then (sIc S1 + ((sCd S1) (mi / 60 % 8))) else 9) then (if (sIc S1 + ((sCd S1) (mi / 60 % 8))) < 9 then (sIc S1 + ((sCd S1) (mi / 60 % 8))) else 9) else 0)) (C := RX2) (T := TX2) (N := 8) hx hb hts in_X2 tyX2 tyX2_ok nmX2 hown hG hX.1 hS hX.2.2.2.2.2.2.2.1.1 rfl 3 (by decide) q88 rfl rfl rfl rfl (Nat.le_of_ble_eq_true rfl) dX2_pass_102 (fun H locs h_b hbut hS => ?_)
            have h_b : va_at (gD g) bbCl (b, .inr (1, [.int (sMi S1), .int (sAn S1), .int (sPo S1), .int (if 0 < (if (sIc S1 + ((sCd S1) (mi / 60 % 8))) < 9 then (sIc S1 + ((sCd S1) (mi / 60 % 8))) else 9) then (if (sIc S1 + ((sCd S1) (mi / 60 % 8))) < 9 then (sIc S1 + ((sCd S1) (mi / 60 % 8))) else 9) else 0), .ref (gC g (sCo S1)), .int (sLa S1), .ref cd, .ref al])) H := h_b
            have hX := hX.putB (S1 := ((sMi S1, sAn S1, sPo S1, (if 0 < (if (sIc S1 + ((sCd S1) (mi / 60 % 8))) < 9 then (sIc S1 + ((sCd S1) (mi / 60 % 8))) else 9) then (if (sIc S1 + ((sCd S1) (mi / 60 % 8))) < 9 then (sIc S1 + ((sCd S1) (mi / 60 % 8))) else 9) else 0), sCo S1, sLa S1), (bGo S1).2)) hbut h_b rfl
            refine lv_aload_n hx hb dX2_pass_105 rfl (lv_at hl 1 rfl) ?_
            refine lv_dup hx hb dX2_pass_106 rfl ?_
            refine gg_get (ci := 1) (C := RX2) (T := TX2) (N := 8) (v := .int (sMi S1)) hx hb hts in_X2 hown hG hX.1 rfl 0 (by decide) q82 rfl rfl dX2_pass_107 ?_
            refine lv_iconst (v := 1) hx hb dX2_pass_110 (by decide) ?_
            refine lv_iadd hx hb dX2_pass_111 ?_
            refine gg_put (ci := 1) (v := .int (sMi S1 + 1)) (C := RX2) (T := TX2) (N := 8) hx hb hts in_X2 tyX2 tyX2_ok nmX2 hown hG hX.1 hS hX.2.2.2.2.2.2.2.1.1 rfl 0 (by decide) q82 rfl rfl rfl rfl (Nat.le_of_ble_eq_true rfl) dX2_pass_112 (fun H locs h_b hbut hS => ?_)
            have h_b : va_at (gD g) bbCl (b, .inr (1, [.int (sMi S1 + 1), .int (sAn S1), .int (sPo S1), .int (if 0 < (if (sIc S1 + ((sCd S1) (mi / 60 % 8))) < 9 then (sIc S1 + ((sCd S1) (mi / 60 % 8))) else 9) then (if (sIc S1 + ((sCd S1) (mi / 60 % 8))) < 9 then (sIc S1 + ((sCd S1) (mi / 60 % 8))) else 9) else 0), .ref (gC g (sCo S1)), .int (sLa S1), .ref cd, .ref al])) H := h_b
            exact W.vret hx hb hr (fun t9 h9 hW9 => ⟨⟨(), rfl, trivial, by dsimp only; rw [h9]; exact ⟨_, _, _, _, _, _, _, (by rw [bStep, hS1]; exact hX.putB (S1 := bTick (bGo S1)) hbut (by have e := bIce_pos (S := bGo S1) c_69 hcl; show va_at (gD g) bbCl (b, .inr (1, [_, _, _, .int (bIce (bGo S1)), _, _, _, _])) _; rw [e]; exact h_b) rfl)⟩⟩, hS.F h9⟩) hS.2.2 dX2_pass_115
        · have hk : k < sN S1 := by rcases Nat.lt_or_ge k (sN S1) with q | q; exact q; exact absurd (by rw [hz]; exact nI_le q (by omega)) c_35
          refine lv_aload_n hx hb dX2_pass_38 rfl (lv_at hl 1 rfl) ?_
          refine gg_get (ci := 1) (C := RX2) (T := TX2) (N := 8) (v := .ref al) hx hb hts in_X2 hown hG hX.1 rfl 7 (by decide) q96 rfl rfl dX2_pass_39 ?_
          refine lv_iload_n hx hb dX2_pass_42 rfl (lv_at hl 0 rfl) ?_
          refine va_csr (va_Run.run (va_runV (As := [.int (nI k)]) (rest := []) ⟨hx, hb, hml, hown, hts⟩ (met_J3_get l g al el (sN (bGoK S1 k)) cap k (ad k) mc arr hk hX.2.2.2.2.2.1 (by have := hX.2.2.2.2.2.2.1; omega) (hX.2.2.2.2.1 k hk).1) (cwV 1 hts (lw_V q151 q152 q153 q20 q154) rfl rfl rfl (by decide +kernel) ⟨Nat.le_of_ble_eq_true rfl, Nat.le_of_ble_eq_true rfl⟩) (gg_preV hG (hS.kp hG hAN) (gg_recv hG hX.2.2.1 rfl) ⟨hX.2.2.1, hX.2.2.2.1 (Nat.lt_of_le_of_lt (Nat.zero_le _) hk)⟩) rfl rfl hl.1 rfl (lv_room (Nat.le_of_ble_eq_true rfl)) dX2_pass_43 ⟨Nat.le_of_ble_eq_true rfl, Nat.le_of_ble_eq_true rfl⟩)) (fun a_1 ha_1 => ?_)
          subst ha_1
          refine va_castS hx hb hown (hts _ q165) (hG.k.1 2 _ rfl).2 (gg_recv hG (hX.2.2.2.2.1 k hk).2 rfl) dX2_pass_46 ?_
          refine lv_aload_n hx hb dX2_pass_49 rfl (lv_at hl 1 rfl) ?_
          refine gg_get (ci := 1) (C := RX2) (T := TX2) (N := 8) (v := .int (sMi S1)) hx hb hts in_X2 hown hG hX.1 rfl 0 (by decide) q82 rfl rfl dX2_pass_50 ?_
          have hFk : F (ad k) := hX.2.2.2.2.2.2.2.1.2.2.2.2 k hk
          refine va_callv (va_runV (As := [.int (sMi S1)]) (rest := []) ⟨hx, hb, hml, hown, hts⟩ (met_X6_go l g (ad k) (sTv (bGoK S1 k) k) (sMi S1) ((OKS_goK k hok1).2.2.2.2.2.2.2.2.1 k hk).2.2.1) (cwV 1 hts (lw_V q609 q610 q611 q28 q612) rfl rfl rfl (by decide +kernel) ⟨Nat.le_of_ble_eq_true rfl, Nat.le_of_ble_eq_true rfl⟩) (gg_preV hG (hS.kp hG hAN) (gg_recv hG (hX.2.2.2.2.1 k hk).2 rfl) ⟨(hX.2.2.2.2.1 k hk).2, hAN _ hFk⟩) rfl rfl hl.1 rfl (lv_room (Nat.le_of_ble_eq_true rfl)) dX2_pass_53 ⟨Nat.le_of_ble_eq_true rfl, Nat.le_of_ble_eq_true rfl⟩) hS (fun q _ e => by rw [show q = ad k from e]; exact hFk) (fun q e => by rw [show q = ad k from e]; exact hFk) (fun u t H1 locs ht hvm _ hB1 hz1 hk1 hS => ?_)
          rw [ht] at hB1
          have hX := hX.putT hk (fun q h1 h2 => hk1 q h1 h2) hB1
          rw [bGoK_at] at hX
          have hX : BX g F b cd al el cap mc arr ad (bGoK S1 (k + 1)) H1 := by rw [bGoK_s]; exact hX
          generalize H1 = H at hX hS ⊢
          refine lv_iinc (v := nI (k + 1)) (lv' := [(2, .int (nI (k + 1))), (0, .ref b)]) hx hb dX2_pass_56 hl (k := 0) rfl (nI_1 k) (by decide) rfl (fun ls hl => ?_)
          refine lv_goto (tgt := 27) hx hb dX2_pass_59 (by decide) ?_
          exact ih (k + 1) (by omega) (by omega) _ _ hX hS ls (lv_sub hl [0, 1] rfl)
    exact loop (sN S1 + 1) 0 (Nat.zero_le _) (by omega) _ _ (by rw [bGoK_0]; exact hX) hS ls (lv_sub hl [0, 1] rfl)
  refine lv_icmp_eq (tgt := 25) hx hb dX2_pass_7 (by decide) (fun c_7 => ?_) (fun c_7 => ?_)
  · exact rest _ (by rw [bServed, if_pos (hr_1.symm.trans c_7)]) _ _ hX hS ls (lv_sub hl [1] rfl)
  · obtain ⟨k, hk, hnk, hw0, -⟩ : ∃ k, k < sN S ∧ bNext S = nI k ∧ tSt (sTv S k) = 0 ∧ ∀ j, j < sN S → tSt (sTv S j) ≠ 1 := by
      rcases bNext_or hn40 with h1 | h1
      · exact absurd (hr_1.trans h1) c_7
      · exact h1
    have hrk : r_1 = nI k := hr_1.trans hnk
    subst hrk
    refine lv_aload_n hx hb dX2_pass_10 rfl (lv_at hl 1 rfl) ?_
    refine lv_aload_n hx hb dX2_pass_11 rfl (lv_at hl 1 rfl) ?_
    refine gg_get (ci := 1) (C := RX2) (T := TX2) (N := 8) (v := .ref al) hx hb hts in_X2 hown hG hX.1 rfl 7 (by decide) q96 rfl rfl dX2_pass_12 ?_
    refine lv_iload_n hx hb dX2_pass_15 rfl (lv_at hl 0 rfl) ?_
    refine va_csr (va_Run.run (va_runV (As := [.int (nI k)]) (rest := [.ref b]) ⟨hx, hb, hml, hown, hts⟩ (met_J3_get l g al el (sN S) cap k (ad k) mc arr hk hX.2.2.2.2.2.1 (by have := hX.2.2.2.2.2.2.1; omega) (hX.2.2.2.2.1 k hk).1) (cwV 1 hts (lw_V q151 q152 q153 q20 q154) rfl rfl rfl (by decide +kernel) ⟨Nat.le_of_ble_eq_true rfl, Nat.le_of_ble_eq_true rfl⟩) (gg_preV hG (hS.kp hG hAN) (gg_recv hG hX.2.2.1 rfl) ⟨hX.2.2.1, hX.2.2.2.1 (Nat.lt_of_le_of_lt (Nat.zero_le _) hk)⟩) rfl rfl hl.1 rfl (lv_room (Nat.le_of_ble_eq_true rfl)) dX2_pass_16 ⟨Nat.le_of_ble_eq_true rfl, Nat.le_of_ble_eq_true rfl⟩)) (fun a_2 ha_2 => ?_)
    subst ha_2
    refine va_castS hx hb hown (hts _ q165) (hG.k.1 2 _ rfl).2 (gg_recv hG (hX.2.2.2.2.1 k hk).2 rfl) dX2_pass_19 ?_
    refine va_callv (va_runV (As := [.ref (ad k)]) (rest := []) ⟨hx, hb, hml, hown, hts⟩ (met_X2_serve l g T b S F cd al el cap mc arr ad k hk hok) (cwV 1 hts (lw_V q595 q597 qs5 q15 q598) rfl rfl rfl (by decide +kernel) ⟨Nat.le_of_ble_eq_true rfl, Nat.le_of_ble_eq_true rfl⟩) (gg_preV hG (hS.kp hG hAN) (gg_recv hG hX.1 rfl) hX) rfl rfl hl.1 rfl (lv_room (Nat.le_of_ble_eq_true rfl)) dX2_pass_22 ⟨Nat.le_of_ble_eq_true rfl, Nat.le_of_ble_eq_true rfl⟩) hS (fun q _ e => e) (fun q e => e) (fun u t H1 locs ht hvm _ hX hz1 hk1 hS => ?_)
    rw [ht] at hX
    generalize H1 = H at hX hS ⊢
    exact rest _ (by rw [bServed, if_neg (fun e => c_7 (hr_1.trans e)), hnk, nI_clamp (by omega)]) _ _ hX hS ls (lv_sub hl [1] rfl)
