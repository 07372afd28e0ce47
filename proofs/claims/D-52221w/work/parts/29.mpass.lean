/-! THE MODEL STATE, on. -/
set_option maxRecDepth 100000
set_option maxHeartbeats 4000000 in
theorem met_X5_pass_2 (l : Launch) (g : GT) (T s0 a0 : Nat) (M B : Nat → Nat) (th : Int32) (S : BS) (hok : OKS T S) (hi : Inj5 B) (hd : Apart B M) (hN : ∀ i, i < 5 → gA g (B i)) (hT30 : T < 2 ^ 30) : Met l yX5_pass_2 (ws_ yX5_pass_2 cX5_pass_2 3 none) ({ frames := 3, cells := 0, slots := 0, locals := 65 } : Room) (PcG g [.ref (B 0)] (fun H => MO g M s0 a0 th S H ∧ SP g B (M 0) S H)) (va_Qv (fun _ : Unit => True) (fun _ u => SP g B (M 0) (bStep S) u.heap) (In5 B)) 0 0 (In5 B) := by
  refine gg_met (cc := cX5_pass_2) (maxL := 3) (ret := none) (by decide) (Nat.le_of_ble_eq_true rfl) ?_
  intro p e s m below meth c hx hb hr hlk hin hml hown hts hG hB ls hl
  have hown : s.vm.findClass RX5 = some m.cls := hown
  have hl : lv_has ls 3 [(0, .ref (B 0))] := hl
  obtain ⟨hMO, hSP⟩ := hB
  obtain ⟨fb, fn, fc, h_m, h_ib, h_nd, h_ca, h_cd, hOR⟩ := hMO
  obtain ⟨fi, fw, fl, fh, ⟨h_st, h_ai, h_aw, h_al, h_ah⟩, hAR, hZ⟩ := hSP
  have nB := hi.ne
  have nM := hd.symm
  have hAN : ∀ q, In5 B q → gA g q := fun q ⟨i, h1, h2⟩ => by rw [h2]; exact hN i h1
  have hS : va_S (In5 B) s.heap s.heap [] := va_S.rf
  have hn40 : sN S ≤ 40 := hok.2.2.2.2.2.2.2.1
  refine lv_aload_n hx hb dX5_pass_2_0 rfl (lv_at hl 0 rfl) ?_
  refine vp_callSi (va_Run.run (va_runV (As := []) (rest := []) ⟨hx, hb, hml, hown, hts⟩ (met_X5_next l g T (M 0) (B 0) S) (cwV 0 hts (lw_V q809 q810 q811 q22 q812) rfl rfl rfl (by decide +kernel) ⟨Nat.le_of_ble_eq_true rfl, Nat.le_of_ble_eq_true rfl⟩) (gg_preV hG (hS.kp hG hAN) (gg_recv hG h_st rfl) (RM.of ⟨fb, fn, fc, h_m, h_ib, h_nd, h_ca, h_cd, hOR⟩ ⟨fi, fw, fl, fh, ⟨h_st, h_ai, h_aw, h_al, h_ah⟩, hAR, hZ⟩ hok)) rfl rfl hl.1 rfl (lv_room (Nat.le_of_ble_eq_true rfl)) dX5_pass_2_1 ⟨Nat.le_of_ble_eq_true rfl, Nat.le_of_ble_eq_true rfl⟩)) (fun r_1 hr_1 => ?_)
  refine lv_istore_n (lv' := [(1, .int r_1), (0, .ref (B 0))]) hx hb dX5_pass_2_4 rfl hl (by decide) rfl (fun ls hl => ?_)
  refine lv_iload_n hx hb dX5_pass_2_5 rfl (lv_at hl 0 rfl) ?_
  refine lv_iconst (v := (-1)) hx hb dX5_pass_2_6 (by decide) ?_
  have rest : ∀ (S1 : BS), bServed S = S1 → ∀ (H : Heap) (locs : List Loc), va_at (gD g) bbCl (M 0, moE th (sN S) (M 1) (M 2) (M 3) (M 4) s0 a0) H → va_at (gD g) bbCl (M 1, inA g 40 fb) H → va_at (gD g) bbCl (M 2, inA g 40 fn) H → va_at (gD g) bbCl (M 3, inA g 40 fc) H → va_at (gD g) bbCl (M 4, inA g 8 (sCd S)) H → SP g B (M 0) S1 H → va_S (In5 B) s.heap H locs → ∀ ls : Array Slot, lv_has ls 3 [(0, .ref (B 0))] → W p l e ({ frames := 3, cells := 0, slots := 0, locals := 65 } : Room) s m ([.ref (B 0)] : List Value).toArray below meth c H locs 0 0 (MQ below (va_Qv (fun _ : Unit => True) (fun _ u => SP g B (M 0) (bStep S) u.heap) (In5 B)) ([.ref (B 0)] : List Value).toArray s 0 0 (In5 B)) (F0 m 15 ls []) := by
    clear h_st h_ai h_aw h_al h_ah hAR hZ h_m h_ib h_nd h_ca h_cd hS
    intro S1 hS1 H locs h_m h_ib h_nd h_ca h_cd hQ hS ls hl
    have hok1 : OKS T S1 := by rw [← hS1]; exact OKS_served hok
    have hn401 : sN S1 ≤ 40 := hok1.2.2.2.2.2.2.2.1
    have eN : sN S1 = sN S := by rw [← hS1]; exact (own_step S).1
    have eC : sCd S1 = sCd S := by rw [← hS1]; exact (own_step S).2.1
    rw [← eN] at h_m
    rw [← eC] at h_cd
    obtain ⟨mi, hmi1, hmi2⟩ := hok1.1
    obtain ⟨fi, fw, fl, fh, ⟨h_st, h_ai, h_aw, h_al, h_ah⟩, hAR, hZ⟩ := hQ
    have tail : ∀ (fi fw fl fh : Nat → Int32), JR S1 fi fw fl fh 0 → ZE (sN S1) fi fw fl → ∀ (H : Heap) (locs : List Loc), va_at (gD g) bbCl (M 0, moE th (sN S1) (M 1) (M 2) (M 3) (M 4) s0 a0) H → va_at (gD g) bbCl (M 1, inA g 40 fb) H → va_at (gD g) bbCl (M 2, inA g 40 fn) H → va_at (gD g) bbCl (M 3, inA g 40 fc) H → va_at (gD g) bbCl (M 4, inA g 8 (sCd S1)) H → va_at (gD g) bbCl (B 0, .inr (5, [.int (sMi S1), .int (sAn S1), .int (sPo S1), .int (sIc S1), .int (nI (sCo S1)), .int (bPassing (bGo S1)), .int (sLa S1), .ref (B 1), .ref (B 2), .ref (B 3), .ref (B 4), .ref (M 0)])) H → va_at (gD g) bbCl (B 1, inA g 40 fi) H → va_at (gD g) bbCl (B 2, inA g 40 fw) H → va_at (gD g) bbCl (B 3, inA g 40 fl) H → va_at (gD g) bbCl (B 4, inA g 40 fh) H → va_S (In5 B) s.heap H locs → ∀ ls : Array Slot, lv_has ls 3 [(0, .ref (B 0))] → W p l e ({ frames := 3, cells := 0, slots := 0, locals := 65 } : Room) s m ([.ref (B 0)] : List Value).toArray below meth c H locs 0 0 (MQ below (va_Qv (fun _ : Unit => True) (fun _ u => SP g B (M 0) (bStep S) u.heap) (In5 B)) ([.ref (B 0)] : List Value).toArray s 0 0 (In5 B)) (F0 m 76 ls []) := by
      clear h_st h_ai h_aw h_al h_ah hAR hZ h_m h_ib h_nd h_ca h_cd hS
      intro fi fw fl fh hJ hZ H locs h_m h_ib h_nd h_ca h_cd h_st h_ai h_aw h_al h_ah hS ls hl
      refine lv_iconst (v := 0) hx hb dX5_pass_2_76 (by decide) ?_
      refine lv_istore_n (lv' := [(2, .int 0), (0, .ref (B 0))]) hx hb dX5_pass_2_77 rfl hl (by decide) rfl (fun ls hl => ?_)
      have loop : ∀ (d k : Nat) (fw : Nat → Int32), k ≤ sN S1 → sN S1 + 1 ≤ k + d → JR S1 fi fw fl fh k → ZE (sN S1) fi fw fl → ∀ (H : Heap) (locs : List Loc), va_at (gD g) bbCl (M 0, moE th (sN S1) (M 1) (M 2) (M 3) (M 4) s0 a0) H → va_at (gD g) bbCl (M 1, inA g 40 fb) H → va_at (gD g) bbCl (M 2, inA g 40 fn) H → va_at (gD g) bbCl (M 3, inA g 40 fc) H → va_at (gD g) bbCl (M 4, inA g 8 (sCd S1)) H → va_at (gD g) bbCl (B 0, .inr (5, [.int (sMi S1), .int (sAn S1), .int (sPo S1), .int (sIc S1), .int (nI (sCo S1)), .int (bPassing (bGo S1)), .int (sLa S1), .ref (B 1), .ref (B 2), .ref (B 3), .ref (B 4), .ref (M 0)])) H → va_at (gD g) bbCl (B 1, inA g 40 fi) H → va_at (gD g) bbCl (B 2, inA g 40 fw) H → va_at (gD g) bbCl (B 3, inA g 40 fl) H → va_at (gD g) bbCl (B 4, inA g 40 fh) H → va_S (In5 B) s.heap H locs → ∀ ls : Array Slot, lv_has ls 3 [(2, .int (nI k)), (0, .ref (B 0))] → W p l e ({ frames := 3, cells := 0, slots := 0, locals := 65 } : Room) s m ([.ref (B 0)] : List Value).toArray below meth c H locs 0 0 (MQ below (va_Qv (fun _ : Unit => True) (fun _ u => SP g B (M 0) (bStep S) u.heap) (In5 B)) ([.ref (B 0)] : List Value).toArray s 0 0 (In5 B)) (F0 m 78 ls []) := by
        clear h_st h_ai h_aw h_al h_ah hJ hZ h_m h_ib h_nd h_ca h_cd hS
        intro d
        induction d with
        | zero => intro k fw h1 h2; exact absurd h2 (by omega)
        | succ d ih =>
          intro k fw hkn hkd hJ hZ H locs h_m h_ib h_nd h_ca h_cd h_st h_ai h_aw h_al h_ah hS ls hl
          refine lv_iload_n hx hb dX5_pass_2_78 rfl (lv_at hl 0 rfl) ?_
          refine lv_aload_n hx hb dX5_pass_2_79 rfl (lv_at hl 1 rfl) ?_
          refine gg_get (ci := 5) (C := RX5) (T := TX5) (N := 12) (v := .ref (M 0)) hx hb hts in_X5 hown hG h_st rfl 11 (by decide) q690 rfl rfl dX5_pass_2_80 ?_
          refine gg_getN (ci := 4) (C := RX4) (T := TX4) (N := 8) (v := .int (nI (sN S1))) hx hb hts in_X4 hown hG h_m rfl 1 (by decide) q718 rfl rfl dX5_pass_2_83 ?_
          refine lv_icmp_ge (tgt := 118) hx hb dX5_pass_2_86 (by decide) (fun c_86 => ?_) (fun c_86 => ?_)
          · have hk : k = sN S1 := by rcases Nat.lt_or_ge k (sN S1) with q | q; exact absurd c_86 (nI_ge q (by omega)); omega
            rw [hk] at hJ
            have hA1 := JR_end hJ
            refine lv_aload_n hx hb dX5_pass_2_118 rfl (lv_at hl 1 rfl) ?_
            refine gg_get (ci := 5) (C := RX5) (T := TX5) (N := 12) (v := .int (sMi S1)) hx hb hts in_X5 hown hG h_st rfl 0 (by decide) q670 rfl rfl dX5_pass_2_119 ?_
            refine lv_bipush (v := 60) hx hb dX5_pass_2_122 (by decide) ?_
            refine lv_irem hx hb dX5_pass_2_124 (by decide) ?_
            refine lv_if_ne (tgt := 164) hx hb dX5_pass_2_125 (by decide) (fun c_125 => ?_) (fun c_125 => ?_)
            · refine lv_aload_n hx hb dX5_pass_2_164 rfl (lv_at hl 1 rfl) ?_
              refine lv_dup hx hb dX5_pass_2_165 rfl ?_
              refine gg_get (ci := 5) (C := RX5) (T := TX5) (N := 12) (v := .int (sMi S1)) hx hb hts in_X5 hown hG h_st rfl 0 (by decide) q670 rfl rfl dX5_pass_2_166 ?_
              refine lv_iconst (v := 1) hx hb dX5_pass_2_169 (by decide) ?_
              refine lv_iadd hx hb dX5_pass_2_170 ?_
              refine gg_put (ci := 5) (v := .int (sMi S1 + 1)) (C := RX5) (T := TX5) (N := 12) hx hb hts in_X5 tyX5 tyX5_ok nmX5 hown hG h_st hS (⟨0, by decide, rfl⟩) rfl 0 (by decide) q670 rfl rfl rfl rfl (Nat.le_of_ble_eq_true rfl) dX5_pass_2_171 (fun H locs h_st hbut hS => ?_)
              have h_st : va_at (gD g) bbCl ((B 0), .inr (5, [.int (sMi S1 + 1), .int (sAn S1), .int (sPo S1), .int (sIc S1), .int (nI (sCo S1)), .int (bPassing (bGo S1)), .int (sLa S1), .ref (B 1), .ref (B 2), .ref (B 3), .ref (B 4), .ref (M 0)])) H := h_st
              have h_m := h_m.but hbut (nM 0 0 (by decide) (by decide))
              have h_ib := h_ib.but hbut (nM 1 0 (by decide) (by decide))
              have h_nd := h_nd.but hbut (nM 2 0 (by decide) (by decide))
              have h_ca := h_ca.but hbut (nM 3 0 (by decide) (by decide))
              have h_cd := h_cd.but hbut (nM 4 0 (by decide) (by decide))
              have h_ai := h_ai.but hbut (nB 1 0 (by decide) (by decide) (by decide))
              have h_aw := h_aw.but hbut (nB 2 0 (by decide) (by decide) (by decide))
              have h_al := h_al.but hbut (nB 3 0 (by decide) (by decide) (by decide))
              have h_ah := h_ah.but hbut (nB 4 0 (by decide) (by decide) (by decide))
              exact W.vret hx hb hr (fun t9 h9 hW9 => ⟨⟨(), rfl, trivial, by dsimp only; rw [h9]; exact (by rw [bStep, hS1]; exact ⟨fi, fw, fl, fh, ⟨by (have e : bIce (bGo S1) = sIc S1 := if_neg c_125; show va_at (gD g) bbCl (B 0, .inr (5, [_, _, _, .int (bIce (bGo S1)), _, .int (bPassing (bGo S1)), _, _, _, _, _, _])) _; rw [e]; exact h_st), h_ai, h_aw, h_al, h_ah⟩, hA1, hZ⟩)⟩, hS.F h9⟩) hS.2.2 dX5_pass_2_174
            · have hcl : (sMi S1 / 60 - sMi S1 / 60 / 8 * 8).toNatClampNeg = mi / 60 % 8 := by rw [hmi2, mi_cold (by omega)]; exact nI_clamp (by omega)
              refine lv_aload_n hx hb dX5_pass_2_128 rfl (lv_at hl 1 rfl) ?_
              refine lv_iconst (v := 0) hx hb dX5_pass_2_129 (by decide) ?_
              refine lv_bipush (v := 9) hx hb dX5_pass_2_130 (by decide) ?_
              refine lv_aload_n hx hb dX5_pass_2_132 rfl (lv_at hl 1 rfl) ?_
              refine gg_get (ci := 5) (C := RX5) (T := TX5) (N := 12) (v := .int (sIc S1)) hx hb hts in_X5 hown hG h_st rfl 3 (by decide) q676 rfl rfl dX5_pass_2_133 ?_
              refine lv_aload_n hx hb dX5_pass_2_136 rfl (lv_at hl 1 rfl) ?_
              refine gg_get (ci := 5) (C := RX5) (T := TX5) (N := 12) (v := .ref (M 0)) hx hb hts in_X5 hown hG h_st rfl 11 (by decide) q690 rfl rfl dX5_pass_2_137 ?_
              refine gg_getN (ci := 4) (C := RX4) (T := TX4) (N := 8) (v := .ref (M 4)) hx hb hts in_X4 hown hG h_m rfl 5 (by decide) q725 rfl rfl dX5_pass_2_140 ?_
              refine lv_aload_n hx hb dX5_pass_2_143 rfl (lv_at hl 1 rfl) ?_
              refine gg_get (ci := 5) (C := RX5) (T := TX5) (N := 12) (v := .int (sMi S1)) hx hb hts in_X5 hown hG h_st rfl 0 (by decide) q670 rfl rfl dX5_pass_2_144 ?_
              refine lv_bipush (v := 60) hx hb dX5_pass_2_147 (by decide) ?_
              refine lv_idiv hx hb dX5_pass_2_149 (by decide) ?_
              refine lv_bipush (v := 8) hx hb dX5_pass_2_150 (by decide) ?_
              refine lv_irem hx hb dX5_pass_2_152 (by decide) ?_
              refine gg_iald hx hb hG h_cd (mi / 60 % 8) (Nat.mod_lt _ (by decide)) (by decide) (by rw [hmi2]; exact mi_cold (by omega)) dX5_pass_2_153 ?_
              refine lv_iadd hx hb dX5_pass_2_154 ?_
              refine va_mmin hx hb (by rw [hml]; exact hl.1.symm) hown (hts _ q844) (hts _ q225) (hts _ q31) (hts _ q226) (Nat.le_of_ble_eq_true rfl) (Nat.le_of_ble_eq_true rfl) (Nat.zero_le _) (Nat.zero_le _) dX5_pass_2_155 ?_
              refine va_mmax hx hb (by rw [hml]; exact hl.1.symm) hown (hts _ q825) (hts _ q124) (hts _ q31) (hts _ q125) (Nat.le_of_ble_eq_true rfl) (Nat.le_of_ble_eq_true rfl) (Nat.zero_le _) (Nat.zero_le _) dX5_pass_2_158 ?_
              refine gg_put (ci := 5) (v := .int (if 0 < (if (sIc S1 + ((sCd S1) (mi / 60 % 8))) < 9 then (sIc S1 + ((sCd S1) (mi / 60 % 8))) else 9) then (if (sIc S1 + ((sCd S1) (mi / 60 % 8))) < 9 then (sIc S1 + ((sCd S1) (mi / 60 % 8))) else 9) else 0)) (C := RX5) (T := TX5) (N := 12) hx hb hts in_X5 tyX5 tyX5_ok nmX5 hown hG h_st hS (⟨0, by decide, rfl⟩) rfl 3 (by decide) q676 rfl rfl rfl rfl (Nat.le_of_ble_eq_true rfl) dX5_pass_2_161 (fun H locs h_st hbut hS => ?_)
              have h_st : va_at (gD g) bbCl ((B 0), .inr (5, [.int (sMi S1), .int (sAn S1), .int (sPo S1), .int (if 0 < (if (sIc S1 + ((sCd S1) (mi / 60 % 8))) < 9 then (sIc S1 + ((sCd S1) (mi / 60 % 8))) else 9) then (if (sIc S1 + ((sCd S1) (mi / 60 % 8))) < 9 then (sIc S1 + ((sCd S1) (mi / 60 % 8))) else 9) else 0), .int (nI (sCo S1)), .int (bPassing (bGo S1)), .int (sLa S1), .ref (B 1), .ref (B 2), .ref (B 3), .ref (B 4), .ref (M 0)])) H := h_st
              have h_m := h_m.but hbut (nM 0 0 (by decide) (by decide))
              have h_ib := h_ib.but hbut (nM 1 0 (by decide) (by decide))
              have h_nd := h_nd.but hbut (nM 2 0 (by decide) (by decide))
              have h_ca := h_ca.but hbut (nM 3 0 (by decide) (by decide))
              have h_cd := h_cd.but hbut (nM 4 0 (by decide) (by decide))
              have h_ai := h_ai.but hbut (nB 1 0 (by decide) (by decide) (by decide))
              have h_aw := h_aw.but hbut (nB 2 0 (by decide) (by decide) (by decide))
              have h_al := h_al.but hbut (nB 3 0 (by decide) (by decide) (by decide))
              have h_ah := h_ah.but hbut (nB 4 0 (by decide) (by decide) (by decide))
              refine lv_aload_n hx hb dX5_pass_2_164 rfl (lv_at hl 1 rfl) ?_
              refine lv_dup hx hb dX5_pass_2_165 rfl ?_
              refine gg_get (ci := 5) (C := RX5) (T := TX5) (N := 12) (v := .int (sMi S1)) hx hb hts in_X5 hown hG h_st rfl 0 (by decide) q670 rfl rfl dX5_pass_2_166 ?_
              refine lv_iconst (v := 1) hx hb dX5_pass_2_169 (by decide) ?_
              refine lv_iadd hx hb dX5_pass_2_170 ?_
              refine gg_put (ci := 5) (v := .int (sMi S1 + 1)) (C := RX5) (T := TX5) (N := 12) hx hb hts in_X5 tyX5 tyX5_ok nmX5 hown hG h_st hS (⟨0, by decide, rfl⟩) rfl 0 (by decide) q670 rfl rfl rfl rfl (Nat.le_of_ble_eq_true rfl) dX5_pass_2_171 (fun H locs h_st hbut hS => ?_)
              have h_st : va_at (gD g) bbCl ((B 0), .inr (5, [.int (sMi S1 + 1), .int (sAn S1), .int (sPo S1), .int (if 0 < (if (sIc S1 + ((sCd S1) (mi / 60 % 8))) < 9 then (sIc S1 + ((sCd S1) (mi / 60 % 8))) else 9) then (if (sIc S1 + ((sCd S1) (mi / 60 % 8))) < 9 then (sIc S1 + ((sCd S1) (mi / 60 % 8))) else 9) else 0), .int (nI (sCo S1)), .int (bPassing (bGo S1)), .int (sLa S1), .ref (B 1), .ref (B 2), .ref (B 3), .ref (B 4), .ref (M 0)])) H := h_st
              have h_m := h_m.but hbut (nM 0 0 (by decide) (by decide))
              have h_ib := h_ib.but hbut (nM 1 0 (by decide) (by decide))
              have h_nd := h_nd.but hbut (nM 2 0 (by decide) (by decide))
              have h_ca := h_ca.but hbut (nM 3 0 (by decide) (by decide))
              have h_cd := h_cd.but hbut (nM 4 0 (by decide) (by decide))
              have h_ai := h_ai.but hbut (nB 1 0 (by decide) (by decide) (by decide))
              have h_aw := h_aw.but hbut (nB 2 0 (by decide) (by decide) (by decide))
              have h_al := h_al.but hbut (nB 3 0 (by decide) (by decide) (by decide))
              have h_ah := h_ah.but hbut (nB 4 0 (by decide) (by decide) (by decide))
              exact W.vret hx hb hr (fun t9 h9 hW9 => ⟨⟨(), rfl, trivial, by dsimp only; rw [h9]; exact (by rw [bStep, hS1]; exact ⟨fi, fw, fl, fh, ⟨by (have e := bIce_pos (S := bGo S1) c_125 hcl; show va_at (gD g) bbCl (B 0, .inr (5, [_, _, _, .int (bIce (bGo S1)), _, .int (bPassing (bGo S1)), _, _, _, _, _, _])) _; rw [e]; exact h_st), h_ai, h_aw, h_al, h_ah⟩, hA1, hZ⟩)⟩, hS.F h9⟩) hS.2.2 dX5_pass_2_174
          · have hk : k < sN S1 := by rcases Nat.lt_or_ge k (sN S1) with q | q; exact q; exact absurd (nI_le q (by omega)) c_86
            refine lv_aload_n hx hb dX5_pass_2_89 rfl (lv_at hl 1 rfl) ?_
            refine gg_get (ci := 5) (C := RX5) (T := TX5) (N := 12) (v := .ref (B 2)) hx hb hts in_X5 hown hG h_st rfl 8 (by decide) q684 rfl rfl dX5_pass_2_90 ?_
            refine lv_iload_n hx hb dX5_pass_2_93 rfl (lv_at hl 0 rfl) ?_
            refine lv_dup2_11 hx hb dX5_pass_2_94 rfl rfl ?_
            refine gg_iald hx hb hG h_aw k (show k < 40 by omega) (by decide) rfl dX5_pass_2_95 ?_
            refine lv_aload_n hx hb dX5_pass_2_96 rfl (lv_at hl 1 rfl) ?_
            refine gg_get (ci := 5) (C := RX5) (T := TX5) (N := 12) (v := .ref (B 1)) hx hb hts in_X5 hown hG h_st rfl 7 (by decide) q682 rfl rfl dX5_pass_2_97 ?_
            refine lv_iload_n hx hb dX5_pass_2_100 rfl (lv_at hl 0 rfl) ?_
            refine gg_iald hx hb hG h_ai k (show k < 40 by omega) (by decide) rfl dX5_pass_2_101 ?_
            refine lv_if_ne (tgt := 109) hx hb dX5_pass_2_102 (by decide) (fun c_102 => ?_) (fun c_102 => ?_)
            · refine lv_iconst (v := 0) hx hb dX5_pass_2_109 (by decide) ?_
              refine lv_iadd hx hb dX5_pass_2_110 ?_
              refine gg_iast hx hb hG h_aw hS (⟨2, by decide, rfl⟩) k (show k < 40 by omega) (by decide) rfl dX5_pass_2_111 (fun H locs h_aw hbut hS => ?_)
              have h_aw : va_at (gD g) bbCl ((B 2), .inl (gI g, 40, .inl (upd fw k ((fw k) + 0)))) H := h_aw
              have h_m := h_m.but hbut (nM 0 2 (by decide) (by decide))
              have h_ib := h_ib.but hbut (nM 1 2 (by decide) (by decide))
              have h_nd := h_nd.but hbut (nM 2 2 (by decide) (by decide))
              have h_ca := h_ca.but hbut (nM 3 2 (by decide) (by decide))
              have h_cd := h_cd.but hbut (nM 4 2 (by decide) (by decide))
              have h_st := h_st.but hbut (nB 0 2 (by decide) (by decide) (by decide))
              have h_ai := h_ai.but hbut (nB 1 2 (by decide) (by decide) (by decide))
              have h_al := h_al.but hbut (nB 3 2 (by decide) (by decide) (by decide))
              have h_ah := h_ah.but hbut (nB 4 2 (by decide) (by decide) (by decide))
              refine lv_iinc (v := nI (k + 1)) (lv' := [(2, .int (nI (k + 1))), (0, .ref (B 0))]) hx hb dX5_pass_2_112 hl (k := 0) rfl (nI_1 k) (by decide) rfl (fun ls hl => ?_)
              refine lv_goto (tgt := 78) hx hb dX5_pass_2_115 (by decide) ?_
              exact ih (k + 1) _ (by omega) (by omega) (JR_st hJ hk (hok1.2.2.2.2.2.2.2.2.1 k hk).2.2.1 (by rw [if_neg c_102])) (hZ.w hk _) _ _ h_m h_ib h_nd h_ca h_cd h_st h_ai h_aw h_al h_ah hS ls (lv_sub hl [0, 1] rfl)
            · refine lv_iconst (v := 1) hx hb dX5_pass_2_105 (by decide) ?_
              refine lv_goto (tgt := 110) hx hb dX5_pass_2_106 (by decide) ?_
              refine lv_iadd hx hb dX5_pass_2_110 ?_
              refine gg_iast hx hb hG h_aw hS (⟨2, by decide, rfl⟩) k (show k < 40 by omega) (by decide) rfl dX5_pass_2_111 (fun H locs h_aw hbut hS => ?_)
              have h_aw : va_at (gD g) bbCl ((B 2), .inl (gI g, 40, .inl (upd fw k ((fw k) + 1)))) H := h_aw
              have h_m := h_m.but hbut (nM 0 2 (by decide) (by decide))
              have h_ib := h_ib.but hbut (nM 1 2 (by decide) (by decide))
              have h_nd := h_nd.but hbut (nM 2 2 (by decide) (by decide))
              have h_ca := h_ca.but hbut (nM 3 2 (by decide) (by decide))
              have h_cd := h_cd.but hbut (nM 4 2 (by decide) (by decide))
              have h_st := h_st.but hbut (nB 0 2 (by decide) (by decide) (by decide))
              have h_ai := h_ai.but hbut (nB 1 2 (by decide) (by decide) (by decide))
              have h_al := h_al.but hbut (nB 3 2 (by decide) (by decide) (by decide))
              have h_ah := h_ah.but hbut (nB 4 2 (by decide) (by decide) (by decide))
              refine lv_iinc (v := nI (k + 1)) (lv' := [(2, .int (nI (k + 1))), (0, .ref (B 0))]) hx hb dX5_pass_2_112 hl (k := 0) rfl (nI_1 k) (by decide) rfl (fun ls hl => ?_)
              refine lv_goto (tgt := 78) hx hb dX5_pass_2_115 (by decide) ?_
              exact ih (k + 1) _ (by omega) (by omega) (JR_st hJ hk (hok1.2.2.2.2.2.2.2.2.1 k hk).2.2.1 (by rw [if_pos c_102])) (hZ.w hk _) _ _ h_m h_ib h_nd h_ca h_cd h_st h_ai h_aw h_al h_ah hS ls (lv_sub hl [0, 1] rfl)
      exact loop (sN S1 + 1) 0 fw (Nat.zero_le _) (by omega) hJ hZ _ _ h_m h_ib h_nd h_ca h_cd h_st h_ai h_aw h_al h_ah hS ls (lv_sub hl [0, 1] rfl)
    refine lv_aload_n hx hb dX5_pass_2_15 rfl (lv_at hl 0 rfl) ?_
    refine gg_get (ci := 5) (C := RX5) (T := TX5) (N := 12) (v := .int (bPassing S1)) hx hb hts in_X5 hown hG h_st rfl 5 (by decide) q680 rfl rfl dX5_pass_2_16 ?_
    refine lv_iconst (v := (-1)) hx hb dX5_pass_2_19 (by decide) ?_
    refine lv_icmp_eq (tgt := 76) hx hb dX5_pass_2_20 (by decide) (fun c_20 => ?_) (fun c_20 => ?_)
    · have hno := bPassing_none c_20 hn401
      have h_st : va_at (gD g) bbCl ((B 0), .inr (5, [.int (sMi S1), .int (sAn S1), .int (sPo S1), .int (sIc S1), .int (nI (sCo S1)), .int (bPassing S1), .int (sLa S1), .ref (B 1), .ref (B 2), .ref (B 3), .ref (B 4), .ref (M 0)])) H := h_st
      rw [show bPassing S1 = bPassing (bGo S1) by rw [bPassing_go0 hno]; exact c_20] at h_st
      exact tail fi fw fl fh (JR_none hAR hno) hZ _ _ h_m h_ib h_nd h_ca h_cd h_st h_ai h_aw h_al h_ah hS ls (lv_sub hl [0] rfl)
    · obtain ⟨k, hk, hpk, hk1⟩ : ∃ k, k < sN S1 ∧ bPassing S1 = nI k ∧ tSt (sTv S1 k) = 1 := (bPassing_or S1).resolve_left c_20
      have hu : ∀ j, j < sN S1 → tSt (sTv S1 j) = 1 → j = k := fun j hj e => hok1.2.2.2.2.2.2.2.2.2 j k hj hk e hk1
      have h_st : va_at (gD g) bbCl ((B 0), .inr (5, [.int (sMi S1), .int (sAn S1), .int (sPo S1), .int (sIc S1), .int (nI (sCo S1)), .int (bPassing S1), .int (sLa S1), .ref (B 1), .ref (B 2), .ref (B 3), .ref (B 4), .ref (M 0)])) H := h_st
      rw [hpk] at h_st
      have hle := le_0 (hok1.2.2.2.2.2.2.2.2.1 k hk) hk1
      have e_l : fl k = tLe (sTv S1 k) := (hAR k hk).2.2.1
      refine lv_aload_n hx hb dX5_pass_2_23 rfl (lv_at hl 0 rfl) ?_
      refine gg_get (ci := 5) (C := RX5) (T := TX5) (N := 12) (v := .ref (B 3)) hx hb hts in_X5 hown hG h_st rfl 9 (by decide) q686 rfl rfl dX5_pass_2_24 ?_
      refine lv_aload_n hx hb dX5_pass_2_27 rfl (lv_at hl 0 rfl) ?_
      refine gg_get (ci := 5) (C := RX5) (T := TX5) (N := 12) (v := .int (nI k)) hx hb hts in_X5 hown hG h_st rfl 5 (by decide) q680 rfl rfl dX5_pass_2_28 ?_
      refine lv_dup2_11 hx hb dX5_pass_2_31 rfl rfl ?_
      refine gg_iald hx hb hG h_al k (show k < 40 by omega) (by decide) rfl dX5_pass_2_32 ?_
      refine lv_iconst (v := 1) hx hb dX5_pass_2_33 (by decide) ?_
      refine lv_isub hx hb dX5_pass_2_34 ?_
      refine gg_iast hx hb hG h_al hS (⟨3, by decide, rfl⟩) k (show k < 40 by omega) (by decide) rfl dX5_pass_2_35 (fun H locs h_al hbut hS => ?_)
      have h_al : va_at (gD g) bbCl ((B 3), .inl (gI g, 40, .inl (upd fl k ((fl k) - 1)))) H := h_al
      have h_m := h_m.but hbut (nM 0 3 (by decide) (by decide))
      have h_ib := h_ib.but hbut (nM 1 3 (by decide) (by decide))
      have h_nd := h_nd.but hbut (nM 2 3 (by decide) (by decide))
      have h_ca := h_ca.but hbut (nM 3 3 (by decide) (by decide))
      have h_cd := h_cd.but hbut (nM 4 3 (by decide) (by decide))
      have h_st := h_st.but hbut (nB 0 3 (by decide) (by decide) (by decide))
      have h_ai := h_ai.but hbut (nB 1 3 (by decide) (by decide) (by decide))
      have h_aw := h_aw.but hbut (nB 2 3 (by decide) (by decide) (by decide))
      have h_ah := h_ah.but hbut (nB 4 3 (by decide) (by decide) (by decide))
      refine lv_aload_n hx hb dX5_pass_2_36 rfl (lv_at hl 0 rfl) ?_
      refine gg_get (ci := 5) (C := RX5) (T := TX5) (N := 12) (v := .ref (B 3)) hx hb hts in_X5 hown hG h_st rfl 9 (by decide) q686 rfl rfl dX5_pass_2_37 ?_
      refine lv_aload_n hx hb dX5_pass_2_40 rfl (lv_at hl 0 rfl) ?_
      refine gg_get (ci := 5) (C := RX5) (T := TX5) (N := 12) (v := .int (nI k)) hx hb hts in_X5 hown hG h_st rfl 5 (by decide) q680 rfl rfl dX5_pass_2_41 ?_
      refine gg_iald hx hb hG h_al k (show k < 40 by omega) (by decide) rfl dX5_pass_2_44 ?_
      refine lv_if_ne (tgt := 76) hx hb dX5_pass_2_45 (by decide) (fun c_45 => ?_) (fun c_45 => ?_)
      · have hnl : ¬ tLe (sTv S1 k) - 1 ≤ 0 := fun e => c_45 (by rw [upd_at, e_l]; exact hle.mp e)
        rw [← bPassing_on hn401 hk hk1 hu hnl] at h_st
        exact tail _ _ _ _ (JR_on hAR hk1 hu hnl) (hZ.l hk _) _ _ h_m h_ib h_nd h_ca h_cd h_st h_ai h_aw h_al h_ah hS ls (lv_sub hl [0] rfl)
      · refine lv_aload_n hx hb dX5_pass_2_48 rfl (lv_at hl 0 rfl) ?_
        refine gg_get (ci := 5) (C := RX5) (T := TX5) (N := 12) (v := .ref (B 1)) hx hb hts in_X5 hown hG h_st rfl 7 (by decide) q682 rfl rfl dX5_pass_2_49 ?_
        refine lv_aload_n hx hb dX5_pass_2_52 rfl (lv_at hl 0 rfl) ?_
        refine gg_get (ci := 5) (C := RX5) (T := TX5) (N := 12) (v := .int (nI k)) hx hb hts in_X5 hown hG h_st rfl 5 (by decide) q680 rfl rfl dX5_pass_2_53 ?_
        refine lv_iconst (v := 2) hx hb dX5_pass_2_56 (by decide) ?_
        refine gg_iast hx hb hG h_ai hS (⟨1, by decide, rfl⟩) k (show k < 40 by omega) (by decide) rfl dX5_pass_2_57 (fun H locs h_ai hbut hS => ?_)
        have h_ai : va_at (gD g) bbCl ((B 1), .inl (gI g, 40, .inl (upd fi k 2))) H := h_ai
        have h_m := h_m.but hbut (nM 0 1 (by decide) (by decide))
        have h_ib := h_ib.but hbut (nM 1 1 (by decide) (by decide))
        have h_nd := h_nd.but hbut (nM 2 1 (by decide) (by decide))
        have h_ca := h_ca.but hbut (nM 3 1 (by decide) (by decide))
        have h_cd := h_cd.but hbut (nM 4 1 (by decide) (by decide))
        have h_st := h_st.but hbut (nB 0 1 (by decide) (by decide) (by decide))
        have h_aw := h_aw.but hbut (nB 2 1 (by decide) (by decide) (by decide))
        have h_al := h_al.but hbut (nB 3 1 (by decide) (by decide) (by decide))
        have h_ah := h_ah.but hbut (nB 4 1 (by decide) (by decide) (by decide))
        refine lv_aload_n hx hb dX5_pass_2_58 rfl (lv_at hl 0 rfl) ?_
        refine gg_get (ci := 5) (C := RX5) (T := TX5) (N := 12) (v := .ref (B 4)) hx hb hts in_X5 hown hG h_st rfl 10 (by decide) q688 rfl rfl dX5_pass_2_59 ?_
        refine lv_aload_n hx hb dX5_pass_2_62 rfl (lv_at hl 0 rfl) ?_
        refine gg_get (ci := 5) (C := RX5) (T := TX5) (N := 12) (v := .int (nI k)) hx hb hts in_X5 hown hG h_st rfl 5 (by decide) q680 rfl rfl dX5_pass_2_63 ?_
        refine lv_aload_n hx hb dX5_pass_2_66 rfl (lv_at hl 0 rfl) ?_
        refine gg_get (ci := 5) (C := RX5) (T := TX5) (N := 12) (v := .int (sMi S1)) hx hb hts in_X5 hown hG h_st rfl 0 (by decide) q670 rfl rfl dX5_pass_2_67 ?_
        refine gg_iast hx hb hG h_ah hS (⟨4, by decide, rfl⟩) k (show k < 40 by omega) (by decide) rfl dX5_pass_2_70 (fun H locs h_ah hbut hS => ?_)
        have h_ah : va_at (gD g) bbCl ((B 4), .inl (gI g, 40, .inl (upd fh k (sMi S1)))) H := h_ah
        have h_m := h_m.but hbut (nM 0 4 (by decide) (by decide))
        have h_ib := h_ib.but hbut (nM 1 4 (by decide) (by decide))
        have h_nd := h_nd.but hbut (nM 2 4 (by decide) (by decide))
        have h_ca := h_ca.but hbut (nM 3 4 (by decide) (by decide))
        have h_cd := h_cd.but hbut (nM 4 4 (by decide) (by decide))
        have h_st := h_st.but hbut (nB 0 4 (by decide) (by decide) (by decide))
        have h_ai := h_ai.but hbut (nB 1 4 (by decide) (by decide) (by decide))
        have h_aw := h_aw.but hbut (nB 2 4 (by decide) (by decide) (by decide))
        have h_al := h_al.but hbut (nB 3 4 (by decide) (by decide) (by decide))
        refine lv_aload_n hx hb dX5_pass_2_71 rfl (lv_at hl 0 rfl) ?_
        refine lv_iconst (v := (-1)) hx hb dX5_pass_2_72 (by decide) ?_
        refine gg_put (ci := 5) (v := .int (-1)) (C := RX5) (T := TX5) (N := 12) hx hb hts in_X5 tyX5 tyX5_ok nmX5 hown hG h_st hS (⟨0, by decide, rfl⟩) rfl 5 (by decide) q680 rfl rfl rfl rfl (Nat.le_of_ble_eq_true rfl) dX5_pass_2_73 (fun H locs h_st hbut hS => ?_)
        have h_st : va_at (gD g) bbCl ((B 0), .inr (5, [.int (sMi S1), .int (sAn S1), .int (sPo S1), .int (sIc S1), .int (nI (sCo S1)), .int (-1), .int (sLa S1), .ref (B 1), .ref (B 2), .ref (B 3), .ref (B 4), .ref (M 0)])) H := h_st
        have h_m := h_m.but hbut (nM 0 0 (by decide) (by decide))
        have h_ib := h_ib.but hbut (nM 1 0 (by decide) (by decide))
        have h_nd := h_nd.but hbut (nM 2 0 (by decide) (by decide))
        have h_ca := h_ca.but hbut (nM 3 0 (by decide) (by decide))
        have h_cd := h_cd.but hbut (nM 4 0 (by decide) (by decide))
        have h_ai := h_ai.but hbut (nB 1 0 (by decide) (by decide) (by decide))
        have h_aw := h_aw.but hbut (nB 2 0 (by decide) (by decide) (by decide))
        have h_al := h_al.but hbut (nB 3 0 (by decide) (by decide) (by decide))
        have h_ah := h_ah.but hbut (nB 4 0 (by decide) (by decide) (by decide))
        have hnl : tLe (sTv S1 k) - 1 ≤ 0 := hle.mpr (by rw [← e_l]; rw [upd_at] at c_45; exact c_45)
        rw [← bPassing_out hk1 hu hnl] at h_st
        exact tail _ _ _ _ (JR_out hAR hk1 hu hnl) ((hZ.i hk _).l hk _) _ _ h_m h_ib h_nd h_ca h_cd h_st h_ai h_aw h_al h_ah hS ls (lv_sub hl [0] rfl)
  refine lv_icmp_eq (tgt := 15) hx hb dX5_pass_2_7 (by decide) (fun c_7 => ?_) (fun c_7 => ?_)
  · exact rest S (by rw [bServed, if_pos (hr_1.symm.trans c_7)]) _ _ h_m h_ib h_nd h_ca h_cd ⟨fi, fw, fl, fh, ⟨h_st, h_ai, h_aw, h_al, h_ah⟩, hAR, hZ⟩ hS ls (lv_sub hl [1] rfl)
  · obtain ⟨k, hk, hnk, hw0, hno⟩ : ∃ k, k < sN S ∧ bNext S = nI k ∧ tSt (sTv S k) = 0 ∧ ∀ j, j < sN S → tSt (sTv S j) ≠ 1 := by
      rcases bNext_or hn40 with h1 | h1
      · exact absurd (hr_1.trans h1) c_7
      · exact h1
    have hrk : r_1 = nI k := hr_1.trans hnk
    subst hrk
    refine lv_aload_n hx hb dX5_pass_2_10 rfl (lv_at hl 1 rfl) ?_
    refine lv_iload_n hx hb dX5_pass_2_11 rfl (lv_at hl 0 rfl) ?_
    refine va_callv (va_runV (As := [.int (nI k)]) (rest := []) ⟨hx, hb, hml, hown, hts⟩ (met_X5_serve l g T s0 a0 M B th S hok hi hd hN k hk hno) (cwV 1 hts (lw_V q839 q841 qs10 q22 q842) rfl rfl rfl (by decide +kernel) ⟨Nat.le_of_ble_eq_true rfl, Nat.le_of_ble_eq_true rfl⟩) (gg_preV hG (hS.kp hG hAN) (gg_recv hG h_st rfl) ⟨⟨fb, fn, fc, h_m, h_ib, h_nd, h_ca, h_cd, hOR⟩, fi, fw, fl, fh, ⟨h_st, h_ai, h_aw, h_al, h_ah⟩, hAR, hZ⟩) rfl rfl hl.1 rfl (lv_room (Nat.le_of_ble_eq_true rfl)) dX5_pass_2_12 ⟨Nat.le_of_ble_eq_true rfl, Nat.le_of_ble_eq_true rfl⟩) hS (fun q _ e => e) (fun q e => e) (fun u t H1 locs ht hvm _ hQ hz1 hk1 hS => ?_)
    rw [ht] at hQ
    have h_m := h_m.kept (hk1 _ h_m.lt (hd.symm.out (show 0 < 5 by decide)))
    have h_ib := h_ib.kept (hk1 _ h_ib.lt (hd.symm.out (show 1 < 5 by decide)))
    have h_nd := h_nd.kept (hk1 _ h_nd.lt (hd.symm.out (show 2 < 5 by decide)))
    have h_ca := h_ca.kept (hk1 _ h_ca.lt (hd.symm.out (show 3 < 5 by decide)))
    have h_cd := h_cd.kept (hk1 _ h_cd.lt (hd.symm.out (show 4 < 5 by decide)))
    generalize H1 = H at hQ h_m h_ib h_nd h_ca h_cd hS ⊢
    exact rest (bServe S k) (by rw [bServed, if_neg (fun e => c_7 (hr_1.trans e)), hnk, nI_clamp (by omega)]) _ _ h_m h_ib h_nd h_ca h_cd hQ hS ls (lv_sub hl [1] rfl)
