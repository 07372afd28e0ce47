/-! THE COMPONENT'S DIGEST -/
set_option maxRecDepth 100000
def dgs (f : Nat → Int32) (d : Int64) : Nat → Int64
  | 0 => d
  | k + 1 => dgs f d k * 31 + (f k).toInt64
def dgT (S : BS) (d : Int64) : Nat → Int64
  | 0 => d
  | k + 1 => dgs (tTold (sTv S k)) (dgT S d k) 7
def bDig1 (S : BS) : Int64 := dgs (bCnt S) 1021 12
def bDig2 (S : BS) : Int64 := dgs (sCd S) (bDig1 S) 8
def bDig (S : BS) : Int64 := dgT S (bDig2 S) (sN S)

set_option maxHeartbeats 4000000 in
theorem met_X1_digest (l : Launch) (g : GT) (T x b : Nat) (S : BS) (F : Nat → Prop) (hok : OKS T S) : Met l yX1_digest (ws_ yX1_digest cX1_digest 7 (Option.some Jvm.ClassFile.FieldType.long)) ({ frames := 8, cells := 0, slots := 0, locals := 170 } : Room) (PcG g [.ref x] (fun H => XB g F x b S H)) (vp_Sl (fun r => r = bDig S)) 0 0 (fun _ => False) := by
  refine gg_met (cc := cX1_digest) (maxL := 7) (ret := (Option.some Jvm.ClassFile.FieldType.long)) (by decide) (Nat.le_of_ble_eq_true rfl) ?_
  intro p e s m below meth c hx hb hr hlk hin hml hown hts hG hB ls hl
  have hown : s.vm.findClass RX1 = some m.cls := hown
  have hl : lv_has ls 7 [(0, .ref x)] := hl
  have hB1 := hB
  obtain ⟨h_x, ⟨cd, al, el, cap, mc, arr, ad, hX⟩, hFx⟩ := hB
  have hn40 : sN S ≤ 40 := hok.2.2.2.2.2.2.2.1
  refine lv_ldc2 (v := 1021) hx hb hown (hts _ q171) dX1_digest_0 ?_
  refine lv_lstore_n (lv' := [(1, .long 1021), (0, .ref x)]) hx hb dX1_digest_3 rfl hl (by decide) rfl (fun ls hl => ?_)
  refine lv_iconst (v := 0) hx hb dX1_digest_4 (by decide) ?_
  refine lv_istore_n (lv' := [(3, .int 0), (1, .long 1021), (0, .ref x)]) hx hb dX1_digest_5 rfl hl (by decide) rfl (fun ls hl => ?_)
  have la : ∀ (d a : Nat), a ≤ 12 → 12 + 1 ≤ a + d → ∀ ls : Array Slot, lv_has ls 7 [(3, .int (nI a)), (1, .long (dgs (bCnt S) 1021 a)), (0, .ref x)] → W p l e ({ frames := 8, cells := 0, slots := 0, locals := 170 } : Room) s m ([.ref x] : List Value).toArray below meth c s.heap [] 0 0 (MQ below (vp_Sl (fun r => r = bDig S)) ([.ref x] : List Value).toArray s 0 0 (fun _ => False)) (F0 m 6 ls []) := by
    intro d
    induction d with
    | zero => intro a h1 h2; exact absurd h2 (by omega)
    | succ d ih_la =>
      intro a han had ls hl
      refine lv_iload_n hx hb dX1_digest_6 rfl (lv_at hl 0 rfl) ?_
      refine lv_bipush (v := 12) hx hb dX1_digest_7 (by decide) ?_
      refine lv_icmp_ge (tgt := 31) hx hb dX1_digest_9 (by decide) (fun c_9 => ?_) (fun c_9 => ?_)
      · have hal : a = 12 := by rcases Nat.lt_or_ge a (12) with q | q; exact absurd (show nI (12) ≤ nI a from c_9) (nI_ge q (by omega)); omega
        subst hal
        refine lv_aload_n hx hb dX1_digest_31 rfl (lv_at hl 2 rfl) ?_
        refine gg_get (ci := 0) (C := RX1) (T := TX1) (N := 1) (v := .ref b) hx hb hts in_X1 hown hG h_x rfl 0 (by decide) q115 rfl rfl dX1_digest_32 ?_
        refine gg_getN (ci := 1) (C := RX2) (T := TX2) (N := 8) (v := .ref cd) hx hb hts in_X2 hown hG hX.1 rfl 6 (by decide) q95 rfl rfl dX1_digest_35 ?_
        refine lv_astore_n (lv' := [(3, .ref cd), (1, .long (dgs (bCnt S) 1021 12)), (0, .ref x)]) hx hb dX1_digest_38 rfl hl (by decide) rfl (fun ls hl => ?_)
        refine lv_aload_n hx hb dX1_digest_39 rfl (lv_at hl 0 rfl) ?_
        refine gg_leni hx hb hG hX.2.1 dX1_digest_40 ?_
        refine lv_istore (lv' := [(4, .int (nI 8)), (3, .ref cd), (1, .long (dgs (bCnt S) 1021 12)), (0, .ref x)]) hx hb dX1_digest_41 hl (by decide) rfl (fun ls hl => ?_)
        refine lv_iconst (v := 0) hx hb dX1_digest_43 (by decide) ?_
        refine lv_istore (lv' := [(5, .int 0), (4, .int (nI 8)), (3, .ref cd), (1, .long (dgs (bCnt S) 1021 12)), (0, .ref x)]) hx hb dX1_digest_44 hl (by decide) rfl (fun ls hl => ?_)
        have lb : ∀ (d i : Nat), i ≤ 8 → 8 + 1 ≤ i + d → ∀ ls : Array Slot, lv_has ls 7 [(5, .int (nI i)), (4, .int (nI 8)), (3, .ref cd), (1, .long (dgs (sCd S) (bDig1 S) i)), (0, .ref x)] → W p l e ({ frames := 8, cells := 0, slots := 0, locals := 170 } : Room) s m ([.ref x] : List Value).toArray below meth c s.heap [] 0 0 (MQ below (vp_Sl (fun r => r = bDig S)) ([.ref x] : List Value).toArray s 0 0 (fun _ => False)) (F0 m 46 ls []) := by
          intro d
          induction d with
          | zero => intro i h1 h2; exact absurd h2 (by omega)
          | succ d ih_lb =>
            intro i hin hid ls hl
            refine lv_iload hx hb dX1_digest_46 (lv_at hl 0 rfl) ?_
            refine lv_iload hx hb dX1_digest_48 (lv_at hl 1 rfl) ?_
            refine lv_icmp_ge (tgt := 75) hx hb dX1_digest_50 (by decide) (fun c_50 => ?_) (fun c_50 => ?_)
            · have hil : i = 8 := by rcases Nat.lt_or_ge i (8) with q | q; exact absurd (show nI (8) ≤ nI i from c_50) (nI_ge q (by omega)); omega
              subst hil
              refine lv_iconst (v := 0) hx hb dX1_digest_75 (by decide) ?_
              refine lv_istore_n (lv' := [(3, .int 0), (5, .int (nI 8)), (4, .int (nI 8)), (1, .long (dgs (sCd S) (bDig1 S) 8)), (0, .ref x)]) hx hb dX1_digest_76 rfl hl (by decide) rfl (fun ls hl => ?_)
              have lc : ∀ (d k : Nat), k ≤ sN S → sN S + 1 ≤ k + d → ∀ ls : Array Slot, lv_has ls 7 [(3, .int (nI k)), (1, .long (dgT S (bDig2 S) k)), (0, .ref x)] → W p l e ({ frames := 8, cells := 0, slots := 0, locals := 170 } : Room) s m ([.ref x] : List Value).toArray below meth c s.heap [] 0 0 (MQ below (vp_Sl (fun r => r = bDig S)) ([.ref x] : List Value).toArray s 0 0 (fun _ => False)) (F0 m 77 ls []) := by
                intro d
                induction d with
                | zero => intro k h1 h2; exact absurd h2 (by omega)
                | succ d ih_lc =>
                  intro k hkn hkd ls hl
                  refine lv_iload_n hx hb dX1_digest_77 rfl (lv_at hl 0 rfl) ?_
                  refine lv_aload_n hx hb dX1_digest_78 rfl (lv_at hl 2 rfl) ?_
                  refine gg_get (ci := 0) (C := RX1) (T := TX1) (N := 1) (v := .ref b) hx hb hts in_X1 hown hG h_x rfl 0 (by decide) q115 rfl rfl dX1_digest_79 ?_
                  refine gg_getN (ci := 1) (C := RX2) (T := TX2) (N := 8) (v := .ref al) hx hb hts in_X2 hown hG hX.1 rfl 7 (by decide) q97 rfl rfl dX1_digest_82 ?_
                  refine vp_callSi (va_Run.run (va_runV (As := []) (rest := [.int (nI k)]) ⟨hx, hb, hml, hown, hts⟩ (met_J3_size l g al el (sN S) mc) (cwV 0 hts (lw_V q166 q148 q149 q20 q150) rfl rfl rfl (by decide +kernel) ⟨Nat.le_of_ble_eq_true rfl, Nat.le_of_ble_eq_true rfl⟩) (gg_preV hG (Kp.rf hG) (gg_recv hG hX.2.2.1 rfl) hX.2.2.1) rfl rfl hl.1 rfl (lv_room (Nat.le_of_ble_eq_true rfl)) dX1_digest_85 ⟨Nat.le_of_ble_eq_true rfl, Nat.le_of_ble_eq_true rfl⟩)) (fun z hz => ?_)
                  subst hz
                  refine lv_icmp_ge (tgt := 140) hx hb dX1_digest_88 (by decide) (fun c_88 => ?_) (fun c_88 => ?_)
                  · have hkl : k = (sN S) := by rcases Nat.lt_or_ge k ((sN S)) with q | q; exact absurd (show nI ((sN S)) ≤ nI k from c_88) (nI_ge q (by omega)); omega
                    subst hkl
                    refine lv_lload_n hx hb dX1_digest_140 rfl (lv_at hl 1 rfl) ?_
                    exact W.lret (v := (dgT S (bDig2 S) (sN S))) hx hb hr (fun t9 h9 hW9 => ⟨_, rfl, rfl, h9⟩) (fun _ h => absurd h List.not_mem_nil) dX1_digest_141
                  · have hkl : k < sN S := by rcases Nat.lt_or_ge k (sN S) with q | q; exact q; exact absurd (show nI (sN S) ≤ nI k from nI_le q (by omega)) c_88
                    refine lv_iconst (v := 0) hx hb dX1_digest_91 (by decide) ?_
                    refine lv_istore (lv' := [(4, .int 0), (3, .int (nI k)), (1, .long (dgT S (bDig2 S) k)), (0, .ref x)]) hx hb dX1_digest_92 hl (by decide) rfl (fun ls hl => ?_)
                    have ld : ∀ (d w : Nat), w ≤ 7 → 7 + 1 ≤ w + d → ∀ ls : Array Slot, lv_has ls 7 [(4, .int (nI w)), (3, .int (nI k)), (1, .long (dgs (tTold (sTv S k)) (dgT S (bDig2 S) k) w)), (0, .ref x)] → W p l e ({ frames := 8, cells := 0, slots := 0, locals := 170 } : Room) s m ([.ref x] : List Value).toArray below meth c s.heap [] 0 0 (MQ below (vp_Sl (fun r => r = bDig S)) ([.ref x] : List Value).toArray s 0 0 (fun _ => False)) (F0 m 94 ls []) := by
                      intro d
                      induction d with
                      | zero => intro w h1 h2; exact absurd h2 (by omega)
                      | succ d ih_ld =>
                        intro w hwn hwd ls hl
                        refine lv_iload hx hb dX1_digest_94 (lv_at hl 0 rfl) ?_
                        refine lv_bipush (v := 7) hx hb dX1_digest_96 (by decide) ?_
                        refine lv_icmp_ge (tgt := 134) hx hb dX1_digest_98 (by decide) (fun c_98 => ?_) (fun c_98 => ?_)
                        · have hwl : w = 7 := by rcases Nat.lt_or_ge w (7) with q | q; exact absurd (show nI (7) ≤ nI w from c_98) (nI_ge q (by omega)); omega
                          subst hwl
                          refine lv_iinc (v := nI (k + 1)) (lv' := [(3, .int (nI (k + 1))), (4, .int (nI 7)), (1, .long (dgs (tTold (sTv S k)) (dgT S (bDig2 S) k) 7)), (0, .ref x)]) hx hb dX1_digest_134 hl (k := 1) rfl (nI_1 k) (by decide) rfl (fun ls hl => ?_)
                          refine lv_goto (tgt := 77) hx hb dX1_digest_137 (by decide) ?_
                          exact ih_lc (k + 1) (by omega) (by omega) ls (lv_sub hl [0, 2, 3] rfl)
                        · have hwl : w < 7 := by rcases Nat.lt_or_ge w (7) with q | q; exact q; exact absurd (show nI (7) ≤ nI w from nI_le q (by omega)) c_98
                          refine lv_lload_n hx hb dX1_digest_101 rfl (lv_at hl 2 rfl) ?_
                          refine lv_ldc2 (v := 31) hx hb hown (hts _ q172) dX1_digest_102 ?_
                          refine lv_lmul hx hb dX1_digest_105 ?_
                          refine lv_aload_n hx hb dX1_digest_106 rfl (lv_at hl 3 rfl) ?_
                          refine gg_get (ci := 0) (C := RX1) (T := TX1) (N := 1) (v := .ref b) hx hb hts in_X1 hown hG h_x rfl 0 (by decide) q115 rfl rfl dX1_digest_107 ?_
                          refine gg_getN (ci := 1) (C := RX2) (T := TX2) (N := 8) (v := .ref al) hx hb hts in_X2 hown hG hX.1 rfl 7 (by decide) q97 rfl rfl dX1_digest_110 ?_
                          refine lv_iload_n hx hb dX1_digest_113 rfl (lv_at hl 1 rfl) ?_
                          refine va_csr (va_Run.run (va_runV (As := [.int (nI k)]) (rest := [.long ((dgs (tTold (sTv S k)) (dgT S (bDig2 S) k) w) * 31)]) ⟨hx, hb, hml, hown, hts⟩ (met_J3_get l g al el (sN S) cap k (ad k) mc arr hkl hX.2.2.2.2.2.1 (by have := hX.2.2.2.2.2.2.1; omega) (hX.2.2.2.2.1 k hkl).1) (cwV 1 hts (lw_V q250 q152 q153 q20 q154) rfl rfl rfl (by decide +kernel) ⟨Nat.le_of_ble_eq_true rfl, Nat.le_of_ble_eq_true rfl⟩) (gg_preV hG (Kp.rf hG) (gg_recv hG hX.2.2.1 rfl) ⟨hX.2.2.1, hX.2.2.2.1 (by omega)⟩) rfl rfl hl.1 rfl (lv_room (Nat.le_of_ble_eq_true rfl)) dX1_digest_114 ⟨Nat.le_of_ble_eq_true rfl, Nat.le_of_ble_eq_true rfl⟩)) (fun a_1 ha_1 => ?_)
                          subst ha_1
                          refine va_castS hx hb hown (hts _ q251) (hG.k.1 2 _ rfl).2 (gg_recv hG (hX.2.2.2.2.1 k hkl).2 rfl) dX1_digest_117 ?_
                          refine lv_iload hx hb dX1_digest_120 (lv_at hl 0 rfl) ?_
                          refine vp_callSi (va_Run.run (va_runS (As := [.ref (ad k), .int (nI w)]) (rest := [.long ((dgs (tTold (sTv S k)) (dgT S (bDig2 S) k) w) * 31)]) ⟨hx, hb, hml, hown, hts⟩ (met_X1_travellerTold l g (ad k) w (sTv S k) hwl (hok.2.2.2.2.2.2.2.2.1 k hkl).2.2.1) (va_cwS 2 hts (lw_S q252 q253 q14 q254) rfl rfl rfl (by decide +kernel) ⟨Nat.le_of_ble_eq_true rfl, Nat.le_of_ble_eq_true rfl⟩) (gg_preS hG (Kp.rf hG) (hX.2.2.2.2.1 k hkl).2) rfl rfl hl.1 rfl (lv_room (Nat.le_of_ble_eq_true rfl)) dX1_digest_122 ⟨Nat.le_of_ble_eq_true rfl, Nat.le_of_ble_eq_true rfl⟩)) (fun r_t hr_t => ?_)
                          refine lv_i2l hx hb dX1_digest_125 rfl ?_
                          refine lv_ladd hx hb dX1_digest_126 ?_
                          rw [show (((dgs (tTold (sTv S k)) (dgT S (bDig2 S) k) w) * 31) + (r_t).toInt64) = (dgs (tTold (sTv S k)) (dgT S (bDig2 S) k) (w + 1)) by rw [hr_t]; rfl]
                          refine lv_lstore_n (lv' := [(1, .long (dgs (tTold (sTv S k)) (dgT S (bDig2 S) k) (w + 1))), (4, .int (nI w)), (3, .int (nI k)), (0, .ref x)]) hx hb dX1_digest_127 rfl hl (by decide) rfl (fun ls hl => ?_)
                          refine lv_iinc (v := nI (w + 1)) (lv' := [(4, .int (nI (w + 1))), (1, .long (dgs (tTold (sTv S k)) (dgT S (bDig2 S) k) (w + 1))), (3, .int (nI k)), (0, .ref x)]) hx hb dX1_digest_128 hl (k := 1) rfl (nI_1 w) (by decide) rfl (fun ls hl => ?_)
                          refine lv_goto (tgt := 94) hx hb dX1_digest_131 (by decide) ?_
                          exact ih_ld (w + 1) (by omega) (by omega) ls (lv_sub hl [0, 2, 1, 3] rfl)
                    exact ld (7 + 1) 0 (Nat.zero_le _) (by omega) ls (lv_sub hl [0, 1, 2, 3] rfl)
              exact lc (sN S + 1) 0 (Nat.zero_le _) (by omega) ls (lv_sub hl [0, 3, 4] rfl)
            · have hil : i < 8 := by rcases Nat.lt_or_ge i (8) with q | q; exact q; exact absurd (show nI (8) ≤ nI i from nI_le q (by omega)) c_50
              refine lv_aload_n hx hb dX1_digest_53 rfl (lv_at hl 2 rfl) ?_
              refine lv_iload hx hb dX1_digest_54 (lv_at hl 0 rfl) ?_
              refine gg_iald hx hb hG hX.2.1 i hil (by decide) rfl dX1_digest_56 ?_
              refine lv_istore (lv' := [(6, .int ((sCd S) i)), (5, .int (nI i)), (4, .int (nI 8)), (3, .ref cd), (1, .long (dgs (sCd S) (bDig1 S) i)), (0, .ref x)]) hx hb dX1_digest_57 hl (by decide) rfl (fun ls hl => ?_)
              refine lv_lload_n hx hb dX1_digest_59 rfl (lv_at hl 4 rfl) ?_
              refine lv_ldc2 (v := 31) hx hb hown (hts _ q172) dX1_digest_60 ?_
              refine lv_lmul hx hb dX1_digest_63 ?_
              refine lv_iload hx hb dX1_digest_64 (lv_at hl 0 rfl) ?_
              refine lv_i2l hx hb dX1_digest_66 rfl ?_
              refine lv_ladd hx hb dX1_digest_67 ?_
              rw [show (((dgs (sCd S) (bDig1 S) i) * 31) + (((sCd S) i)).toInt64) = (dgs (sCd S) (bDig1 S) (i + 1)) by rfl]
              refine lv_lstore_n (lv' := [(1, .long (dgs (sCd S) (bDig1 S) (i + 1))), (6, .int ((sCd S) i)), (5, .int (nI i)), (4, .int (nI 8)), (3, .ref cd), (0, .ref x)]) hx hb dX1_digest_68 rfl hl (by decide) rfl (fun ls hl => ?_)
              refine lv_iinc (v := nI (i + 1)) (lv' := [(5, .int (nI (i + 1))), (1, .long (dgs (sCd S) (bDig1 S) (i + 1))), (6, .int ((sCd S) i)), (4, .int (nI 8)), (3, .ref cd), (0, .ref x)]) hx hb dX1_digest_69 hl (k := 2) rfl (nI_1 i) (by decide) rfl (fun ls hl => ?_)
              refine lv_goto (tgt := 46) hx hb dX1_digest_72 (by decide) ?_
              exact ih_lb (i + 1) (by omega) (by omega) ls (lv_sub hl [0, 3, 4, 1, 5] rfl)
        exact lb (8 + 1) 0 (Nat.zero_le _) (by omega) ls (lv_sub hl [0, 1, 2, 3, 4] rfl)
      · have hal : a < 12 := by rcases Nat.lt_or_ge a (12) with q | q; exact q; exact absurd (show nI (12) ≤ nI a from nI_le q (by omega)) c_9
        refine lv_lload_n hx hb dX1_digest_12 rfl (lv_at hl 1 rfl) ?_
        refine lv_ldc2 (v := 31) hx hb hown (hts _ q172) dX1_digest_13 ?_
        refine lv_lmul hx hb dX1_digest_16 ?_
        refine lv_aload_n hx hb dX1_digest_17 rfl (lv_at hl 2 rfl) ?_
        refine lv_iload_n hx hb dX1_digest_18 rfl (lv_at hl 0 rfl) ?_
        refine vp_callSi (va_Run.run (va_runV (As := [.int (nI a)]) (rest := [.long ((dgs (bCnt S) 1021 a) * 31)]) ⟨hx, hb, hml, hown, hts⟩ (met_X1_counted l g T x b a S F hok (by omega)) (cwV 1 hts (lw_V q173 q175 qs0 q14 q176) rfl rfl rfl (by decide +kernel) ⟨Nat.le_of_ble_eq_true rfl, Nat.le_of_ble_eq_true rfl⟩) (gg_preV hG (Kp.rf hG) (gg_recv hG h_x rfl) hB1) rfl rfl hl.1 rfl (lv_room (Nat.le_of_ble_eq_true rfl)) dX1_digest_19 ⟨Nat.le_of_ble_eq_true rfl, Nat.le_of_ble_eq_true rfl⟩)) (fun r_1 hr_1 => ?_)
        refine lv_i2l hx hb dX1_digest_22 rfl ?_
        refine lv_ladd hx hb dX1_digest_23 ?_
        rw [show (((dgs (bCnt S) 1021 a) * 31) + (r_1).toInt64) = (dgs (bCnt S) 1021 (a + 1)) by rw [hr_1]; rfl]
        refine lv_lstore_n (lv' := [(1, .long (dgs (bCnt S) 1021 (a + 1))), (3, .int (nI a)), (0, .ref x)]) hx hb dX1_digest_24 rfl hl (by decide) rfl (fun ls hl => ?_)
        refine lv_iinc (v := nI (a + 1)) (lv' := [(3, .int (nI (a + 1))), (1, .long (dgs (bCnt S) 1021 (a + 1))), (0, .ref x)]) hx hb dX1_digest_25 hl (k := 1) rfl (nI_1 a) (by decide) rfl (fun ls hl => ?_)
        refine lv_goto (tgt := 6) hx hb dX1_digest_28 (by decide) ?_
        exact ih_la (a + 1) (by omega) (by omega) ls (lv_sub hl [0, 1, 2] rfl)
  exact la (12 + 1) 0 (Nat.zero_le _) (by omega) ls (lv_sub hl [0, 1, 2] rfl)
