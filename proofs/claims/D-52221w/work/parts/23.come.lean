/-! THE COMPONENT: tell, count, speed; ring, come. -/
set_option maxRecDepth 100000
/-- a traveller that has come -/
def sCome (S : BS) (ba mi : Int32) : BS := (S.1, sCd S, sN S + 1, va_up (sTv S) (sN S) (ba, mi, sMi S, 0, 0, 0, -1))
/-- a reader's contract, as a writer's that writes nothing -/
theorem Met.rd {l : Launch} {y : MethodName} {ws : List Cond} {rm : Room} {g : GT} {av : List Value} {B : Heap → Prop} {post : Int32 → Prop} {A : Nat → Prop} (h : Met l y ws rm (PcG g av B) (vp_Si post) 0 0 (fun _ => False)) : Met l y ws rm (PcG g av B) (va_Qi (fun r (_ : Unit) => post r) (fun _ u => B u.heap) A) 0 0 A := by
  intro p e h1 h2 h3 s m args below h4 h5 h6 h7
  obtain ⟨n, o, a1, a2, a3, ⟨r, b1, b2, b3⟩, L, b4, b5⟩ := h p e h1 h2 h3 s m args below h4 h5 h6 h7
  refine ⟨n, o, a1, a2, a3, ⟨⟨r, (), b1, b2, ?_⟩, ?_, ?_⟩, L, b4, fun q hq => (b5 q hq).elim⟩
  · show B (stepsAlone p.tables e n s).heap
    rw [b3]
    exact h6.2.2
  · rw [b3]
    exact Nat.le_refl _
  · intro q _ _
    rw [b3]

set_option maxHeartbeats 4000000 in
theorem met_X1_traveller (l : Launch) (g : GT) (T x b : Nat) (S : BS) (F : Nat → Prop) (hok : OKS T S) (k w : Nat) (hk : k < sN S) (hw : w < 7) : Met l yX1_traveller (ws_ yX1_traveller cX1_traveller 4 (Option.some Jvm.ClassFile.FieldType.int)) ({ frames := 4, cells := 0, slots := 0, locals := 85 } : Room) (PcG g [.ref x, .int (nI k), .int (nI w)] (fun H => XB g F x b S H)) (vp_Si (fun r => r = tTold (sTv S k) w)) 0 0 (fun _ => False) := by
  refine gg_met (cc := cX1_traveller) (maxL := 4) (ret := (Option.some Jvm.ClassFile.FieldType.int)) (by decide) (Nat.le_of_ble_eq_true rfl) ?_
  intro p e s m below meth c hx hb hr hlk hin hml hown hts hG hB ls hl
  have hown : s.vm.findClass RX1 = some m.cls := hown
  have hl : lv_has ls 4 [(0, .ref x), (1, .int (nI k)), (2, .int (nI w))] := hl
  obtain ⟨h_x, ⟨cd, al, el, cap, mc, arr, ad, hX⟩, hFx⟩ := hB
  have hn40 : sN S ≤ 40 := hok.2.2.2.2.2.2.2.1
  refine lv_aload_n hx hb dX1_traveller_0 rfl (lv_at hl 0 rfl) ?_
  refine gg_get (ci := 0) (C := RX1) (T := TX1) (N := 1) (v := .ref b) hx hb hts in_X1 hown hG h_x rfl 0 (by decide) q115 rfl rfl dX1_traveller_1 ?_
  refine gg_getN (ci := 1) (C := RX2) (T := TX2) (N := 8) (v := .ref al) hx hb hts in_X2 hown hG hX.1 rfl 7 (by decide) q97 rfl rfl dX1_traveller_4 ?_
  refine lv_iload_n hx hb dX1_traveller_7 rfl (lv_at hl 1 rfl) ?_
  refine va_csr (va_Run.run (va_runS (As := [.ref al, .int (nI k)]) (rest := []) ⟨hx, hb, hml, hown, hts⟩ (met_X1_known l g al el (sN S) cap k (ad k) mc arr hk hX.2.2.2.2.2.1 (by have := hX.2.2.2.2.2.2.1; omega) (hX.2.2.2.2.1 k hk).1) (va_cwS 2 hts (lw_S q492 q493 q14 q494) rfl rfl rfl (by decide +kernel) ⟨Nat.le_of_ble_eq_true rfl, Nat.le_of_ble_eq_true rfl⟩) (gg_preS hG (Kp.rf hG) ⟨hX.2.2.1, hX.2.2.2.1 (by omega)⟩) rfl rfl hl.1 rfl (lv_room (Nat.le_of_ble_eq_true rfl)) dX1_traveller_8 ⟨Nat.le_of_ble_eq_true rfl, Nat.le_of_ble_eq_true rfl⟩)) (fun a_k ha_k => ?_)
  subst ha_k
  refine va_castS hx hb hown (hts _ q251) (hG.k.1 2 _ rfl).2 (gg_recv hG (hX.2.2.2.2.1 k hk).2 rfl) dX1_traveller_11 ?_
  refine lv_astore_n (lv' := [(3, .ref (ad k)), (0, .ref x), (1, .int (nI k)), (2, .int (nI w))]) hx hb dX1_traveller_14 rfl hl (by decide) rfl (fun ls hl => ?_)
  refine lv_iload_n hx hb dX1_traveller_15 rfl (lv_at hl 3 rfl) ?_
  refine lv_bipush (v := 7) hx hb dX1_traveller_16 (by decide) ?_
  refine va_csv (va_Run.run (va_runS (As := [.int (nI w), .int 7]) (rest := []) ⟨hx, hb, hml, hown, hts⟩ (met_X1_requireIndex l g w 7 hw (by decide)) (va_cwS 2 hts (lw_S q503 q504 q14 q505) rfl rfl rfl (by decide +kernel) ⟨Nat.le_of_ble_eq_true rfl, Nat.le_of_ble_eq_true rfl⟩) (gg_preS hG (Kp.rf hG) trivial) rfl rfl hl.1 rfl (lv_room (Nat.le_of_ble_eq_true rfl)) dX1_traveller_18 ⟨Nat.le_of_ble_eq_true rfl, Nat.le_of_ble_eq_true rfl⟩)) (fun _ => ?_)
  refine lv_aload_n hx hb dX1_traveller_21 rfl (lv_at hl 0 rfl) ?_
  refine lv_iload_n hx hb dX1_traveller_22 rfl (lv_at hl 3 rfl) ?_
  refine vp_callSi (va_Run.run (va_runS (As := [.ref (ad k), .int (nI w)]) (rest := []) ⟨hx, hb, hml, hown, hts⟩ (met_X1_travellerTold l g (ad k) w (sTv S k) hw (hok.2.2.2.2.2.2.2.2.1 k hk).2.2.1) (va_cwS 2 hts (lw_S q252 q253 q14 q254) rfl rfl rfl (by decide +kernel) ⟨Nat.le_of_ble_eq_true rfl, Nat.le_of_ble_eq_true rfl⟩) (gg_preS hG (Kp.rf hG) (hX.2.2.2.2.1 k hk).2) rfl rfl hl.1 rfl (lv_room (Nat.le_of_ble_eq_true rfl)) dX1_traveller_23 ⟨Nat.le_of_ble_eq_true rfl, Nat.le_of_ble_eq_true rfl⟩)) (fun r_1 hr_1 => ?_)
  exact W.iret (v := r_1) hx hb hr (fun t9 h9 hW9 => ⟨_, rfl, hr_1, h9⟩) (fun _ h => absurd h List.not_mem_nil) dX1_traveller_26

set_option maxHeartbeats 4000000 in
theorem met_X1_count (l : Launch) (g : GT) (T x b : Nat) (S : BS) (F : Nat → Prop) (hok : OKS T S) (w : Nat) (hw : w < 12) : Met l yX1_count (ws_ yX1_count cX1_count 2 (Option.some Jvm.ClassFile.FieldType.int)) ({ frames := 8, cells := 0, slots := 0, locals := 170 } : Room) (PcG g [.ref x, .int (nI w)] (fun H => XB g F x b S H)) (vp_Si (fun r => r = bCnt S w)) 0 0 (fun _ => False) := by
  refine gg_met (cc := cX1_count) (maxL := 2) (ret := (Option.some Jvm.ClassFile.FieldType.int)) (by decide) (Nat.le_of_ble_eq_true rfl) ?_
  intro p e s m below meth c hx hb hr hlk hin hml hown hts hG hB ls hl
  have hown : s.vm.findClass RX1 = some m.cls := hown
  have hl : lv_has ls 2 [(0, .ref x), (1, .int (nI w))] := hl
  refine lv_iload_n hx hb dX1_count_0 rfl (lv_at hl 1 rfl) ?_
  refine lv_bipush (v := 12) hx hb dX1_count_1 (by decide) ?_
  refine va_csv (va_Run.run (va_runS (As := [.int (nI w), .int 12]) (rest := []) ⟨hx, hb, hml, hown, hts⟩ (met_X1_requireIndex l g w 12 hw (by decide)) (va_cwS 2 hts (lw_S q503 q504 q14 q505) rfl rfl rfl (by decide +kernel) ⟨Nat.le_of_ble_eq_true rfl, Nat.le_of_ble_eq_true rfl⟩) (gg_preS hG (Kp.rf hG) trivial) rfl rfl hl.1 rfl (lv_room (Nat.le_of_ble_eq_true rfl)) dX1_count_3 ⟨Nat.le_of_ble_eq_true rfl, Nat.le_of_ble_eq_true rfl⟩)) (fun _ => ?_)
  refine lv_aload_n hx hb dX1_count_6 rfl (lv_at hl 0 rfl) ?_
  refine lv_iload_n hx hb dX1_count_7 rfl (lv_at hl 1 rfl) ?_
  refine vp_callSi (va_Run.run (va_runV (As := [.int (nI w)]) (rest := []) ⟨hx, hb, hml, hown, hts⟩ (met_X1_counted l g T x b w S F hok hw) (cwV 1 hts (lw_V q173 q175 qs0 q14 q176) rfl rfl rfl (by decide +kernel) ⟨Nat.le_of_ble_eq_true rfl, Nat.le_of_ble_eq_true rfl⟩) (gg_preV hG (Kp.rf hG) (gg_recv hG hB.1 rfl) hB) rfl rfl hl.1 rfl (lv_room (Nat.le_of_ble_eq_true rfl)) dX1_count_8 ⟨Nat.le_of_ble_eq_true rfl, Nat.le_of_ble_eq_true rfl⟩)) (fun r_1 hr_1 => ?_)
  exact W.iret (v := r_1) hx hb hr (fun t9 h9 hW9 => ⟨_, rfl, hr_1, h9⟩) (fun _ h => absurd h List.not_mem_nil) dX1_count_11

set_option maxHeartbeats 4000000 in
theorem met_X1_speed (l : Launch) (g : GT) (T x b : Nat) (S : BS) (F : Nat → Prop) (hok : OKS T S) (v : Int32) : Met l yX1_speed (ws_ yX1_speed cX1_speed 2 (Option.some Jvm.ClassFile.FieldType.int)) ({ frames := 2, cells := 0, slots := 0, locals := 43 } : Room) (PcG g [.ref x, .int v] (fun H => XB g F x b S H)) (vp_Si (fun r => r = bSpeed S v)) 0 0 (fun _ => False) := by
  refine gg_met (cc := cX1_speed) (maxL := 2) (ret := (Option.some Jvm.ClassFile.FieldType.int)) (by decide) (Nat.le_of_ble_eq_true rfl) ?_
  intro p e s m below meth c hx hb hr hlk hin hml hown hts hG hB ls hl
  have hown : s.vm.findClass RX1 = some m.cls := hown
  have hl : lv_has ls 2 [(0, .ref x), (1, .int v)] := hl
  obtain ⟨h_x, ⟨cd, al, el, cap, mc, arr, ad, hX⟩, hFx⟩ := hB
  have hn40 : sN S ≤ 40 := hok.2.2.2.2.2.2.2.1
  refine lv_aload_n hx hb dX1_speed_0 rfl (lv_at hl 0 rfl) ?_
  refine gg_get (ci := 0) (C := RX1) (T := TX1) (N := 1) (v := .ref b) hx hb hts in_X1 hown hG h_x rfl 0 (by decide) q115 rfl rfl dX1_speed_1 ?_
  refine lv_iload_n hx hb dX1_speed_4 rfl (lv_at hl 1 rfl) ?_
  refine vp_callSi (va_Run.run (va_runV (As := [.int v]) (rest := []) ⟨hx, hb, hml, hown, hts⟩ (met_X2_speed l g T b S v) (cwV 1 hts (lw_V q130 q131 q132 q15 q133) rfl rfl rfl (by decide +kernel) ⟨Nat.le_of_ble_eq_true rfl, Nat.le_of_ble_eq_true rfl⟩) (gg_preV hG (Kp.rf hG) (gg_recv hG hX.1 rfl) (hX.rb hok)) rfl rfl hl.1 rfl (lv_room (Nat.le_of_ble_eq_true rfl)) dX1_speed_5 ⟨Nat.le_of_ble_eq_true rfl, Nat.le_of_ble_eq_true rfl⟩)) (fun r_1 hr_1 => ?_)
  exact W.iret (v := r_1) hx hb hr (fun t9 h9 hW9 => ⟨_, rfl, hr_1, h9⟩) (fun _ h => absurd h List.not_mem_nil) dX1_speed_8

set_option maxHeartbeats 4000000 in
theorem met_X1_ring (l : Launch) (g : GT) (T x b sz : Nat) (S : BS) (F : Nat → Prop) (hok : OKS T S) (hFsz : ∀ q, F q → q < sz) (n : Nat) (hn : n < 5) : Met l yX1_ring (ws_ yX1_ring cX1_ring 3 (Option.some Jvm.ClassFile.FieldType.int)) ({ frames := 4, cells := 1, slots := 5, locals := 150 } : Room) (PcG g [.ref x, .int (nI n)] (fun H => H.size = sz ∧ XB g F x b S H)) (va_Qi (fun (r : Int32) (_ : Unit) => r = nI (sCo S)) (fun _ u => XB g F x b (sCod S n) u.heap) (fun q => F q ∨ sz ≤ q)) 1 5 (fun q => F q ∨ sz ≤ q) := by
  refine gg_met (cc := cX1_ring) (maxL := 3) (ret := (Option.some Jvm.ClassFile.FieldType.int)) (by decide) (Nat.le_of_ble_eq_true rfl) ?_
  intro p e s m below meth c hx hb hr hlk hin hml hown hts hG hB ls hl
  have hown : s.vm.findClass RX1 = some m.cls := hown
  have hl : lv_has ls 3 [(0, .ref x), (1, .int (nI n))] := hl
  obtain ⟨hsz, h_x, ⟨cd, al, el, cap, mc, arr, ad, hX⟩, hFx⟩ := hB
  have hN : ∀ q, sz ≤ q → gA g q := fun q e => Nat.le_trans (by rw [← hsz]; exact hG.sz) e
  have hAN : ∀ q, F q ∨ sz ≤ q → gA g q := fun q e => e.elim (hX.2.2.2.2.2.2.2.2.1 q) (hN q)
  have hS : va_S (fun q => F q ∨ sz ≤ q) s.heap s.heap [] := va_S.rf
  have hFb : F b := hX.2.2.2.2.2.2.2.1.1
  have hxb : x ≠ b := fun e => hFx (e ▸ hFb)
  have hn40 : sN S ≤ 40 := hok.2.2.2.2.2.2.2.1
  have hxsz : x < sz := by rw [← hsz]; exact h_x.lt
  have rest : ∀ ls : Array Slot, lv_has ls 3 [(2, .int (nI (sCo S))), (0, .ref x), (1, .int (nI n))] → W p l e ({ frames := 4, cells := 1, slots := 5, locals := 150 } : Room) s m ([.ref x, .int (nI n)] : List Value).toArray below meth c s.heap [] 0 0 (MQ below (va_Qi (fun (r : Int32) (_ : Unit) => r = nI (sCo S)) (fun _ u => XB g F x b (sCod S n) u.heap) (fun q => F q ∨ sz ≤ q)) ([.ref x, .int (nI n)] : List Value).toArray s 1 5 (fun q => F q ∨ sz ≤ q)) (F0 m 17 ls []) := by
    intro ls hl
    refine lv_aload_n hx hb dX1_ring_17 rfl (lv_at hl 1 rfl) ?_
    refine gg_get (ci := 0) (C := RX1) (T := TX1) (N := 1) (v := .ref b) hx hb hts in_X1 hown hG h_x rfl 0 (by decide) q115 rfl rfl dX1_ring_18 ?_
    refine va_callr (va_runS (As := []) (rest := [.ref b]) ⟨hx, hb, hml, hown, hts⟩ (met_X3_values l g sz) (va_cwS 0 hts (lw_S q539 q540 q17 q541) rfl rfl rfl (by decide +kernel) ⟨Nat.le_of_ble_eq_true rfl, Nat.le_of_ble_eq_true rfl⟩) (gg_preS hG (hS.kp hG hAN) hsz) rfl rfl hl.1 rfl (lv_room (Nat.le_of_ble_eq_true rfl)) dX1_ring_21 ⟨Nat.le_of_ble_eq_true rfl, Nat.le_of_ble_eq_true rfl⟩) hS (fun q _ e => Or.inr e) (fun q e => Or.inr e) (fun u ra t9 H1 locs ht hvm _ hB1 hz1 hk1 hS => ?_)
    rw [ht] at hB1
    obtain ⟨hsr, h_ra⟩ := hB1
    have hX := hX.keptL (fun q h _ => hk1 q h (by omega))
    have h_x := h_x.kept (hk1 x h_x.lt (by omega))
    generalize H1 = H at hX h_x h_ra hS ⊢
    refine lv_iload_n hx hb dX1_ring_24 rfl (lv_at hl 2 rfl) ?_
    refine va_aldq hx hb hG.k (P1 h_ra) 0 3 rfl rfl (vp_in_nI hn (by decide)) dX1_ring_25 ?_
    rw [nI_clamp (show n < 2 ^ 31 by omega)]
    refine W.eq (g2 := F0 m 26 ls [.ref (gC g n), .ref b]) rfl ?_
    refine gg_putN (ci := 1) (v := .ref (gC g n)) (C := RX2) (T := TX2) (N := 8) hx hb hts in_X2 tyX2 tyX2_ok nmX2 hown hG hX.1 hS (Or.inl hFb) rfl 4 (by decide) q91 rfl rfl rfl rfl (Nat.le_of_ble_eq_true rfl) dX1_ring_26 (fun H locs h_b hbut hS => ?_)
    have h_b : va_at (gD g) bbCl (b, .inr (1, [.int (sMi S), .int (sAn S), .int (sPo S), .int (sIc S), .ref (gC g n), .int (sLa S), .ref cd, .ref al])) H := h_b
    have hX := hX.putB (S1 := sCod S n) hbut h_b rfl
    have h_x := h_x.but hbut hxb
    refine lv_iload_n hx hb dX1_ring_29 rfl (lv_at hl 0 rfl) ?_
    refine W.widen (k := 1) (n := 5) (by decide) (by decide) ?_
    exact W.iret (v := (nI (sCo S))) hx hb hr (fun t9 h9 hW9 => ⟨⟨_, (), rfl, rfl, by dsimp only; rw [h9]; exact ⟨h_x, ⟨_, _, _, _, _, _, _, hX⟩, hFx⟩⟩, hS.F h9⟩) hS.2.2 dX1_ring_30
  refine lv_iconst (v := 0) hx hb dX1_ring_0 (by decide) ?_
  refine lv_iconst (v := 4) hx hb dX1_ring_1 (by decide) ?_
  refine lv_iload_n hx hb dX1_ring_2 rfl (lv_at hl 1 rfl) ?_
  refine va_csv (va_Run.run (va_runS (As := [.int 0, .int 4, .int (nI n)]) (rest := []) ⟨hx, hb, hml, hown, hts⟩ (met_X1_requireFrom l g 0 4 (nI n) (nI_pos' (by omega)) (show nI n ≤ nI 4 from nI_le (by omega) (by decide))) (va_cwS 3 hts (lw_S q267 q268 q14 q269) rfl rfl rfl (by decide +kernel) ⟨Nat.le_of_ble_eq_true rfl, Nat.le_of_ble_eq_true rfl⟩) (gg_preS hG (hS.kp hG hAN) trivial) rfl rfl hl.1 rfl (lv_room (Nat.le_of_ble_eq_true rfl)) dX1_ring_3 ⟨Nat.le_of_ble_eq_true rfl, Nat.le_of_ble_eq_true rfl⟩)) (fun _ => ?_)
  refine lv_aload_n hx hb dX1_ring_6 rfl (lv_at hl 0 rfl) ?_
  refine gg_get (ci := 0) (C := RX1) (T := TX1) (N := 1) (v := .ref b) hx hb hts in_X1 hown hG h_x rfl 0 (by decide) q115 rfl rfl dX1_ring_7 ?_
  refine gg_getN (ci := 1) (C := RX2) (T := TX2) (N := 8) (v := .ref (gC g (sCo S))) hx hb hts in_X2 hown hG hX.1 rfl 4 (by decide) q91 rfl rfl dX1_ring_10 ?_
  have hc5 : sCo S < 5 := hok.2.2.2.2.1
  rcases (show sCo S = 0 ∨ sCo S = 1 ∨ sCo S = 2 ∨ sCo S = 3 ∨ sCo S = 4 by omega) with hco | hco | hco | hco | hco
  · refine W.eq (g2 := F0 m 13 ls [.ref (gC g 0)]) (by rw [hco]) ?_
    refine vp_callSi (va_Run.run (va_runU (As := []) (rest := []) ⟨hx, hb, hml, hown, hts⟩ (met_J0_ordinalC l g 0 (by decide)) (va_cwU 0 hts (lw_U q177 q178 q180 q185 q16 q186) rfl rfl rfl rfl (by decide +kernel) ⟨Nat.le_of_ble_eq_true rfl, Nat.le_of_ble_eq_true rfl⟩) (gg_preV hG (hS.kp hG hAN) (gg_recvC hG (hS.kp hG hAN) (by decide : 0 < 5)) trivial) rfl rfl hl.1 rfl (lv_room (Nat.le_of_ble_eq_true rfl)) dX1_ring_13 ⟨Nat.le_of_ble_eq_true rfl, Nat.le_of_ble_eq_true rfl⟩)) (fun r_o hr_o => ?_)
    rw [show r_o = nI (sCo S) by rw [hr_o, hco]]
    refine lv_istore_n (lv' := [(2, .int (nI (sCo S))), (0, .ref x), (1, .int (nI n))]) hx hb dX1_ring_16 rfl hl (by decide) rfl (fun ls hl => ?_)
    exact rest ls (lv_sub hl [0, 1, 2] rfl)
  · refine W.eq (g2 := F0 m 13 ls [.ref (gC g 1)]) (by rw [hco]) ?_
    refine vp_callSi (va_Run.run (va_runU (As := []) (rest := []) ⟨hx, hb, hml, hown, hts⟩ (met_J0_ordinalC l g 1 (by decide)) (va_cwU 0 hts (lw_U q177 q178 q181 q185 q16 q186) rfl rfl rfl rfl (by decide +kernel) ⟨Nat.le_of_ble_eq_true rfl, Nat.le_of_ble_eq_true rfl⟩) (gg_preV hG (hS.kp hG hAN) (gg_recvC hG (hS.kp hG hAN) (by decide : 1 < 5)) trivial) rfl rfl hl.1 rfl (lv_room (Nat.le_of_ble_eq_true rfl)) dX1_ring_13 ⟨Nat.le_of_ble_eq_true rfl, Nat.le_of_ble_eq_true rfl⟩)) (fun r_o hr_o => ?_)
    rw [show r_o = nI (sCo S) by rw [hr_o, hco]]
    refine lv_istore_n (lv' := [(2, .int (nI (sCo S))), (0, .ref x), (1, .int (nI n))]) hx hb dX1_ring_16 rfl hl (by decide) rfl (fun ls hl => ?_)
    exact rest ls (lv_sub hl [0, 1, 2] rfl)
  · refine W.eq (g2 := F0 m 13 ls [.ref (gC g 2)]) (by rw [hco]) ?_
    refine vp_callSi (va_Run.run (va_runU (As := []) (rest := []) ⟨hx, hb, hml, hown, hts⟩ (met_J0_ordinalC l g 2 (by decide)) (va_cwU 0 hts (lw_U q177 q178 q182 q185 q16 q186) rfl rfl rfl rfl (by decide +kernel) ⟨Nat.le_of_ble_eq_true rfl, Nat.le_of_ble_eq_true rfl⟩) (gg_preV hG (hS.kp hG hAN) (gg_recvC hG (hS.kp hG hAN) (by decide : 2 < 5)) trivial) rfl rfl hl.1 rfl (lv_room (Nat.le_of_ble_eq_true rfl)) dX1_ring_13 ⟨Nat.le_of_ble_eq_true rfl, Nat.le_of_ble_eq_true rfl⟩)) (fun r_o hr_o => ?_)
    rw [show r_o = nI (sCo S) by rw [hr_o, hco]]
    refine lv_istore_n (lv' := [(2, .int (nI (sCo S))), (0, .ref x), (1, .int (nI n))]) hx hb dX1_ring_16 rfl hl (by decide) rfl (fun ls hl => ?_)
    exact rest ls (lv_sub hl [0, 1, 2] rfl)
  · refine W.eq (g2 := F0 m 13 ls [.ref (gC g 3)]) (by rw [hco]) ?_
    refine vp_callSi (va_Run.run (va_runU (As := []) (rest := []) ⟨hx, hb, hml, hown, hts⟩ (met_J0_ordinalC l g 3 (by decide)) (va_cwU 0 hts (lw_U q177 q178 q183 q185 q16 q186) rfl rfl rfl rfl (by decide +kernel) ⟨Nat.le_of_ble_eq_true rfl, Nat.le_of_ble_eq_true rfl⟩) (gg_preV hG (hS.kp hG hAN) (gg_recvC hG (hS.kp hG hAN) (by decide : 3 < 5)) trivial) rfl rfl hl.1 rfl (lv_room (Nat.le_of_ble_eq_true rfl)) dX1_ring_13 ⟨Nat.le_of_ble_eq_true rfl, Nat.le_of_ble_eq_true rfl⟩)) (fun r_o hr_o => ?_)
    rw [show r_o = nI (sCo S) by rw [hr_o, hco]]
    refine lv_istore_n (lv' := [(2, .int (nI (sCo S))), (0, .ref x), (1, .int (nI n))]) hx hb dX1_ring_16 rfl hl (by decide) rfl (fun ls hl => ?_)
    exact rest ls (lv_sub hl [0, 1, 2] rfl)
  · refine W.eq (g2 := F0 m 13 ls [.ref (gC g 4)]) (by rw [hco]) ?_
    refine vp_callSi (va_Run.run (va_runU (As := []) (rest := []) ⟨hx, hb, hml, hown, hts⟩ (met_J0_ordinalC l g 4 (by decide)) (va_cwU 0 hts (lw_U q177 q178 q184 q185 q16 q186) rfl rfl rfl rfl (by decide +kernel) ⟨Nat.le_of_ble_eq_true rfl, Nat.le_of_ble_eq_true rfl⟩) (gg_preV hG (hS.kp hG hAN) (gg_recvC hG (hS.kp hG hAN) (by decide : 4 < 5)) trivial) rfl rfl hl.1 rfl (lv_room (Nat.le_of_ble_eq_true rfl)) dX1_ring_13 ⟨Nat.le_of_ble_eq_true rfl, Nat.le_of_ble_eq_true rfl⟩)) (fun r_o hr_o => ?_)
    rw [show r_o = nI (sCo S) by rw [hr_o, hco]]
    refine lv_istore_n (lv' := [(2, .int (nI (sCo S))), (0, .ref x), (1, .int (nI n))]) hx hb dX1_ring_16 rfl hl (by decide) rfl (fun ls hl => ?_)
    exact rest ls (lv_sub hl [0, 1, 2] rfl)

set_option maxHeartbeats 4000000 in
theorem met_X1_come (l : Launch) (g : GT) (T x b sz : Nat) (S : BS) (F : Nat → Prop) (hok : OKS T S) (hFsz : ∀ q, F q → q < sz) (ba mi : Int32) (hba : ba = 0 ∨ ba = 1) (h1 : 1 ≤ mi) (h2 : mi ≤ 6) (hn39 : sN S < 40) : Met l yX1_come (ws_ yX1_come cX1_come 3 (Option.some Jvm.ClassFile.FieldType.int)) ({ frames := 10, cells := 2, slots := 67, locals := 344 } : Room) (PcG g [.ref x, .int ba, .int mi] (fun H => H.size = sz ∧ XB g F x b S H)) (va_Qi (fun (r : Int32) (_ : Unit) => r = nI (sN S)) (fun _ u => XB g (fun q => F q ∨ (sz ≤ q ∧ q < u.heap.size)) x b (sCome S ba mi) u.heap) (fun q => F q ∨ sz ≤ q)) 2 67 (fun q => F q ∨ sz ≤ q) := by
  refine gg_met (cc := cX1_come) (maxL := 3) (ret := (Option.some Jvm.ClassFile.FieldType.int)) (by decide) (Nat.le_of_ble_eq_true rfl) ?_
  intro p e s m below meth c hx hb hr hlk hin hml hown hts hG hB ls hl
  have hown : s.vm.findClass RX1 = some m.cls := hown
  have hl : lv_has ls 3 [(0, .ref x), (1, .int ba), (2, .int mi)] := hl
  obtain ⟨hsz, h_x, ⟨cd, al, el, cap, mc, arr, ad, hX⟩, hFx⟩ := hB
  have hN : ∀ q, sz ≤ q → gA g q := fun q e => Nat.le_trans (by rw [← hsz]; exact hG.sz) e
  have hAN : ∀ q, F q ∨ sz ≤ q → gA g q := fun q e => e.elim (hX.2.2.2.2.2.2.2.2.1 q) (hN q)
  have hS : va_S (fun q => F q ∨ sz ≤ q) s.heap s.heap [] := va_S.rf
  have hFb : F b := hX.2.2.2.2.2.2.2.1.1
  have hxb : x ≠ b := fun e => hFx (e ▸ hFb)
  have hn40 : sN S ≤ 40 := hok.2.2.2.2.2.2.2.1
  have hxsz : x < sz := by rw [← hsz]; exact h_x.lt
  have hFcd : F cd := hX.2.2.2.2.2.2.2.1.2.1
  have hFt : ∀ k, k < sN S → F (ad k) := hX.2.2.2.2.2.2.2.1.2.2.2.2
  refine lv_iconst (v := 1) hx hb dX1_come_0 (by decide) ?_
  refine lv_bipush (v := 6) hx hb dX1_come_1 (by decide) ?_
  refine lv_iload_n hx hb dX1_come_3 rfl (lv_at hl 2 rfl) ?_
  refine va_csv (va_Run.run (va_runS (As := [.int 1, .int 6, .int mi]) (rest := []) ⟨hx, hb, hml, hown, hts⟩ (met_X1_requireFrom l g 1 6 mi h1 h2) (va_cwS 3 hts (lw_S q267 q268 q14 q269) rfl rfl rfl (by decide +kernel) ⟨Nat.le_of_ble_eq_true rfl, Nat.le_of_ble_eq_true rfl⟩) (gg_preS hG (hS.kp hG hAN) trivial) rfl rfl hl.1 rfl (lv_room (Nat.le_of_ble_eq_true rfl)) dX1_come_4 ⟨Nat.le_of_ble_eq_true rfl, Nat.le_of_ble_eq_true rfl⟩)) (fun _ => ?_)
  refine lv_aload_n hx hb dX1_come_7 rfl (lv_at hl 0 rfl) ?_
  refine gg_get (ci := 0) (C := RX1) (T := TX1) (N := 1) (v := .ref b) hx hb hts in_X1 hown hG h_x rfl 0 (by decide) q115 rfl rfl dX1_come_8 ?_
  refine gg_getN (ci := 1) (C := RX2) (T := TX2) (N := 8) (v := .ref al) hx hb hts in_X2 hown hG hX.1 rfl 7 (by decide) q97 rfl rfl dX1_come_11 ?_
  refine vp_callSi (va_Run.run (va_runV (As := []) (rest := []) ⟨hx, hb, hml, hown, hts⟩ (met_J3_size l g al el (sN S) mc) (cwV 0 hts (lw_V q166 q148 q149 q20 q150) rfl rfl rfl (by decide +kernel) ⟨Nat.le_of_ble_eq_true rfl, Nat.le_of_ble_eq_true rfl⟩) (gg_preV hG (hS.kp hG hAN) (gg_recv hG hX.2.2.1 rfl) hX.2.2.1) rfl rfl hl.1 rfl (lv_room (Nat.le_of_ble_eq_true rfl)) dX1_come_14 ⟨Nat.le_of_ble_eq_true rfl, Nat.le_of_ble_eq_true rfl⟩)) (fun r_z hr_z => ?_)
  refine lv_bipush (v := 40) hx hb dX1_come_17 (by decide) ?_
  refine lv_icmp_ge (tgt := 26) hx hb dX1_come_19 (by decide) (fun c_19 => absurd c_19 (by rw [hr_z]; exact nI_ge (b := 40) hn39 (by decide))) (fun c_19 => ?_)
  refine lv_iconst (v := 1) hx hb dX1_come_22 (by decide) ?_
  refine lv_goto (tgt := 27) hx hb dX1_come_23 (by decide) ?_
  refine va_csv (va_Run.run (va_runS (As := [.int 1]) (rest := []) ⟨hx, hb, hml, hown, hts⟩ (met_X1_requireState l g 1 (by decide)) (va_cwS 1 hts (lw_S q338 q339 q14 q340) rfl rfl rfl (by decide +kernel) ⟨Nat.le_of_ble_eq_true rfl, Nat.le_of_ble_eq_true rfl⟩) (gg_preS hG (hS.kp hG hAN) trivial) rfl rfl hl.1 rfl (lv_room (Nat.le_of_ble_eq_true rfl)) dX1_come_27 ⟨Nat.le_of_ble_eq_true rfl, Nat.le_of_ble_eq_true rfl⟩)) (fun _ => ?_)
  refine lv_aload_n hx hb dX1_come_30 rfl (lv_at hl 0 rfl) ?_
  refine gg_get (ci := 0) (C := RX1) (T := TX1) (N := 1) (v := .ref b) hx hb hts in_X1 hown hG h_x rfl 0 (by decide) q115 rfl rfl dX1_come_31 ?_
  refine gg_getN (ci := 1) (C := RX2) (T := TX2) (N := 8) (v := .ref al) hx hb hts in_X2 hown hG hX.1 rfl 7 (by decide) q97 rfl rfl dX1_come_34 ?_
  refine gg_new (C := RX6) (T := TX6) (N := 7) (ci := 2) (fs := [.int 0, .int 0, .int 0, .null, .int 0, .int 0, .int 0]) hx hb hts in_X6 tyX6 tyX6_ok hown q251 q356 q28 hG hS rfl (fun j hj => by rcases (show j = 0 ∨ j = 1 ∨ j = 2 ∨ j = 3 ∨ j = 4 ∨ j = 5 ∨ j = 6 by omega) with rfl | rfl | rfl | rfl | rfl | rfl | rfl <;> rfl) (Nat.le_of_ble_eq_true rfl) (Nat.le_of_ble_eq_true rfl) dX1_come_37 (fun nq H hnq h_nq hgr hS => ?_)
  rw [hsz] at hnq
  have hX := hX.keptL (fun q h _ => hgr.2 q h)
  have h_x := h_x.grow hgr
  have hszH : H.size = sz + 1 := by rw [hgr.1, hsz]
  refine lv_dup hx hb dX1_come_40 rfl ?_
  refine lv_iload_n hx hb dX1_come_41 rfl (lv_at hl 1 rfl) ?_
  refine lv_iload_n hx hb dX1_come_42 rfl (lv_at hl 2 rfl) ?_
  refine lv_aload_n hx hb dX1_come_43 rfl (lv_at hl 0 rfl) ?_
  refine gg_get (ci := 0) (C := RX1) (T := TX1) (N := 1) (v := .ref b) hx hb hts in_X1 hown hG h_x rfl 0 (by decide) q115 rfl rfl dX1_come_44 ?_
  refine gg_getN (ci := 1) (C := RX2) (T := TX2) (N := 8) (v := .int (sMi S)) hx hb hts in_X2 hown hG hX.1 rfl 0 (by decide) q83 rfl rfl dX1_come_47 ?_
  refine va_callv (va_runI (As := [.int ba, .int mi, .int (sMi S)]) (rest := [.ref nq, .ref al]) ⟨hx, hb, hml, hown, hts⟩ (met_X6_init l g nq ba mi (sMi S) hba) (cwI 3 hts (lw_meth q359) rfl rfl rfl (hts _ q28) (hts _ q357) (hts _ q358) rfl (by decide +kernel) ⟨Nat.le_of_ble_eq_true rfl, Nat.le_of_ble_eq_true rfl⟩) (gg_preS hG (hS.kp hG hAN) ⟨h_nq, hN _ (by omega)⟩) rfl rfl hl.1 rfl (lv_room (Nat.le_of_ble_eq_true rfl)) dX1_come_50 ⟨Nat.le_of_ble_eq_true rfl, Nat.le_of_ble_eq_true rfl⟩) hS (fun q _ e => Or.inr (by rw [show q = nq from e]; omega)) (fun (q : Nat) e => Or.inr (by rw [show q = nq from e]; omega)) (fun u t9 H1 locs ht hvm _ h_nq hz1 hk1 hS => ?_)
  rw [ht] at h_nq
  have hX := hX.keptL (fun q h hF => hk1 q h (by have := hFsz q hF; show ¬ q = nq; omega))
  have h_x := h_x.kept (hk1 x h_x.lt (show ¬ x = nq by omega))
  have hz1 : sz + 1 ≤ H1.size := by rw [← hszH]; exact hz1
  clear hszH
  generalize H1 = H at hX h_x h_nq hS hz1 ⊢
  have hFa : F al := hX.2.2.2.2.2.2.2.1.2.2.1
  have hFe : 0 < sN S → F el := hX.2.2.2.2.2.2.2.1.2.2.2.1
  have hqa : nq ≠ al := by have := hFsz _ hFa; omega
  have hqe : 0 < sN S → nq ≠ el := fun h => by have := hFsz _ (hFe h); omega
  refine va_calli (va_runV (As := [.ref nq]) (rest := []) ⟨hx, hb, hml, hown, hts⟩ (met_J3_add l g al el (sN S) cap nq H.size mc arr (ba, mi, sMi S, 0, 0, 0, -1) (by omega)) (cwV 1 hts (lw_V q393 q394 q395 q20 q396) rfl rfl rfl (by decide +kernel) ⟨Nat.le_of_ble_eq_true rfl, Nat.le_of_ble_eq_true rfl⟩) (gg_preV hG (hS.kp hG hAN) (gg_recv hG hX.2.2.1 rfl) ⟨rfl, hX.lx, h_nq, hqa, hqe⟩) rfl rfl hl.1 rfl (lv_room (Nat.le_of_ble_eq_true rfl)) dX1_come_53 ⟨Nat.le_of_ble_eq_true rfl, Nat.le_of_ble_eq_true rfl⟩) hS (fun q _ e => by rcases (show q = al ∨ (0 < sN S ∧ q = el) ∨ H.size ≤ q from e) with e | ⟨e1, e⟩ | e; exact Or.inl (by rw [e]; exact hFa); exact Or.inl (by rw [e]; exact hFe e1); exact Or.inr (by omega)) (fun (q : Nat) e => by rcases (show q = al ∨ (0 < sN S ∧ q = el) ∨ H.size ≤ q from e) with e | ⟨e1, e⟩ | e; exact Or.inl (by rw [e]; exact hFa); exact Or.inl (by rw [e]; exact hFe e1); exact Or.inr (by omega)) (fun r_a u t9 H1 locs ht hvm _ hB1 hz2 hk1 hS => ?_)
  rw [ht] at hB1
  obtain ⟨el2, cap2, arr2, e1, e2, e3, e4, e5, e6, e7⟩ := hB1
  have h_x := h_x.kept (hk1 x h_x.lt (fun e => by rcases (show x = al ∨ (0 < sN S ∧ x = el) ∨ H.size ≤ x from e) with e | ⟨f1, e⟩ | e; exact hFx (e ▸ hFa); exact hFx (e ▸ hFe f1); omega))
  have hql : nq < H.size := h_nq.lt
  have h_nq := h_nq.kept (hk1 nq hql (fun e => by rcases (show nq = al ∨ (0 < sN S ∧ nq = el) ∨ H.size ≤ nq from e) with e | ⟨f1, e⟩ | e; exact hqa e; exact hqe f1 e; omega))
  have hX := hX.monoF (F1 := fun q => F q ∨ (sz ≤ q ∧ q < H1.size)) (fun q h => Or.inl h) (fun q e => e.elim (hX.2.2.2.2.2.2.2.2.1 q) (fun e => hN q e.1))
  have hX := hX.add e1 e2 e3 e4 e5 e6 e7 h_nq hk1 hql (by have := hFsz _ hFb; omega) (by have := hFsz _ hFcd; omega) hqa hqe (fun k hk => by have := hFsz _ (hFt k hk); omega) (Or.inr ⟨by omega, h_nq.lt⟩) (by rcases e7 with ⟨f1, e⟩ | e; exact Or.inl (e ▸ hFe f1); exact Or.inr ⟨by omega, e2.lt⟩)
  have hFx : ¬ (F x ∨ (sz ≤ x ∧ x < H1.size)) := fun e => e.elim hFx (fun e => by omega)
  generalize H1 = H at hX h_x hS hFx ⊢
  refine lv_pop hx hb dX1_come_56 rfl ?_
  refine lv_aload_n hx hb dX1_come_57 rfl (lv_at hl 0 rfl) ?_
  refine gg_get (ci := 0) (C := RX1) (T := TX1) (N := 1) (v := .ref b) hx hb hts in_X1 hown hG h_x rfl 0 (by decide) q115 rfl rfl dX1_come_58 ?_
  refine gg_getN (ci := 1) (C := RX2) (T := TX2) (N := 8) (v := .ref al) hx hb hts in_X2 hown hG hX.1 rfl 7 (by decide) q97 rfl rfl dX1_come_61 ?_
  refine vp_callSi (va_Run.run (va_runV (As := []) (rest := []) ⟨hx, hb, hml, hown, hts⟩ (met_J3_size l g al el2 (sN S + 1) (mc + 1)) (cwV 0 hts (lw_V q166 q148 q149 q20 q150) rfl rfl rfl (by decide +kernel) ⟨Nat.le_of_ble_eq_true rfl, Nat.le_of_ble_eq_true rfl⟩) (gg_preV hG (hS.kp hG hAN) (gg_recv hG hX.2.2.1 rfl) hX.2.2.1) rfl rfl hl.1 rfl (lv_room (Nat.le_of_ble_eq_true rfl)) dX1_come_64 ⟨Nat.le_of_ble_eq_true rfl, Nat.le_of_ble_eq_true rfl⟩)) (fun r_z2 hr_z2 => ?_)
  refine lv_iconst (v := 1) hx hb dX1_come_67 (by decide) ?_
  refine lv_isub hx hb dX1_come_68 ?_
  rw [show r_z2 - 1 = nI (sN S) by rw [hr_z2]; exact nI_pred _]
  refine W.widen (k := 2) (n := 67) (by decide) (by decide) ?_
  exact W.iret (v := (nI (sN S))) hx hb hr (fun t9 h9 hW9 => ⟨⟨_, (), rfl, rfl, by dsimp only; rw [h9]; exact ⟨h_x, ⟨_, _, _, _, _, _, _, hX⟩, hFx⟩⟩, hS.F h9⟩) hS.2.2 dX1_come_69
