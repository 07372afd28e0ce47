/-! THE COMPONENT LOOKS AHEAD: when, foresee, bestCode, bestPoise; it is made. -/
set_option maxRecDepth 100000
theorem bServe_n (S : BS) (k : Nat) : sN (bServe S k) = sN S := by
  unfold bServe
  split
  · rfl
  · split <;> rfl
theorem bStep_n (S : BS) : sN (bStep S) = sN S := by
  show sN (bServed S) = sN S
  unfold bServed
  split
  · rfl
  · exact bServe_n S _
theorem bRun_n (S : BS) : ∀ k, sN (bRun S k) = sN S
  | 0 => rfl
  | k + 1 => (bStep_n _).trans (bRun_n S k)
def bWhen (S : BS) (k : Nat) : Int32 := srch (fun j => decide (tSt (sTv (bRun S j) k) = 2)) 401 0
def bFore (S : BS) (n w : Nat) : Int32 := if w = 0 then bPassed (bRun S n) - bPassed S else if w = 1 then bWaited (bRun S n) - bWaited S else if w = 2 then sAn (bRun S n) else sIc (bRun S n)
/-- the least place of those with the least number, and that number -/
def bst (f : Nat → Int32) : Nat → Int32 × Int32
  | 0 => (-1, 0)
  | k + 1 => if (bst f k).1 = -1 then (nI k, f k) else if f k < (bst f k).2 then (nI k, f k) else bst f k
def fCode (S : BS) (n : Nat) (k : Nat) : Int32 := bWaited (bRun (sCod S k) n)
def fPoise (S : BS) (n : Nat) (k : Nat) : Int32 := bWaited (bRun (sPoi S (nI k)) n)
theorem OKS_code {T : Nat} {S : BS} {k : Nat} (h : OKS T S) (hk : k < 5) : OKS T (sCod S k) := by
  obtain ⟨h1, h2, h3, h4, h5, h6⟩ := h
  exact ⟨h1, h2, h3, h4, hk, h6⟩
theorem OKS_poise {T : Nat} {S : BS} {v : Int32} (h : OKS T S) (h0 : 0 ≤ v) (h30 : v ≤ 30) : OKS T (sPoi S v) := by
  obtain ⟨h1, h2, h3, h4⟩ := h
  exact ⟨h1, h2, ⟨h0, h30⟩, h4⟩

set_option maxHeartbeats 4000000 in
theorem met_X1_when (l : Launch) (g : GT) (T x b sz : Nat) (S : BS) (F : Nat → Prop) (hok : OKS T S) (hFsz : ∀ q, F q → q < sz) (k : Nat) (hk : k < sN S) (hT : T < 2 ^ 29) : Met l yX1_when (ws_ yX1_when cX1_when 4 (Option.some Jvm.ClassFile.FieldType.int)) ({ frames := 11, cells := 83, slots := 2699, locals := 366 } : Room) (PcG g [.ref x, .int (nI k)] (fun H => H.size = sz ∧ XB g F x b S H)) (va_Qi (fun (r : Int32) (_ : Unit) => r = bWhen S k) (fun _ u => XB g F x b S u.heap) (fun q => F q ∨ sz ≤ q)) 83 2699 (fun q => (F q ∨ sz ≤ q)) := by
  refine gg_met (cc := cX1_when) (maxL := 4) (ret := (Option.some Jvm.ClassFile.FieldType.int)) (by decide) (Nat.le_of_ble_eq_true rfl) ?_
  intro p e s m below meth c hx hb hr hlk hin hml hown hts hG hB ls hl
  have hown : s.vm.findClass RX1 = some m.cls := hown
  have hl : lv_has ls 4 [(0, .ref x), (1, .int (nI k))] := hl
  obtain ⟨hsz, h_x, ⟨cd, al, el, cap, mc, arr, ad, hX⟩, hFx⟩ := hB
  have hN : ∀ q, sz ≤ q → gA g q := fun q e => Nat.le_trans (by rw [← hsz]; exact hG.sz) e
  have hAN : ∀ q, F q ∨ sz ≤ q → gA g q := fun q e => e.elim (hX.2.2.2.2.2.2.2.2.1 q) (hN q)
  have hS : va_S (fun q => F q ∨ sz ≤ q) s.heap s.heap [] := va_S.rf
  have hFb : F b := hX.2.2.2.2.2.2.2.1.1
  have hxb : x ≠ b := fun e => hFx (e ▸ hFb)
  have hn40 : sN S ≤ 40 := hok.2.2.2.2.2.2.2.1
  have hxsz : x < sz := by rw [← hsz]; exact h_x.lt
  refine lv_aload_n hx hb dX1_when_0 rfl (lv_at hl 0 rfl) ?_
  refine gg_get (ci := 0) (C := RX1) (T := TX1) (N := 1) (v := .ref b) hx hb hts in_X1 hown hG h_x rfl 0 (by decide) q115 rfl rfl dX1_when_1 ?_
  refine gg_getN (ci := 1) (C := RX2) (T := TX2) (N := 8) (v := .ref al) hx hb hts in_X2 hown hG hX.1 rfl 7 (by decide) q97 rfl rfl dX1_when_4 ?_
  refine lv_iload_n hx hb dX1_when_7 rfl (lv_at hl 1 rfl) ?_
  refine va_csr (va_Run.run (va_runS (As := [.ref al, .int (nI k)]) (rest := []) ⟨hx, hb, hml, hown, hts⟩ (met_X1_known l g al el (sN S) cap k (ad k) mc arr hk hX.2.2.2.2.2.1 (by have := hX.2.2.2.2.2.2.1; omega) (hX.2.2.2.2.1 k hk).1) (va_cwS 2 hts (lw_S q492 q493 q14 q494) rfl rfl rfl (by decide +kernel) ⟨Nat.le_of_ble_eq_true rfl, Nat.le_of_ble_eq_true rfl⟩) (gg_preS hG (hS.kp hG hAN) ⟨hX.2.2.1, hX.2.2.2.1 (by omega)⟩) rfl rfl hl.1 rfl (lv_room (Nat.le_of_ble_eq_true rfl)) dX1_when_8 ⟨Nat.le_of_ble_eq_true rfl, Nat.le_of_ble_eq_true rfl⟩)) (fun a_k ha_k => ?_)
  subst ha_k
  refine lv_pop hx hb dX1_when_11 rfl ?_
  refine lv_aload_n hx hb dX1_when_12 rfl (lv_at hl 0 rfl) ?_
  refine gg_get (ci := 0) (C := RX1) (T := TX1) (N := 1) (v := .ref b) hx hb hts in_X1 hown hG h_x rfl 0 (by decide) q115 rfl rfl dX1_when_13 ?_
  refine va_callr (va_runV (As := []) (rest := []) ⟨hx, hb, hml, hown, hts⟩ (met_X2_copy l g T b sz S F hok hFsz) (cwV 0 hts (lw_V q622 q623 q624 q15 q625) rfl rfl rfl (by decide +kernel) ⟨Nat.le_of_ble_eq_true rfl, Nat.le_of_ble_eq_true rfl⟩) (gg_preV hG (hS.kp hG hAN) (gg_recv hG hX.1 rfl) ⟨hsz, _, _, _, _, _, _, _, hX⟩) rfl rfl hl.1 rfl (lv_room (Nat.le_of_ble_eq_true rfl)) dX1_when_16 ⟨Nat.le_of_ble_eq_true rfl, Nat.le_of_ble_eq_true rfl⟩) hS (fun q _ e => e.elim Or.inl (fun e => Or.inr ((fun e => e) e))) (fun q e => e.elim Or.inl (fun e => Or.inr ((fun e => e) e))) (fun u ra t9 H1 locs ht hvm _ hB1 hz1 hk1 hS => ?_)
  rw [ht] at hB1
  obtain ⟨⟨cd, al, el, cap, mc, arr, ad, hX⟩, hY⟩ := hB1
  have h_x := h_x.kept (hk1 x h_x.lt (fun e => e.elim hFx (fun e => by omega)))
  have hz1 : sz ≤ H1.size := by rw [← hsz]; exact hz1
  generalize H1 = H at hX hY h_x hS hz1 ⊢
  refine lv_astore_n (lv' := [(2, .ref ra), (0, .ref x), (1, .int (nI k))]) hx hb dX1_when_19 rfl hl (by decide) rfl (fun ls hl => ?_)
  refine lv_iconst (v := 0) hx hb dX1_when_20 (by decide) ?_
  refine lv_istore_n (lv' := [(3, .int 0), (2, .ref ra), (0, .ref x), (1, .int (nI k))]) hx hb dX1_when_21 rfl hl (by decide) rfl (fun ls hl => ?_)
  have loop : ∀ (d j : Nat), j ≤ 401 → 402 ≤ j + d → bWhen S k = srch (fun j => decide (tSt (sTv (bRun S j) k) = 2)) (401 - j) j → ∀ (H : Heap) (locs : List Loc), XB g F x b S H → BW g (fun q => sz ≤ q) ra (bRun S j) H → va_S (fun q => (F q ∨ sz ≤ q)) s.heap H locs → ∀ ls : Array Slot, lv_has ls 4 [(3, .int (nI j)), (0, .ref x), (1, .int (nI k)), (2, .ref ra)] → W p l e ({ frames := 11, cells := 83, slots := 2699, locals := 366 } : Room) s m ([.ref x, .int (nI k)] : List Value).toArray below meth c H locs (0 + 83) (0 + 2699) (MQ below (va_Qi (fun (r : Int32) (_ : Unit) => r = bWhen S k) (fun _ u => XB g F x b S u.heap) (fun q => F q ∨ sz ≤ q)) ([.ref x, .int (nI k)] : List Value).toArray s 83 2699 (fun q => (F q ∨ sz ≤ q))) (F0 m 22 ls []) := by
    clear hX h_x hY hS hz1
    intro d
    induction d with
    | zero => intro j h1 h2; exact absurd h2 (by omega)
    | succ d ih =>
      intro j hj hjd hI H locs hXB hY hS ls hl
      have hY0 := hY
      obtain ⟨cd1, al1, el1, cap1, mc1, arr1, ad1, hY⟩ := hY
      have hn1 : sN (bRun S j) = sN S := bRun_n S j
      have hk1 : k < sN (bRun S j) := by omega
      refine lv_iload_n hx hb dX1_when_22 rfl (lv_at hl 0 rfl) ?_
      refine lv_sipush (v := 400) hx hb dX1_when_23 (by decide) ?_
      refine lv_icmp_gt (tgt := 61) hx hb dX1_when_26 (by decide) (fun c_26 => ?_) (fun c_26 => ?_)
      · have hj4 : j = 401 := by rcases Nat.lt_or_ge j 401 with q | q; exact absurd (show nI 400 < nI j from c_26) (nI_nlt (by omega) (by decide)); omega
        refine lv_iconst (v := (-1)) hx hb dX1_when_61 (by decide) ?_
        exact W.iret (v := (-1)) hx hb hr (fun t9 h9 hW9 => ⟨⟨_, (), rfl, (by rw [hI, hj4]; rfl), by dsimp only; rw [h9]; exact hXB⟩, hS.F h9⟩) hS.2.2 dX1_when_62
      · have hj4 : j < 401 := by rcases Nat.lt_or_ge j 401 with q | q; exact q; exact absurd (show nI 400 < nI j from nI_lt (by omega) (by omega)) c_26
        refine lv_aload_n hx hb dX1_when_29 rfl (lv_at hl 3 rfl) ?_
        refine gg_getN (ci := 1) (C := RX2) (T := TX2) (N := 8) (v := .ref al1) hx hb hts in_X2 hown hG hY.1 rfl 7 (by decide) q97 rfl rfl dX1_when_30 ?_
        refine lv_iload_n hx hb dX1_when_33 rfl (lv_at hl 2 rfl) ?_
        refine va_csr (va_Run.run (va_runV (As := [.int (nI k)]) (rest := []) ⟨hx, hb, hml, hown, hts⟩ (met_J3_get l g al1 el1 (sN (bRun S j)) cap1 k (ad1 k) mc1 arr1 hk1 hY.2.2.2.2.2.1 (by have := hY.2.2.2.2.2.2.1; omega) (hY.2.2.2.2.1 k hk1).1) (cwV 1 hts (lw_V q250 q152 q153 q20 q154) rfl rfl rfl (by decide +kernel) ⟨Nat.le_of_ble_eq_true rfl, Nat.le_of_ble_eq_true rfl⟩) (gg_preV hG (hS.kp hG hAN) (gg_recv hG hY.2.2.1 rfl) ⟨hY.2.2.1, hY.2.2.2.1 (by omega)⟩) rfl rfl hl.1 rfl (lv_room (Nat.le_of_ble_eq_true rfl)) dX1_when_34 ⟨Nat.le_refl _, Nat.le_refl _⟩)) (fun a_1 ha_1 => ?_)
        subst ha_1
        refine va_castS hx hb hown (hts _ q251) (hG.k.1 2 _ rfl).2 (gg_recv hG (hY.2.2.2.2.1 k hk1).2 rfl) dX1_when_37 ?_
        refine gg_getS hx hb hts hown hG (hS.kp hG hAN) 2 (by decide) rfl q636 dX1_when_40 ?_
        refine vp_callSi (va_Run.run (va_runV (As := [.ref (gS g 2)]) (rest := []) ⟨hx, hb, hml, hown, hts⟩ (met_X6_is l g (ad1 k) (sTv (bRun S j) k) 2 ((OKS_run hok j).2.2.2.2.2.2.2.2.1 k hk1).2.2.1 (by decide)) (cwV 1 hts (lw_V q529 q194 q195 q28 q196) rfl rfl rfl (by decide +kernel) ⟨Nat.le_of_ble_eq_true rfl, Nat.le_of_ble_eq_true rfl⟩) (gg_preV hG (hS.kp hG hAN) (gg_recv hG (hY.2.2.2.2.1 k hk1).2 rfl) (hY.2.2.2.2.1 k hk1).2) rfl rfl hl.1 rfl (lv_room (Nat.le_of_ble_eq_true rfl)) dX1_when_43 ⟨Nat.le_refl _, Nat.le_refl _⟩)) (fun r_is hr_is => ?_)
        refine lv_if_eq (tgt := 51) hx hb dX1_when_46 (by decide) (fun c_46 => ?_) (fun c_46 => ?_)
        · refine lv_aload_n hx hb dX1_when_51 rfl (lv_at hl 3 rfl) ?_
          refine va_callv (va_runV (As := []) (rest := []) ⟨hx, hb, hml, hown, hts⟩ (met_X2_pass l g (T + j) ra (bRun S j) (fun q => sz ≤ q) (OKS_run hok j) (by omega)) (cwV 0 hts (lw_V q590 q591 q592 q15 q593) rfl rfl rfl (by decide +kernel) ⟨Nat.le_of_ble_eq_true rfl, Nat.le_of_ble_eq_true rfl⟩) (gg_preV hG (hS.kp hG hAN) (gg_recv hG hY.1 rfl) hY0) rfl rfl hl.1 rfl (lv_room (Nat.le_of_ble_eq_true rfl)) dX1_when_52 ⟨Nat.le_refl _, Nat.le_refl _⟩) hS (fun q _ e => Or.inr e) (fun q e => Or.inr e) (fun u t9 H1 locs ht hvm _ hY hz2 hk2 hS => ?_)
          rw [ht] at hY
          have hXB : XB g F x b S H1 := ⟨hXB.1.kept (hk2 x hXB.1.lt (show ¬ sz ≤ x by omega)), by obtain ⟨cd, al, el, cap, mc, arr, ad, hX⟩ := hXB.2.1; exact ⟨_, _, _, _, _, _, _, hX.keptL (fun q h hF => hk2 q h (by have := hFsz q hF; show ¬ sz ≤ q; omega))⟩, hFx⟩
          generalize H1 = H at hXB hY hS ⊢
          refine lv_iinc (v := nI (j + 1)) (lv' := [(3, .int (nI (j + 1))), (0, .ref x), (1, .int (nI k)), (2, .ref ra)]) hx hb dX1_when_55 hl (k := 0) rfl (nI_1 j) (by decide) rfl (fun ls hl => ?_)
          refine lv_goto (tgt := 22) hx hb dX1_when_58 (by decide) ?_
          exact ih (j + 1) (by omega) (by omega) (by rw [hI]; exact srch_f (n := 401) hj4 (by simpa using b01_f hr_is c_46)) _ _ hXB hY hS ls (lv_sub hl [0, 1, 2, 3] rfl)
        · refine lv_iload_n hx hb dX1_when_49 rfl (lv_at hl 0 rfl) ?_
          exact W.iret (v := (nI j)) hx hb hr (fun t9 h9 hW9 => ⟨⟨_, (), rfl, (by rw [hI]; exact (srch_t (n := 401) hj4 (by simpa using b01_t hr_is c_46)).symm), by dsimp only; rw [h9]; exact hXB⟩, hS.F h9⟩) hS.2.2 dX1_when_50
  exact loop 402 0 (by decide) (by decide) rfl _ _ ⟨h_x, ⟨_, _, _, _, _, _, _, hX⟩, hFx⟩ hY hS ls (lv_sub hl [0, 2, 3, 1] rfl)

set_option maxHeartbeats 4000000 in
theorem met_X1_foresee (l : Launch) (g : GT) (T x b sz : Nat) (S : BS) (F : Nat → Prop) (hok : OKS T S) (hFsz : ∀ q, F q → q < sz) (n w : Nat) (h1 : 1 ≤ n) (h2 : n ≤ 240) (hw : w < 4) (hT : T < 2 ^ 29) : Met l yX1_foresee (ws_ yX1_foresee cX1_foresee 4 (Option.some Jvm.ClassFile.FieldType.int)) ({ frames := 11, cells := 83, slots := 2699, locals := 366 } : Room) (PcG g [.ref x, .int (nI n), .int (nI w)] (fun H => H.size = sz ∧ XB g F x b S H)) (va_Qi (fun (r : Int32) (_ : Unit) => r = bFore S n w) (fun _ u => XB g F x b S u.heap) (fun q => F q ∨ sz ≤ q)) 83 2699 (fun q => (F q ∨ sz ≤ q)) := by
  refine gg_met (cc := cX1_foresee) (maxL := 4) (ret := (Option.some Jvm.ClassFile.FieldType.int)) (by decide) (Nat.le_of_ble_eq_true rfl) ?_
  intro p e s m below meth c hx hb hr hlk hin hml hown hts hG hB ls hl
  have hown : s.vm.findClass RX1 = some m.cls := hown
  have hl : lv_has ls 4 [(0, .ref x), (1, .int (nI n)), (2, .int (nI w))] := hl
  obtain ⟨hsz, h_x, ⟨cd, al, el, cap, mc, arr, ad, hX⟩, hFx⟩ := hB
  have hN : ∀ q, sz ≤ q → gA g q := fun q e => Nat.le_trans (by rw [← hsz]; exact hG.sz) e
  have hAN : ∀ q, F q ∨ sz ≤ q → gA g q := fun q e => e.elim (hX.2.2.2.2.2.2.2.2.1 q) (hN q)
  have hS : va_S (fun q => F q ∨ sz ≤ q) s.heap s.heap [] := va_S.rf
  have hFb : F b := hX.2.2.2.2.2.2.2.1.1
  have hxb : x ≠ b := fun e => hFx (e ▸ hFb)
  have hn40 : sN S ≤ 40 := hok.2.2.2.2.2.2.2.1
  have hxsz : x < sz := by rw [← hsz]; exact h_x.lt
  refine lv_iconst (v := 1) hx hb dX1_foresee_0 (by decide) ?_
  refine lv_sipush (v := 240) hx hb dX1_foresee_1 (by decide) ?_
  refine lv_iload_n hx hb dX1_foresee_4 rfl (lv_at hl 1 rfl) ?_
  refine va_csv (va_Run.run (va_runS (As := [.int 1, .int 240, .int (nI n)]) (rest := []) ⟨hx, hb, hml, hown, hts⟩ (met_X1_requireFrom l g 1 240 (nI n) (show nI 1 ≤ nI n from nI_le h1 (by omega)) (show nI n ≤ nI 240 from nI_le h2 (by decide))) (va_cwS 3 hts (lw_S q267 q268 q14 q269) rfl rfl rfl (by decide +kernel) ⟨Nat.le_of_ble_eq_true rfl, Nat.le_of_ble_eq_true rfl⟩) (gg_preS hG (hS.kp hG hAN) trivial) rfl rfl hl.1 rfl (lv_room (Nat.le_of_ble_eq_true rfl)) dX1_foresee_5 ⟨Nat.le_of_ble_eq_true rfl, Nat.le_of_ble_eq_true rfl⟩)) (fun _ => ?_)
  refine lv_iload_n hx hb dX1_foresee_8 rfl (lv_at hl 2 rfl) ?_
  refine lv_iconst (v := 4) hx hb dX1_foresee_9 (by decide) ?_
  refine va_csv (va_Run.run (va_runS (As := [.int (nI w), .int 4]) (rest := []) ⟨hx, hb, hml, hown, hts⟩ (met_X1_requireIndex l g w 4 hw (by decide)) (va_cwS 2 hts (lw_S q503 q504 q14 q505) rfl rfl rfl (by decide +kernel) ⟨Nat.le_of_ble_eq_true rfl, Nat.le_of_ble_eq_true rfl⟩) (gg_preS hG (hS.kp hG hAN) trivial) rfl rfl hl.1 rfl (lv_room (Nat.le_of_ble_eq_true rfl)) dX1_foresee_10 ⟨Nat.le_of_ble_eq_true rfl, Nat.le_of_ble_eq_true rfl⟩)) (fun _ => ?_)
  refine lv_aload_n hx hb dX1_foresee_13 rfl (lv_at hl 0 rfl) ?_
  refine gg_get (ci := 0) (C := RX1) (T := TX1) (N := 1) (v := .ref b) hx hb hts in_X1 hown hG h_x rfl 0 (by decide) q115 rfl rfl dX1_foresee_14 ?_
  refine va_callr (va_runV (As := []) (rest := []) ⟨hx, hb, hml, hown, hts⟩ (met_X2_copy l g T b sz S F hok hFsz) (cwV 0 hts (lw_V q622 q623 q624 q15 q625) rfl rfl rfl (by decide +kernel) ⟨Nat.le_of_ble_eq_true rfl, Nat.le_of_ble_eq_true rfl⟩) (gg_preV hG (hS.kp hG hAN) (gg_recv hG hX.1 rfl) ⟨hsz, _, _, _, _, _, _, _, hX⟩) rfl rfl hl.1 rfl (lv_room (Nat.le_of_ble_eq_true rfl)) dX1_foresee_17 ⟨Nat.le_of_ble_eq_true rfl, Nat.le_of_ble_eq_true rfl⟩) hS (fun q _ e => e.elim Or.inl (fun e => Or.inr ((fun e => e) e))) (fun q e => e.elim Or.inl (fun e => Or.inr ((fun e => e) e))) (fun u ra t9 H1 locs ht hvm _ hB1 hz1 hk1 hS => ?_)
  rw [ht] at hB1
  obtain ⟨⟨cd, al, el, cap, mc, arr, ad, hX⟩, hY⟩ := hB1
  have h_x := h_x.kept (hk1 x h_x.lt (fun e => e.elim hFx (fun e => by omega)))
  have hz1 : sz ≤ H1.size := by rw [← hsz]; exact hz1
  generalize H1 = H at hX hY h_x hS hz1 ⊢
  refine lv_iload_n hx hb dX1_foresee_20 rfl (lv_at hl 1 rfl) ?_
  refine va_callr (va_runS (As := [.ref ra, .int (nI n)]) (rest := []) ⟨hx, hb, hml, hown, hts⟩ (met_X1_pass_2 l g T ra n S (fun q => sz ≤ q) hok hT (by omega)) (va_cwS 2 hts (lw_S q587 q588 q14 q589) rfl rfl rfl (by decide +kernel) ⟨Nat.le_of_ble_eq_true rfl, Nat.le_of_ble_eq_true rfl⟩) (gg_preS hG (hS.kp hG hAN) hY) rfl rfl hl.1 rfl (lv_room (Nat.le_of_ble_eq_true rfl)) dX1_foresee_21 ⟨Nat.le_refl _, Nat.le_refl _⟩) hS (fun q _ e => Or.inr e) (fun q e => Or.inr e) (fun u rb t9 H1 locs ht hvm _ hB1 hz2 hk2 hS => ?_)
  rw [ht] at hB1
  obtain ⟨hrb, hY⟩ := hB1
  subst hrb
  have hX := hX.keptL (fun q h hF => hk2 q h (by have := hFsz q hF; show ¬ sz ≤ q; omega))
  have h_x := h_x.kept (hk2 x h_x.lt (show ¬ sz ≤ x by omega))
  have hz1 : sz ≤ H1.size := Nat.le_trans hz1 hz2
  obtain ⟨cd1, al1, el1, cap1, mc1, arr1, ad1, hY⟩ := hY
  generalize H1 = H at hX hY h_x hS hz1 ⊢
  refine lv_astore_n (lv' := [(3, .ref rb), (0, .ref x), (1, .int (nI n)), (2, .int (nI w))]) hx hb dX1_foresee_24 rfl hl (by decide) rfl (fun ls hl => ?_)
  rcases (show w = 0 ∨ w = 1 ∨ w = 2 ∨ w = 3 by omega) with rfl | rfl | rfl | rfl
  all_goals refine lv_iload_n hx hb dX1_foresee_25 rfl (lv_at hl 3 rfl) ?_
  · refine lv_tableIn (tgt := 52) hx hb dX1_foresee_26 (by decide) (by decide) rfl (by decide) ?_
    refine lv_aload_n hx hb dX1_foresee_52 rfl (lv_at hl 0 rfl) ?_
    refine vp_callSi (va_Run.run (va_runV (As := []) (rest := []) ⟨hx, hb, hml, hown, hts⟩ (met_X2_passed l g (T + n) rb (bRun S n)) (cwV 0 hts (lw_V q187 q188 q189 q15 q190) rfl rfl rfl (by decide +kernel) ⟨Nat.le_of_ble_eq_true rfl, Nat.le_of_ble_eq_true rfl⟩) (gg_preV hG (hS.kp hG hAN) (gg_recv hG hY.1 rfl) (hY.rb (OKS_run hok n))) rfl rfl hl.1 rfl (lv_room (Nat.le_of_ble_eq_true rfl)) dX1_foresee_53 ⟨Nat.le_refl _, Nat.le_refl _⟩)) (fun r_1 hr_1 => ?_)
    refine lv_aload_n hx hb dX1_foresee_56 rfl (lv_at hl 1 rfl) ?_
    refine gg_get (ci := 0) (C := RX1) (T := TX1) (N := 1) (v := .ref b) hx hb hts in_X1 hown hG h_x rfl 0 (by decide) q115 rfl rfl dX1_foresee_57 ?_
    refine vp_callSi (va_Run.run (va_runV (As := []) (rest := [.int r_1]) ⟨hx, hb, hml, hown, hts⟩ (met_X2_passed l g T b S) (cwV 0 hts (lw_V q187 q188 q189 q15 q190) rfl rfl rfl (by decide +kernel) ⟨Nat.le_of_ble_eq_true rfl, Nat.le_of_ble_eq_true rfl⟩) (gg_preV hG (hS.kp hG hAN) (gg_recv hG hX.1 rfl) (hX.rb hok)) rfl rfl hl.1 rfl (lv_room (Nat.le_of_ble_eq_true rfl)) dX1_foresee_60 ⟨Nat.le_refl _, Nat.le_refl _⟩)) (fun r_2 hr_2 => ?_)
    refine lv_isub hx hb dX1_foresee_63 ?_
    exact W.iret (v := (r_1 - r_2)) hx hb hr (fun t9 h9 hW9 => ⟨⟨_, (), rfl, (by rw [hr_1, hr_2]; rfl), by dsimp only; rw [h9]; exact ⟨h_x, ⟨_, _, _, _, _, _, _, hX⟩, hFx⟩⟩, hS.F h9⟩) hS.2.2 dX1_foresee_64
  · refine lv_tableIn (tgt := 65) hx hb dX1_foresee_26 (by decide) (by decide) rfl (by decide) ?_
    refine lv_aload_n hx hb dX1_foresee_65 rfl (lv_at hl 0 rfl) ?_
    refine vp_callSi (va_Run.run (va_runV (As := []) (rest := []) ⟨hx, hb, hml, hown, hts⟩ (met_X2_waited l g (T + n) rb (bRun S n)) (cwV 0 hts (lw_V q143 q144 q145 q15 q146) rfl rfl rfl (by decide +kernel) ⟨Nat.le_of_ble_eq_true rfl, Nat.le_of_ble_eq_true rfl⟩) (gg_preV hG (hS.kp hG hAN) (gg_recv hG hY.1 rfl) (hY.rb (OKS_run hok n))) rfl rfl hl.1 rfl (lv_room (Nat.le_of_ble_eq_true rfl)) dX1_foresee_66 ⟨Nat.le_refl _, Nat.le_refl _⟩)) (fun r_1 hr_1 => ?_)
    refine lv_aload_n hx hb dX1_foresee_69 rfl (lv_at hl 1 rfl) ?_
    refine gg_get (ci := 0) (C := RX1) (T := TX1) (N := 1) (v := .ref b) hx hb hts in_X1 hown hG h_x rfl 0 (by decide) q115 rfl rfl dX1_foresee_70 ?_
    refine vp_callSi (va_Run.run (va_runV (As := []) (rest := [.int r_1]) ⟨hx, hb, hml, hown, hts⟩ (met_X2_waited l g T b S) (cwV 0 hts (lw_V q143 q144 q145 q15 q146) rfl rfl rfl (by decide +kernel) ⟨Nat.le_of_ble_eq_true rfl, Nat.le_of_ble_eq_true rfl⟩) (gg_preV hG (hS.kp hG hAN) (gg_recv hG hX.1 rfl) (hX.rb hok)) rfl rfl hl.1 rfl (lv_room (Nat.le_of_ble_eq_true rfl)) dX1_foresee_73 ⟨Nat.le_refl _, Nat.le_refl _⟩)) (fun r_2 hr_2 => ?_)
    refine lv_isub hx hb dX1_foresee_76 ?_
    exact W.iret (v := (r_1 - r_2)) hx hb hr (fun t9 h9 hW9 => ⟨⟨_, (), rfl, (by rw [hr_1, hr_2]; rfl), by dsimp only; rw [h9]; exact ⟨h_x, ⟨_, _, _, _, _, _, _, hX⟩, hFx⟩⟩, hS.F h9⟩) hS.2.2 dX1_foresee_77
  · refine lv_tableIn (tgt := 78) hx hb dX1_foresee_26 (by decide) (by decide) rfl (by decide) ?_
    refine lv_aload_n hx hb dX1_foresee_78 rfl (lv_at hl 0 rfl) ?_
    refine gg_getN (ci := 1) (C := RX2) (T := TX2) (N := 8) (v := .int (sAn (bRun S n))) hx hb hts in_X2 hown hG hY.1 rfl 1 (by decide) q85 rfl rfl dX1_foresee_79 ?_
    exact W.iret (v := (sAn (bRun S n))) hx hb hr (fun t9 h9 hW9 => ⟨⟨_, (), rfl, rfl, by dsimp only; rw [h9]; exact ⟨h_x, ⟨_, _, _, _, _, _, _, hX⟩, hFx⟩⟩, hS.F h9⟩) hS.2.2 dX1_foresee_82
  · refine lv_tableOut (tgt := 83) hx hb dX1_foresee_26 (Or.inr (by decide)) (by decide) ?_
    refine lv_aload_n hx hb dX1_foresee_83 rfl (lv_at hl 0 rfl) ?_
    refine gg_getN (ci := 1) (C := RX2) (T := TX2) (N := 8) (v := .int (sIc (bRun S n))) hx hb hts in_X2 hown hG hY.1 rfl 3 (by decide) q89 rfl rfl dX1_foresee_84 ?_
    exact W.iret (v := (sIc (bRun S n))) hx hb hr (fun t9 h9 hW9 => ⟨⟨_, (), rfl, rfl, by dsimp only; rw [h9]; exact ⟨h_x, ⟨_, _, _, _, _, _, _, hX⟩, hFx⟩⟩, hS.F h9⟩) hS.2.2 dX1_foresee_87

set_option maxHeartbeats 4000000 in
theorem met_X1_bestCode (l : Launch) (g : GT) (T x b sz : Nat) (S : BS) (F : Nat → Prop) (hok : OKS T S) (hFsz : ∀ q, F q → q < sz) (n : Nat) (h1 : 1 ≤ n) (h2 : n ≤ 240) (hT : T < 2 ^ 29) : Met l yX1_bestCode (ws_ yX1_bestCode cX1_bestCode 7 (Option.some Jvm.ClassFile.FieldType.int)) ({ frames := 11, cells := 336, slots := 10816, locals := 366 } : Room) (PcG g [.ref x, .int (nI n)] (fun H => H.size = sz ∧ XB g F x b S H)) (va_Qi (fun (r : Int32) (_ : Unit) => r = (bst (fCode S n) 4).1) (fun _ u => XB g F x b S u.heap) (fun q => F q ∨ sz ≤ q)) 336 10816 (fun q => (F q ∨ sz ≤ q)) := by
  refine gg_met (cc := cX1_bestCode) (maxL := 7) (ret := (Option.some Jvm.ClassFile.FieldType.int)) (by decide) (Nat.le_of_ble_eq_true rfl) ?_
  intro p e s m below meth c hx hb hr hlk hin hml hown hts hG hB ls hl
  have hown : s.vm.findClass RX1 = some m.cls := hown
  have hl : lv_has ls 7 [(0, .ref x), (1, .int (nI n))] := hl
  obtain ⟨hsz, h_x, ⟨cd, al, el, cap, mc, arr, ad, hX⟩, hFx⟩ := hB
  have hN : ∀ q, sz ≤ q → gA g q := fun q e => Nat.le_trans (by rw [← hsz]; exact hG.sz) e
  have hAN : ∀ q, F q ∨ sz ≤ q → gA g q := fun q e => e.elim (hX.2.2.2.2.2.2.2.2.1 q) (hN q)
  have hS : va_S (fun q => F q ∨ sz ≤ q) s.heap s.heap [] := va_S.rf
  have hFb : F b := hX.2.2.2.2.2.2.2.1.1
  have hxb : x ≠ b := fun e => hFx (e ▸ hFb)
  have hn40 : sN S ≤ 40 := hok.2.2.2.2.2.2.2.1
  have hxsz : x < sz := by rw [← hsz]; exact h_x.lt
  refine lv_iconst (v := 1) hx hb dX1_bestCode_0 (by decide) ?_
  refine lv_sipush (v := 240) hx hb dX1_bestCode_1 (by decide) ?_
  refine lv_iload_n hx hb dX1_bestCode_4 rfl (lv_at hl 1 rfl) ?_
  refine va_csv (va_Run.run (va_runS (As := [.int 1, .int 240, .int (nI n)]) (rest := []) ⟨hx, hb, hml, hown, hts⟩ (met_X1_requireFrom l g 1 240 (nI n) (show nI 1 ≤ nI n from nI_le h1 (by omega)) (show nI n ≤ nI 240 from nI_le h2 (by decide))) (va_cwS 3 hts (lw_S q267 q268 q14 q269) rfl rfl rfl (by decide +kernel) ⟨Nat.le_of_ble_eq_true rfl, Nat.le_of_ble_eq_true rfl⟩) (gg_preS hG (hS.kp hG hAN) trivial) rfl rfl hl.1 rfl (lv_room (Nat.le_of_ble_eq_true rfl)) dX1_bestCode_5 ⟨Nat.le_of_ble_eq_true rfl, Nat.le_of_ble_eq_true rfl⟩)) (fun _ => ?_)
  refine lv_iconst (v := (-1)) hx hb dX1_bestCode_8 (by decide) ?_
  refine lv_istore_n (lv' := [(2, .int (-1)), (0, .ref x), (1, .int (nI n))]) hx hb dX1_bestCode_9 rfl hl (by decide) rfl (fun ls hl => ?_)
  refine lv_iconst (v := 0) hx hb dX1_bestCode_10 (by decide) ?_
  refine lv_istore_n (lv' := [(3, .int 0), (2, .int (-1)), (0, .ref x), (1, .int (nI n))]) hx hb dX1_bestCode_11 rfl hl (by decide) rfl (fun ls hl => ?_)
  refine lv_iconst (v := 0) hx hb dX1_bestCode_12 (by decide) ?_
  refine lv_istore (lv' := [(4, .int 0), (3, .int 0), (2, .int (-1)), (0, .ref x), (1, .int (nI n))]) hx hb dX1_bestCode_13 hl (by decide) rfl (fun ls hl => ?_)
  have loop : ∀ (d k : Nat), k ≤ 4 → 5 ≤ k + d → ∀ (H : Heap) (locs : List Loc) (cl9 sl9 : Nat), cl9 ≤ 84 * k → sl9 ≤ 2704 * k → sz ≤ H.size → XB g F x b S H → va_S (fun q => (F q ∨ sz ≤ q)) s.heap H locs → ∀ ls : Array Slot, lv_has ls 7 [(4, .int (nI k)), (3, .int ((bst (fCode S n) k).2)), (2, .int ((bst (fCode S n) k).1)), (0, .ref x), (1, .int (nI n))] → W p l e ({ frames := 11, cells := 336, slots := 10816, locals := 366 } : Room) s m ([.ref x, .int (nI n)] : List Value).toArray below meth c H locs cl9 sl9 (MQ below (va_Qi (fun (r : Int32) (_ : Unit) => r = (bst (fCode S n) 4).1) (fun _ u => XB g F x b S u.heap) (fun q => F q ∨ sz ≤ q)) ([.ref x, .int (nI n)] : List Value).toArray s 336 10816 (fun q => (F q ∨ sz ≤ q))) (F0 m 15 ls []) := by
    clear hX h_x hS
    intro d
    induction d with
    | zero => intro k h1 h2; exact absurd h2 (by omega)
    | succ d ih =>
      intro k hk hkd H locs cl9 sl9 hcl9 hsl9 hz hXB hS ls hl
      obtain ⟨h_x, ⟨cd, al, el, cap, mc, arr, ad, hX⟩, hFx⟩ := hXB
      refine lv_iload hx hb dX1_bestCode_15 (lv_at hl 0 rfl) ?_
      refine lv_iconst (v := 4) hx hb dX1_bestCode_17 (by decide) ?_
      refine lv_icmp_ge (tgt := 78) hx hb dX1_bestCode_18 (by decide) (fun c_18 => ?_) (fun c_18 => ?_)
      · have hk4 : k = 4 := by rcases Nat.lt_or_ge k 4 with q | q; exact absurd (show nI 4 ≤ nI k from c_18) (nI_ge q (by decide)); omega
        subst hk4
        refine lv_iload_n hx hb dX1_bestCode_78 rfl (lv_at hl 2 rfl) ?_
        refine W.widen (k := 336) (n := 10816) (by omega) (by omega) ?_
        exact W.iret (v := ((bst (fCode S n) 4).1)) hx hb hr (fun t9 h9 hW9 => ⟨⟨_, (), rfl, rfl, by dsimp only; rw [h9]; exact ⟨h_x, ⟨_, _, _, _, _, _, _, hX⟩, hFx⟩⟩, hS.F h9⟩) hS.2.2 dX1_bestCode_79
      · have hk4 : k < 4 := by rcases Nat.lt_or_ge k 4 with q | q; exact q; exact absurd (show nI 4 ≤ nI k from nI_le q (by omega)) c_18
        refine lv_aload_n hx hb dX1_bestCode_21 rfl (lv_at hl 3 rfl) ?_
        refine gg_get (ci := 0) (C := RX1) (T := TX1) (N := 1) (v := .ref b) hx hb hts in_X1 hown hG h_x rfl 0 (by decide) q115 rfl rfl dX1_bestCode_22 ?_
        refine va_callr (va_runV (As := []) (rest := []) ⟨hx, hb, hml, hown, hts⟩ (met_X2_copy l g T b H.size S F hok (fun q h => Nat.lt_of_lt_of_le (hFsz q h) hz)) (cwV 0 hts (lw_V q622 q623 q624 q15 q625) rfl rfl rfl (by decide +kernel) ⟨Nat.le_of_ble_eq_true rfl, Nat.le_of_ble_eq_true rfl⟩) (gg_preV hG (hS.kp hG hAN) (gg_recv hG hX.1 rfl) ⟨rfl, _, _, _, _, _, _, _, hX⟩) rfl rfl hl.1 rfl (lv_room (Nat.le_of_ble_eq_true rfl)) dX1_bestCode_25 ⟨by show cl9 + 83 ≤ 336; omega, by show sl9 + 2699 ≤ 10816; omega⟩) hS (fun q _ e => e.elim Or.inl (fun e => Or.inr ((fun e => Nat.le_trans hz e) e))) (fun q e => e.elim Or.inl (fun e => Or.inr ((fun e => Nat.le_trans hz e) e))) (fun u ra t9 H1 locs ht hvm _ hB1 hz1 hk1 hS => ?_)
        rw [ht] at hB1
        obtain ⟨⟨cd, al, el, cap, mc, arr, ad, hX⟩, hY⟩ := hB1
        have h_x := h_x.kept (hk1 x h_x.lt (fun e => e.elim hFx (fun e => by omega)))
        obtain ⟨cd2, al2, el2, cap2, mc2, arr2, ad2, hY⟩ := hY
        have hY := hY.monoF (F1 := fun q => sz ≤ q) (fun q e => Nat.le_trans hz e) hN
        have hY : BW g (fun q => sz ≤ q) ra S H1 := ⟨_, _, _, _, _, _, _, hY⟩
        have hz1 : sz ≤ H1.size := Nat.le_trans hz hz1
        generalize H1 = H at hX hY h_x hS hz1 ⊢
        refine lv_astore (lv' := [(5, .ref ra), (4, .int (nI k)), (3, .int ((bst (fCode S n) k).2)), (2, .int ((bst (fCode S n) k).1)), (0, .ref x), (1, .int (nI n))]) hx hb dX1_bestCode_28 hl (by decide) rfl (fun ls hl => ?_)
        refine lv_aload hx hb dX1_bestCode_30 (lv_at hl 0 rfl) ?_
        refine va_callr (va_runS (As := []) (rest := [.ref ra]) ⟨hx, hb, hml, hown, hts⟩ (met_X3_values l g H.size) (va_cwS 0 hts (lw_S q539 q540 q17 q541) rfl rfl rfl (by decide +kernel) ⟨Nat.le_of_ble_eq_true rfl, Nat.le_of_ble_eq_true rfl⟩) (gg_preS hG (hS.kp hG hAN) rfl) rfl rfl hl.1 rfl (lv_room (Nat.le_of_ble_eq_true rfl)) dX1_bestCode_32 ⟨by show cl9 + 83 + 1 ≤ 336; omega, by show sl9 + 2699 + 5 ≤ 10816; omega⟩) hS (fun q _ e => Or.inr (Nat.le_trans hz1 e)) (fun q e => Or.inr (Nat.le_trans hz1 e)) (fun u va t9 H1 locs ht hvm _ hB1 hz2 hk2 hS => ?_)
        rw [ht] at hB1
        obtain ⟨hsr, h_va⟩ := hB1
        have hX := hX.keptL (fun q h _ => hk2 q h (by omega))
        have h_x := h_x.kept (hk2 x h_x.lt (by have := h_x.lt; dsimp only at this; omega))
        have hY : BW g (fun q => sz ≤ q) ra S H1 := by obtain ⟨cd1, al1, el1, cap1, mc1, arr1, ad1, hY⟩ := hY; exact ⟨_, _, _, _, _, _, _, hY.keptL (fun q h _ => hk2 q h (by omega))⟩
        have hz1 : sz ≤ H1.size := Nat.le_trans hz1 hz2
        generalize H1 = H at hX hY h_x h_va hS hz1 ⊢
        refine lv_iload hx hb dX1_bestCode_35 (lv_at hl 1 rfl) ?_
        refine va_aldq hx hb hG.k (P1 h_va) 0 3 rfl rfl (vp_in_nI (show k < 5 by omega) (by decide)) dX1_bestCode_37 ?_
        rw [nI_clamp (show k < 2 ^ 31 by omega)]
        refine W.eq (g2 := F0 m 38 ls [.ref (gC g k), .ref ra]) rfl ?_
        obtain ⟨cd1, al1, el1, cap1, mc1, arr1, ad1, hY⟩ := hY
        have hra : sz ≤ ra := hY.2.2.2.2.2.2.2.1.1
        refine gg_putN (ci := 1) (v := .ref (gC g k)) (C := RX2) (T := TX2) (N := 8) hx hb hts in_X2 tyX2 tyX2_ok nmX2 hown hG hY.1 hS (Or.inr hra) rfl 4 (by decide) q91 rfl rfl rfl rfl (Nat.le_of_ble_eq_true rfl) dX1_bestCode_38 (fun H locs h_r hbut hS => ?_)
        have h_r : va_at (gD g) bbCl (ra, .inr (1, [.int (sMi S), .int (sAn S), .int (sPo S), .int (sIc S), .ref (gC g k), .int (sLa S), .ref cd1, .ref al1])) H := h_r
        have hY := hY.putB (S1 := (sCod S k)) hbut h_r rfl
        have h_x := h_x.but hbut (show x ≠ ra by omega)
        have hX := hX.kept (fun q hF => hbut.2 q (by have := hFsz q hF; omega))
        have hz1 : sz ≤ H.size := by rw [hbut.1]; exact hz1
        have hY : BW g (fun q => sz ≤ q) ra (sCod S k) H := ⟨_, _, _, _, _, _, _, hY⟩
        refine lv_aload hx hb dX1_bestCode_41 (lv_at hl 0 rfl) ?_
        refine lv_iload_n hx hb dX1_bestCode_43 rfl (lv_at hl 5 rfl) ?_
        refine va_callr (va_runS (As := [.ref ra, .int (nI n)]) (rest := []) ⟨hx, hb, hml, hown, hts⟩ (met_X1_pass_2 l g T ra n (sCod S k) (fun q => sz ≤ q) (OKS_code hok (by omega)) hT (by omega)) (va_cwS 2 hts (lw_S q587 q588 q14 q589) rfl rfl rfl (by decide +kernel) ⟨Nat.le_of_ble_eq_true rfl, Nat.le_of_ble_eq_true rfl⟩) (gg_preS hG (hS.kp hG hAN) hY) rfl rfl hl.1 rfl (lv_room (Nat.le_of_ble_eq_true rfl)) dX1_bestCode_44 ⟨by show cl9 + 83 + 1 + 0 ≤ 336; omega, by show sl9 + 2699 + 5 + 0 ≤ 10816; omega⟩) hS (fun q _ e => Or.inr e) (fun q e => Or.inr e) (fun u rb t9 H1 locs ht hvm _ hB1 hz2 hk2 hS => ?_)
        rw [ht] at hB1
        obtain ⟨hrb, hY⟩ := hB1
        subst hrb
        have hX := hX.keptL (fun q h hF => hk2 q h (by have := hFsz q hF; show ¬ sz ≤ q; omega))
        have h_x := h_x.kept (hk2 x h_x.lt (show ¬ sz ≤ x by omega))
        have hz1 : sz ≤ H1.size := Nat.le_trans hz1 hz2
        obtain ⟨cd1, al1, el1, cap1, mc1, arr1, ad1, hY⟩ := hY
        generalize H1 = H at hX hY h_x hS hz1 ⊢
        refine vp_callSi (va_Run.run (va_runV (As := []) (rest := []) ⟨hx, hb, hml, hown, hts⟩ (met_X2_waited l g (T + n) rb (bRun (sCod S k) n)) (cwV 0 hts (lw_V q143 q144 q145 q15 q146) rfl rfl rfl (by decide +kernel) ⟨Nat.le_of_ble_eq_true rfl, Nat.le_of_ble_eq_true rfl⟩) (gg_preV hG (hS.kp hG hAN) (gg_recv hG hY.1 rfl) (hY.rb (OKS_run (OKS_code hok (by omega)) n))) rfl rfl hl.1 rfl (lv_room (Nat.le_of_ble_eq_true rfl)) dX1_bestCode_47 ⟨by show cl9 + 83 + 1 + 0 + 0 ≤ 336; omega, by show sl9 + 2699 + 5 + 0 + 0 ≤ 10816; omega⟩)) (fun r_w hr_w => ?_)
        have hr_w : r_w = fCode S n k := hr_w
        refine lv_istore (lv' := [(6, .int r_w), (5, .ref rb), (4, .int (nI k)), (3, .int ((bst (fCode S n) k).2)), (2, .int ((bst (fCode S n) k).1)), (0, .ref x), (1, .int (nI n))]) hx hb dX1_bestCode_50 hl (by decide) rfl (fun ls hl => ?_)
        refine lv_iload_n hx hb dX1_bestCode_52 rfl (lv_at hl 4 rfl) ?_
        refine lv_iconst (v := (-1)) hx hb dX1_bestCode_53 (by decide) ?_
        refine lv_icmp_eq (tgt := 66) hx hb dX1_bestCode_54 (by decide) (fun c_54 => ?_) (fun c_54 => ?_)
        · refine lv_iload hx hb dX1_bestCode_66 (lv_at hl 2 rfl) ?_
          refine lv_istore_n (lv' := [(2, .int (nI k)), (6, .int r_w), (5, .ref rb), (4, .int (nI k)), (3, .int ((bst (fCode S n) k).2)), (0, .ref x), (1, .int (nI n))]) hx hb dX1_bestCode_68 rfl hl (by decide) rfl (fun ls hl => ?_)
          refine lv_iload hx hb dX1_bestCode_69 (lv_at hl 1 rfl) ?_
          refine lv_istore_n (lv' := [(3, .int r_w), (2, .int (nI k)), (6, .int r_w), (5, .ref rb), (4, .int (nI k)), (0, .ref x), (1, .int (nI n))]) hx hb dX1_bestCode_71 rfl hl (by decide) rfl (fun ls hl => ?_)
          refine lv_iinc (v := nI (k + 1)) (lv' := [(4, .int (nI (k + 1))), (3, .int r_w), (2, .int (nI k)), (6, .int r_w), (5, .ref rb), (0, .ref x), (1, .int (nI n))]) hx hb dX1_bestCode_72 hl (k := 4) rfl (nI_1 k) (by decide) rfl (fun ls hl => ?_)
          refine lv_goto (tgt := 15) hx hb dX1_bestCode_75 (by decide) ?_
          have hl := (lv_sub hl [0, 1, 2, 5, 6] rfl)
          have eb : bst (fCode S n) (k + 1) = (nI k, fCode S n k) := by rw [bst, if_pos c_54]
          refine ih (k + 1) (by omega) (by omega) _ _ _ _ ?_ ?_ hz1 ⟨h_x, ⟨_, _, _, _, _, _, _, hX⟩, hFx⟩ hS ls ?_
          · show cl9 + 83 + 1 ≤ 84 * (k + 1); omega
          · show sl9 + 2699 + 5 ≤ 2704 * (k + 1); omega
          · rw [eb, ← hr_w]; exact hl
        · refine lv_iload hx hb dX1_bestCode_57 (lv_at hl 0 rfl) ?_
          refine lv_iload_n hx hb dX1_bestCode_59 rfl (lv_at hl 3 rfl) ?_
          refine lv_icmp_lt (tgt := 66) hx hb dX1_bestCode_60 (by decide) (fun c_60 => ?_) (fun c_60 => ?_)
          · refine lv_iload hx hb dX1_bestCode_66 (lv_at hl 2 rfl) ?_
            refine lv_istore_n (lv' := [(2, .int (nI k)), (6, .int r_w), (5, .ref rb), (4, .int (nI k)), (3, .int ((bst (fCode S n) k).2)), (0, .ref x), (1, .int (nI n))]) hx hb dX1_bestCode_68 rfl hl (by decide) rfl (fun ls hl => ?_)
            refine lv_iload hx hb dX1_bestCode_69 (lv_at hl 1 rfl) ?_
            refine lv_istore_n (lv' := [(3, .int r_w), (2, .int (nI k)), (6, .int r_w), (5, .ref rb), (4, .int (nI k)), (0, .ref x), (1, .int (nI n))]) hx hb dX1_bestCode_71 rfl hl (by decide) rfl (fun ls hl => ?_)
            refine lv_iinc (v := nI (k + 1)) (lv' := [(4, .int (nI (k + 1))), (3, .int r_w), (2, .int (nI k)), (6, .int r_w), (5, .ref rb), (0, .ref x), (1, .int (nI n))]) hx hb dX1_bestCode_72 hl (k := 4) rfl (nI_1 k) (by decide) rfl (fun ls hl => ?_)
            refine lv_goto (tgt := 15) hx hb dX1_bestCode_75 (by decide) ?_
            have hl := (lv_sub hl [0, 1, 2, 5, 6] rfl)
            have eb : bst (fCode S n) (k + 1) = (nI k, fCode S n k) := by rw [bst, if_neg c_54, if_pos (by rw [← hr_w]; exact c_60)]
            refine ih (k + 1) (by omega) (by omega) _ _ _ _ ?_ ?_ hz1 ⟨h_x, ⟨_, _, _, _, _, _, _, hX⟩, hFx⟩ hS ls ?_
            · show cl9 + 83 + 1 ≤ 84 * (k + 1); omega
            · show sl9 + 2699 + 5 ≤ 2704 * (k + 1); omega
            · rw [eb, ← hr_w]; exact hl
          · refine lv_goto (tgt := 72) hx hb dX1_bestCode_63 (by decide) ?_
            refine lv_iinc (v := nI (k + 1)) (lv' := [(4, .int (nI (k + 1))), (6, .int r_w), (5, .ref rb), (3, .int ((bst (fCode S n) k).2)), (2, .int ((bst (fCode S n) k).1)), (0, .ref x), (1, .int (nI n))]) hx hb dX1_bestCode_72 hl (k := 2) rfl (nI_1 k) (by decide) rfl (fun ls hl => ?_)
            refine lv_goto (tgt := 15) hx hb dX1_bestCode_75 (by decide) ?_
            have hl := (lv_sub hl [0, 3, 4, 5, 6] rfl)
            have eb : bst (fCode S n) (k + 1) = bst (fCode S n) k := by rw [bst, if_neg c_54, if_neg (by rw [← hr_w]; exact c_60)]
            refine ih (k + 1) (by omega) (by omega) _ _ _ _ ?_ ?_ hz1 ⟨h_x, ⟨_, _, _, _, _, _, _, hX⟩, hFx⟩ hS ls ?_
            · show cl9 + 83 + 1 ≤ 84 * (k + 1); omega
            · show sl9 + 2699 + 5 ≤ 2704 * (k + 1); omega
            · rw [eb]; exact hl
  exact loop 5 0 (by decide) (by decide) _ _ _ _ (Nat.zero_le _) (Nat.zero_le _) (Nat.le_of_eq hsz.symm) ⟨h_x, ⟨_, _, _, _, _, _, _, hX⟩, hFx⟩ hS ls (lv_sub hl [0, 1, 2, 3, 4] rfl)

set_option maxHeartbeats 4000000 in
theorem met_X1_bestPoise (l : Launch) (g : GT) (T x b sz : Nat) (S : BS) (F : Nat → Prop) (hok : OKS T S) (hFsz : ∀ q, F q → q < sz) (n : Nat) (h1 : 1 ≤ n) (h2 : n ≤ 240) (hT : T < 2 ^ 29) : Met l yX1_bestPoise (ws_ yX1_bestPoise cX1_bestPoise 7 (Option.some Jvm.ClassFile.FieldType.int)) ({ frames := 11, cells := 2573, slots := 83669, locals := 366 } : Room) (PcG g [.ref x, .int (nI n)] (fun H => H.size = sz ∧ XB g F x b S H)) (va_Qi (fun (r : Int32) (_ : Unit) => r = (bst (fPoise S n) 31).1) (fun _ u => XB g F x b S u.heap) (fun q => F q ∨ sz ≤ q)) 2573 83669 (fun q => (F q ∨ sz ≤ q)) := by
  refine gg_met (cc := cX1_bestPoise) (maxL := 7) (ret := (Option.some Jvm.ClassFile.FieldType.int)) (by decide) (Nat.le_of_ble_eq_true rfl) ?_
  intro p e s m below meth c hx hb hr hlk hin hml hown hts hG hB ls hl
  have hown : s.vm.findClass RX1 = some m.cls := hown
  have hl : lv_has ls 7 [(0, .ref x), (1, .int (nI n))] := hl
  obtain ⟨hsz, h_x, ⟨cd, al, el, cap, mc, arr, ad, hX⟩, hFx⟩ := hB
  have hN : ∀ q, sz ≤ q → gA g q := fun q e => Nat.le_trans (by rw [← hsz]; exact hG.sz) e
  have hAN : ∀ q, F q ∨ sz ≤ q → gA g q := fun q e => e.elim (hX.2.2.2.2.2.2.2.2.1 q) (hN q)
  have hS : va_S (fun q => F q ∨ sz ≤ q) s.heap s.heap [] := va_S.rf
  have hFb : F b := hX.2.2.2.2.2.2.2.1.1
  have hxb : x ≠ b := fun e => hFx (e ▸ hFb)
  have hn40 : sN S ≤ 40 := hok.2.2.2.2.2.2.2.1
  have hxsz : x < sz := by rw [← hsz]; exact h_x.lt
  refine lv_iconst (v := 1) hx hb dX1_bestPoise_0 (by decide) ?_
  refine lv_sipush (v := 240) hx hb dX1_bestPoise_1 (by decide) ?_
  refine lv_iload_n hx hb dX1_bestPoise_4 rfl (lv_at hl 1 rfl) ?_
  refine va_csv (va_Run.run (va_runS (As := [.int 1, .int 240, .int (nI n)]) (rest := []) ⟨hx, hb, hml, hown, hts⟩ (met_X1_requireFrom l g 1 240 (nI n) (show nI 1 ≤ nI n from nI_le h1 (by omega)) (show nI n ≤ nI 240 from nI_le h2 (by decide))) (va_cwS 3 hts (lw_S q267 q268 q14 q269) rfl rfl rfl (by decide +kernel) ⟨Nat.le_of_ble_eq_true rfl, Nat.le_of_ble_eq_true rfl⟩) (gg_preS hG (hS.kp hG hAN) trivial) rfl rfl hl.1 rfl (lv_room (Nat.le_of_ble_eq_true rfl)) dX1_bestPoise_5 ⟨Nat.le_of_ble_eq_true rfl, Nat.le_of_ble_eq_true rfl⟩)) (fun _ => ?_)
  refine lv_iconst (v := (-1)) hx hb dX1_bestPoise_8 (by decide) ?_
  refine lv_istore_n (lv' := [(2, .int (-1)), (0, .ref x), (1, .int (nI n))]) hx hb dX1_bestPoise_9 rfl hl (by decide) rfl (fun ls hl => ?_)
  refine lv_iconst (v := 0) hx hb dX1_bestPoise_10 (by decide) ?_
  refine lv_istore_n (lv' := [(3, .int 0), (2, .int (-1)), (0, .ref x), (1, .int (nI n))]) hx hb dX1_bestPoise_11 rfl hl (by decide) rfl (fun ls hl => ?_)
  refine lv_iconst (v := 0) hx hb dX1_bestPoise_12 (by decide) ?_
  refine lv_istore (lv' := [(4, .int 0), (3, .int 0), (2, .int (-1)), (0, .ref x), (1, .int (nI n))]) hx hb dX1_bestPoise_13 hl (by decide) rfl (fun ls hl => ?_)
  have loop : ∀ (d k : Nat), k ≤ 31 → 32 ≤ k + d → ∀ (H : Heap) (locs : List Loc) (cl9 sl9 : Nat), cl9 ≤ 83 * k → sl9 ≤ 2699 * k → sz ≤ H.size → XB g F x b S H → va_S (fun q => (F q ∨ sz ≤ q)) s.heap H locs → ∀ ls : Array Slot, lv_has ls 7 [(4, .int (nI k)), (3, .int ((bst (fPoise S n) k).2)), (2, .int ((bst (fPoise S n) k).1)), (0, .ref x), (1, .int (nI n))] → W p l e ({ frames := 11, cells := 2573, slots := 83669, locals := 366 } : Room) s m ([.ref x, .int (nI n)] : List Value).toArray below meth c H locs cl9 sl9 (MQ below (va_Qi (fun (r : Int32) (_ : Unit) => r = (bst (fPoise S n) 31).1) (fun _ u => XB g F x b S u.heap) (fun q => F q ∨ sz ≤ q)) ([.ref x, .int (nI n)] : List Value).toArray s 2573 83669 (fun q => (F q ∨ sz ≤ q))) (F0 m 15 ls []) := by
    clear hX h_x hS
    intro d
    induction d with
    | zero => intro k h1 h2; exact absurd h2 (by omega)
    | succ d ih =>
      intro k hk hkd H locs cl9 sl9 hcl9 hsl9 hz hXB hS ls hl
      obtain ⟨h_x, ⟨cd, al, el, cap, mc, arr, ad, hX⟩, hFx⟩ := hXB
      refine lv_iload hx hb dX1_bestPoise_15 (lv_at hl 0 rfl) ?_
      refine lv_bipush (v := 30) hx hb dX1_bestPoise_17 (by decide) ?_
      refine lv_icmp_gt (tgt := 75) hx hb dX1_bestPoise_19 (by decide) (fun c_19 => ?_) (fun c_19 => ?_)
      · have hk4 : k = 31 := by rcases Nat.lt_or_ge k 31 with q | q; exact absurd (show nI 30 < nI k from c_19) (nI_nlt (by omega) (by decide)); omega
        subst hk4
        refine lv_iload_n hx hb dX1_bestPoise_75 rfl (lv_at hl 2 rfl) ?_
        refine W.widen (k := 2573) (n := 83669) (by omega) (by omega) ?_
        exact W.iret (v := ((bst (fPoise S n) 31).1)) hx hb hr (fun t9 h9 hW9 => ⟨⟨_, (), rfl, rfl, by dsimp only; rw [h9]; exact ⟨h_x, ⟨_, _, _, _, _, _, _, hX⟩, hFx⟩⟩, hS.F h9⟩) hS.2.2 dX1_bestPoise_76
      · have hk4 : k < 31 := by rcases Nat.lt_or_ge k 31 with q | q; exact q; exact absurd (show nI 30 < nI k from nI_lt (by omega) (by omega)) c_19
        refine lv_aload_n hx hb dX1_bestPoise_22 rfl (lv_at hl 3 rfl) ?_
        refine gg_get (ci := 0) (C := RX1) (T := TX1) (N := 1) (v := .ref b) hx hb hts in_X1 hown hG h_x rfl 0 (by decide) q115 rfl rfl dX1_bestPoise_23 ?_
        refine va_callr (va_runV (As := []) (rest := []) ⟨hx, hb, hml, hown, hts⟩ (met_X2_copy l g T b H.size S F hok (fun q h => Nat.lt_of_lt_of_le (hFsz q h) hz)) (cwV 0 hts (lw_V q622 q623 q624 q15 q625) rfl rfl rfl (by decide +kernel) ⟨Nat.le_of_ble_eq_true rfl, Nat.le_of_ble_eq_true rfl⟩) (gg_preV hG (hS.kp hG hAN) (gg_recv hG hX.1 rfl) ⟨rfl, _, _, _, _, _, _, _, hX⟩) rfl rfl hl.1 rfl (lv_room (Nat.le_of_ble_eq_true rfl)) dX1_bestPoise_26 ⟨by show cl9 + 83 ≤ 2573; omega, by show sl9 + 2699 ≤ 83669; omega⟩) hS (fun q _ e => e.elim Or.inl (fun e => Or.inr ((fun e => Nat.le_trans hz e) e))) (fun q e => e.elim Or.inl (fun e => Or.inr ((fun e => Nat.le_trans hz e) e))) (fun u ra t9 H1 locs ht hvm _ hB1 hz1 hk1 hS => ?_)
        rw [ht] at hB1
        obtain ⟨⟨cd, al, el, cap, mc, arr, ad, hX⟩, hY⟩ := hB1
        have h_x := h_x.kept (hk1 x h_x.lt (fun e => e.elim hFx (fun e => by omega)))
        obtain ⟨cd2, al2, el2, cap2, mc2, arr2, ad2, hY⟩ := hY
        have hY := hY.monoF (F1 := fun q => sz ≤ q) (fun q e => Nat.le_trans hz e) hN
        have hY : BW g (fun q => sz ≤ q) ra S H1 := ⟨_, _, _, _, _, _, _, hY⟩
        have hz1 : sz ≤ H1.size := Nat.le_trans hz hz1
        generalize H1 = H at hX hY h_x hS hz1 ⊢
        refine lv_astore (lv' := [(5, .ref ra), (4, .int (nI k)), (3, .int ((bst (fPoise S n) k).2)), (2, .int ((bst (fPoise S n) k).1)), (0, .ref x), (1, .int (nI n))]) hx hb dX1_bestPoise_29 hl (by decide) rfl (fun ls hl => ?_)
        refine lv_aload hx hb dX1_bestPoise_31 (lv_at hl 0 rfl) ?_
        refine lv_iload hx hb dX1_bestPoise_33 (lv_at hl 1 rfl) ?_
        obtain ⟨cd1, al1, el1, cap1, mc1, arr1, ad1, hY⟩ := hY
        have hra : sz ≤ ra := hY.2.2.2.2.2.2.2.1.1
        refine gg_putN (ci := 1) (v := .int (nI k)) (C := RX2) (T := TX2) (N := 8) hx hb hts in_X2 tyX2 tyX2_ok nmX2 hown hG hY.1 hS (Or.inr hra) rfl 2 (by decide) q87 rfl rfl rfl rfl (Nat.le_of_ble_eq_true rfl) dX1_bestPoise_35 (fun H locs h_r hbut hS => ?_)
        have h_r : va_at (gD g) bbCl (ra, .inr (1, [.int (sMi S), .int (sAn S), .int (nI k), .int (sIc S), .ref (gC g (sCo S)), .int (sLa S), .ref cd1, .ref al1])) H := h_r
        have hY := hY.putB (S1 := (sPoi S (nI k))) hbut h_r rfl
        have h_x := h_x.but hbut (show x ≠ ra by omega)
        have hX := hX.kept (fun q hF => hbut.2 q (by have := hFsz q hF; omega))
        have hz1 : sz ≤ H.size := by rw [hbut.1]; exact hz1
        have hY : BW g (fun q => sz ≤ q) ra (sPoi S (nI k)) H := ⟨_, _, _, _, _, _, _, hY⟩
        refine lv_aload hx hb dX1_bestPoise_38 (lv_at hl 0 rfl) ?_
        refine lv_iload_n hx hb dX1_bestPoise_40 rfl (lv_at hl 5 rfl) ?_
        refine va_callr (va_runS (As := [.ref ra, .int (nI n)]) (rest := []) ⟨hx, hb, hml, hown, hts⟩ (met_X1_pass_2 l g T ra n (sPoi S (nI k)) (fun q => sz ≤ q) (OKS_poise hok (nI_pos' (by omega)) (show nI k ≤ nI 30 from nI_le (by omega) (by decide))) hT (by omega)) (va_cwS 2 hts (lw_S q587 q588 q14 q589) rfl rfl rfl (by decide +kernel) ⟨Nat.le_of_ble_eq_true rfl, Nat.le_of_ble_eq_true rfl⟩) (gg_preS hG (hS.kp hG hAN) hY) rfl rfl hl.1 rfl (lv_room (Nat.le_of_ble_eq_true rfl)) dX1_bestPoise_41 ⟨by show cl9 + 83 + 0 ≤ 2573; omega, by show sl9 + 2699 + 0 ≤ 83669; omega⟩) hS (fun q _ e => Or.inr e) (fun q e => Or.inr e) (fun u rb t9 H1 locs ht hvm _ hB1 hz2 hk2 hS => ?_)
        rw [ht] at hB1
        obtain ⟨hrb, hY⟩ := hB1
        subst hrb
        have hX := hX.keptL (fun q h hF => hk2 q h (by have := hFsz q hF; show ¬ sz ≤ q; omega))
        have h_x := h_x.kept (hk2 x h_x.lt (show ¬ sz ≤ x by omega))
        have hz1 : sz ≤ H1.size := Nat.le_trans hz1 hz2
        obtain ⟨cd1, al1, el1, cap1, mc1, arr1, ad1, hY⟩ := hY
        generalize H1 = H at hX hY h_x hS hz1 ⊢
        refine vp_callSi (va_Run.run (va_runV (As := []) (rest := []) ⟨hx, hb, hml, hown, hts⟩ (met_X2_waited l g (T + n) rb (bRun (sPoi S (nI k)) n)) (cwV 0 hts (lw_V q143 q144 q145 q15 q146) rfl rfl rfl (by decide +kernel) ⟨Nat.le_of_ble_eq_true rfl, Nat.le_of_ble_eq_true rfl⟩) (gg_preV hG (hS.kp hG hAN) (gg_recv hG hY.1 rfl) (hY.rb (OKS_run (OKS_poise hok (nI_pos' (by omega)) (show nI k ≤ nI 30 from nI_le (by omega) (by decide))) n))) rfl rfl hl.1 rfl (lv_room (Nat.le_of_ble_eq_true rfl)) dX1_bestPoise_44 ⟨by show cl9 + 83 + 0 + 0 ≤ 2573; omega, by show sl9 + 2699 + 0 + 0 ≤ 83669; omega⟩)) (fun r_w hr_w => ?_)
        have hr_w : r_w = fPoise S n k := hr_w
        refine lv_istore (lv' := [(6, .int r_w), (5, .ref rb), (4, .int (nI k)), (3, .int ((bst (fPoise S n) k).2)), (2, .int ((bst (fPoise S n) k).1)), (0, .ref x), (1, .int (nI n))]) hx hb dX1_bestPoise_47 hl (by decide) rfl (fun ls hl => ?_)
        refine lv_iload_n hx hb dX1_bestPoise_49 rfl (lv_at hl 4 rfl) ?_
        refine lv_iconst (v := (-1)) hx hb dX1_bestPoise_50 (by decide) ?_
        refine lv_icmp_eq (tgt := 63) hx hb dX1_bestPoise_51 (by decide) (fun c_51 => ?_) (fun c_51 => ?_)
        · refine lv_iload hx hb dX1_bestPoise_63 (lv_at hl 2 rfl) ?_
          refine lv_istore_n (lv' := [(2, .int (nI k)), (6, .int r_w), (5, .ref rb), (4, .int (nI k)), (3, .int ((bst (fPoise S n) k).2)), (0, .ref x), (1, .int (nI n))]) hx hb dX1_bestPoise_65 rfl hl (by decide) rfl (fun ls hl => ?_)
          refine lv_iload hx hb dX1_bestPoise_66 (lv_at hl 1 rfl) ?_
          refine lv_istore_n (lv' := [(3, .int r_w), (2, .int (nI k)), (6, .int r_w), (5, .ref rb), (4, .int (nI k)), (0, .ref x), (1, .int (nI n))]) hx hb dX1_bestPoise_68 rfl hl (by decide) rfl (fun ls hl => ?_)
          refine lv_iinc (v := nI (k + 1)) (lv' := [(4, .int (nI (k + 1))), (3, .int r_w), (2, .int (nI k)), (6, .int r_w), (5, .ref rb), (0, .ref x), (1, .int (nI n))]) hx hb dX1_bestPoise_69 hl (k := 4) rfl (nI_1 k) (by decide) rfl (fun ls hl => ?_)
          refine lv_goto (tgt := 15) hx hb dX1_bestPoise_72 (by decide) ?_
          have hl := (lv_sub hl [0, 1, 2, 5, 6] rfl)
          have eb : bst (fPoise S n) (k + 1) = (nI k, fPoise S n k) := by rw [bst, if_pos c_51]
          refine ih (k + 1) (by omega) (by omega) _ _ _ _ ?_ ?_ hz1 ⟨h_x, ⟨_, _, _, _, _, _, _, hX⟩, hFx⟩ hS ls ?_
          · show cl9 + 83 ≤ 83 * (k + 1); omega
          · show sl9 + 2699 ≤ 2699 * (k + 1); omega
          · rw [eb, ← hr_w]; exact hl
        · refine lv_iload hx hb dX1_bestPoise_54 (lv_at hl 0 rfl) ?_
          refine lv_iload_n hx hb dX1_bestPoise_56 rfl (lv_at hl 3 rfl) ?_
          refine lv_icmp_lt (tgt := 63) hx hb dX1_bestPoise_57 (by decide) (fun c_57 => ?_) (fun c_57 => ?_)
          · refine lv_iload hx hb dX1_bestPoise_63 (lv_at hl 2 rfl) ?_
            refine lv_istore_n (lv' := [(2, .int (nI k)), (6, .int r_w), (5, .ref rb), (4, .int (nI k)), (3, .int ((bst (fPoise S n) k).2)), (0, .ref x), (1, .int (nI n))]) hx hb dX1_bestPoise_65 rfl hl (by decide) rfl (fun ls hl => ?_)
            refine lv_iload hx hb dX1_bestPoise_66 (lv_at hl 1 rfl) ?_
            refine lv_istore_n (lv' := [(3, .int r_w), (2, .int (nI k)), (6, .int r_w), (5, .ref rb), (4, .int (nI k)), (0, .ref x), (1, .int (nI n))]) hx hb dX1_bestPoise_68 rfl hl (by decide) rfl (fun ls hl => ?_)
            refine lv_iinc (v := nI (k + 1)) (lv' := [(4, .int (nI (k + 1))), (3, .int r_w), (2, .int (nI k)), (6, .int r_w), (5, .ref rb), (0, .ref x), (1, .int (nI n))]) hx hb dX1_bestPoise_69 hl (k := 4) rfl (nI_1 k) (by decide) rfl (fun ls hl => ?_)
            refine lv_goto (tgt := 15) hx hb dX1_bestPoise_72 (by decide) ?_
            have hl := (lv_sub hl [0, 1, 2, 5, 6] rfl)
            have eb : bst (fPoise S n) (k + 1) = (nI k, fPoise S n k) := by rw [bst, if_neg c_51, if_pos (by rw [← hr_w]; exact c_57)]
            refine ih (k + 1) (by omega) (by omega) _ _ _ _ ?_ ?_ hz1 ⟨h_x, ⟨_, _, _, _, _, _, _, hX⟩, hFx⟩ hS ls ?_
            · show cl9 + 83 ≤ 83 * (k + 1); omega
            · show sl9 + 2699 ≤ 2699 * (k + 1); omega
            · rw [eb, ← hr_w]; exact hl
          · refine lv_goto (tgt := 69) hx hb dX1_bestPoise_60 (by decide) ?_
            refine lv_iinc (v := nI (k + 1)) (lv' := [(4, .int (nI (k + 1))), (6, .int r_w), (5, .ref rb), (3, .int ((bst (fPoise S n) k).2)), (2, .int ((bst (fPoise S n) k).1)), (0, .ref x), (1, .int (nI n))]) hx hb dX1_bestPoise_69 hl (k := 2) rfl (nI_1 k) (by decide) rfl (fun ls hl => ?_)
            refine lv_goto (tgt := 15) hx hb dX1_bestPoise_72 (by decide) ?_
            have hl := (lv_sub hl [0, 3, 4, 5, 6] rfl)
            have eb : bst (fPoise S n) (k + 1) = bst (fPoise S n) k := by rw [bst, if_neg c_51, if_neg (by rw [← hr_w]; exact c_57)]
            refine ih (k + 1) (by omega) (by omega) _ _ _ _ ?_ ?_ hz1 ⟨h_x, ⟨_, _, _, _, _, _, _, hX⟩, hFx⟩ hS ls ?_
            · show cl9 + 83 ≤ 83 * (k + 1); omega
            · show sl9 + 2699 ≤ 2699 * (k + 1); omega
            · rw [eb]; exact hl
  exact loop 32 0 (by decide) (by decide) _ _ _ _ (Nat.zero_le _) (Nat.zero_le _) (Nat.le_of_eq hsz.symm) ⟨h_x, ⟨_, _, _, _, _, _, _, hX⟩, hFx⟩ hS ls (lv_sub hl [0, 1, 2, 3, 4] rfl)

/-- the footprint, within the heap -/
theorem BX.bound {g : GT} {F : Nat → Prop} {b cd al el cap sz : Nat} {mc : Int32} {arr : Nat → Option Nat} {ad : Nat → Nat} {S : BS} {H : Heap} (h : BX g F b cd al el cap mc arr ad S H) (hF : ∀ q, F q → sz ≤ q) (hN : ∀ q, sz ≤ q → gA g q) : BX g (fun q => sz ≤ q ∧ q < H.size) b cd al el cap mc arr ad S H := by
  obtain ⟨h1, h2, h3, h4, h5, h6, h7, h8, h9, h10⟩ := h
  exact ⟨h1, h2, h3, h4, h5, h6, h7, ⟨⟨hF _ h8.1, h1.lt⟩, ⟨hF _ h8.2.1, h2.lt⟩, ⟨hF _ h8.2.2.1, h3.lt⟩, fun hn => ⟨hF _ (h8.2.2.2.1 hn), (h4 hn).lt⟩, fun k hk => ⟨hF _ (h8.2.2.2.2 k hk), (h5 k hk).2.lt⟩⟩, fun q e => hN q e.1, h10⟩

set_option maxHeartbeats 4000000 in
theorem met_X1_init (l : Launch) (g : GT) (x sz : Nat) : Met l yX1_init (ws_ yX1_init cX1_init 1 none) ({ frames := 5, cells := 3, slots := 19, locals := 100 } : Room) (PcG g [.ref x] (fun H => H.size = sz ∧ va_at (gD g) bbCl (x, .inr (0, [.null])) H ∧ gA g x)) (va_Qv (fun _ : Unit => True) (fun _ u => ∃ b, XB g (fun q => sz ≤ q ∧ q < u.heap.size) x b bs0 u.heap) (fun q => q = x ∨ sz ≤ q)) 3 19 (fun q => q = x ∨ sz ≤ q) := by
  refine gg_met (cc := cX1_init) (maxL := 1) (ret := none) (by decide) (Nat.le_of_ble_eq_true rfl) ?_
  intro p e s m below meth c hx hb hr hlk hin hml hown hts hG hB ls hl
  have hown : s.vm.findClass RX1 = some m.cls := hown
  have hl : lv_has ls 1 [(0, .ref x)] := hl
  obtain ⟨hsz, h_x, hgx⟩ := hB
  have hN : ∀ q, sz ≤ q → gA g q := fun q e => Nat.le_trans (by rw [← hsz]; exact hG.sz) e
  have hAN : ∀ q, (q = x ∨ sz ≤ q) → gA g q := fun q e => e.elim (fun e => by rw [e]; exact hgx) (hN q)
  have hS : va_S (fun q => q = x ∨ sz ≤ q) s.heap s.heap [] := va_S.rf
  have hlx : x < sz := by rw [← hsz]; exact h_x.lt
  refine lv_aload_n hx hb dX1_init_0 rfl (lv_at hl 0 rfl) ?_
  refine W.objInit hx hb hown (hts _ q44) (hts _ q45) (hts _ q46) rfl (by rw [hml]; exact hl.1) rfl dX1_init_1 (Nat.le_of_ble_eq_true rfl) (Nat.le_of_ble_eq_true rfl) ?_
  refine W.eq (g2 := F0 m 4 ls []) rfl ?_
  refine lv_aload_n hx hb dX1_init_4 rfl (lv_at hl 0 rfl) ?_
  refine gg_new (C := RX2) (T := TX2) (N := 8) (ci := 1) (fs := [.int 0, .int 0, .int 0, .int 0, .null, .int 0, .null, .null]) hx hb hts in_X2 tyX2 tyX2_ok hown q47 q48 q15 hG hS rfl (fun j hj => by rcases (show j = 0 ∨ j = 1 ∨ j = 2 ∨ j = 3 ∨ j = 4 ∨ j = 5 ∨ j = 6 ∨ j = 7 by omega) with rfl | rfl | rfl | rfl | rfl | rfl | rfl | rfl <;> rfl) (Nat.le_of_ble_eq_true rfl) (Nat.le_of_ble_eq_true rfl) dX1_init_5 (fun nb H hnb h_nb hgr hS => ?_)
  rw [hsz] at hnb
  have h_x := h_x.grow hgr
  have hszH : H.size = sz + 1 := by rw [hgr.1, hsz]
  refine lv_dup hx hb dX1_init_8 rfl ?_
  refine va_callv (va_runIN (As := []) (rest := [.ref nb, .ref x]) ⟨hx, hb, hml, hown, hts⟩ (met_X2_init l g nb (sz + 1)) ⟨va_cnB 0 hts (lw_meth q51) rfl rfl rfl (hG.nw q49 rfl) (hts _ q15) (by decide +kernel) ⟨Nat.le_of_ble_eq_true rfl, Nat.le_of_ble_eq_true rfl⟩, rfl, hts _ q50⟩ (gg_preS hG (hS.kp hG hAN) ⟨hszH, h_nb, hN _ (by omega)⟩) rfl rfl hl.1 rfl (lv_room (Nat.le_of_ble_eq_true rfl)) dX1_init_9 ⟨Nat.le_of_ble_eq_true rfl, Nat.le_of_ble_eq_true rfl⟩) hS (fun q _ e => by rcases (show q = nb ∨ sz + 1 ≤ q from e) with e | e <;> (exact Or.inr (by omega))) (fun (q : Nat) e => by rcases (show q = nb ∨ sz + 1 ≤ q from e) with e | e <;> (exact Or.inr (by omega))) (fun u t9 H1 locs ht hvm _ hY hz1 hk1 hS => ?_)
  rw [ht] at hY
  have h_x := h_x.kept (hk1 x h_x.lt (fun e => by rcases (show x = nb ∨ sz + 1 ≤ x from e) with e | e <;> omega))
  obtain ⟨cd1, al1, el1, cap1, mc1, arr1, ad1, hY⟩ := hY
  generalize H1 = H at hY h_x hS ⊢
  refine gg_putF (ci := 0) (v := .ref nb) (C := RX1) (T := TX1) (N := 1) hx hb hts in_X1 tyX1 tyX1_ok nmX1 hown hG h_x hS (Or.inl rfl) rfl 0 (by decide) q115 rfl rfl hin rfl rfl (Nat.le_of_ble_eq_true rfl) dX1_init_12 (fun H locs h_x hbut hS => ?_)
  have h_x : va_at (gD g) bbCl (x, .inr (0, [.ref nb])) H := h_x
  have hY := hY.kept (fun q hq => hbut.2 q (by rcases (show q = nb ∨ sz + 1 ≤ q from hq) with e | e <;> omega))
  have hlt := hY
  refine W.widen (k := 3) (n := 19) (by decide) (by decide) ?_
  exact W.vret hx hb hr (fun t9 h9 hW9 => ⟨⟨(), rfl, trivial, by dsimp only; rw [h9]; exact ⟨nb, h_x, ⟨_, _, _, _, _, _, _, hY.bound (fun q e => by rcases (show q = nb ∨ sz + 1 ≤ q from e) with e | e <;> omega) hN⟩, fun e => by omega⟩⟩, hS.F h9⟩) hS.2.2 dX1_init_15
