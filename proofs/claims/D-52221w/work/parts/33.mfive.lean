/-! THE MODEL'S METHODS, on: minutes, what would be, what is told. -/
set_option maxRecDepth 100000
theorem MO.m0 {g : GT} {M : Nat → Nat} {s0 a0 : Nat} {th : Int32} {S : BS} {H : Heap} (h : MO g M s0 a0 th S H) : va_at (gD g) bbCl (M 0, moE th (sN S) (M 1) (M 2) (M 3) (M 4) s0 a0) H := by
  obtain ⟨_, _, _, h1, -⟩ := h
  exact h1
theorem MO.put {g : GT} {M : Nat → Nat} {s0 a0 : Nat} {th th1 : Int32} {S : BS} {H H1 : Heap} (h : MO g M s0 a0 th S H) (hi : Inj5 M) (hb : ∀ q : Nat, q < H.size → q ≠ M 0 → H1[q]? = H[q]?) (hat : va_at (gD g) bbCl (M 0, moE th1 (sN S) (M 1) (M 2) (M 3) (M 4) s0 a0) H1) : MO g M s0 a0 th1 S H1 := by
  obtain ⟨fb, fn, fc, h1, h2, h3, h4, h5, h6⟩ := h
  exact ⟨fb, fn, fc, hat, h2.kept (hb _ h2.lt (hi.ne 1 0 (by decide) (by decide) (by decide))), h3.kept (hb _ h3.lt (hi.ne 2 0 (by decide) (by decide) (by decide))), h4.kept (hb _ h4.lt (hi.ne 3 0 (by decide) (by decide) (by decide))), h5.kept (hb _ h5.lt (hi.ne 4 0 (by decide) (by decide) (by decide))), h6⟩
theorem SP.b0 {g : GT} {B : Nat → Nat} {m0 : Nat} {S : BS} {H : Heap} (h : SP g B m0 S H) : va_at (gD g) bbCl (B 0, stE S (B 1) (B 2) (B 3) (B 4) m0) H := by
  obtain ⟨_, _, _, _, h1, -⟩ := h
  exact h1.1
theorem SQ.recv {g : GT} {s : State} {B : Nat → Nat} {m0 : Nat} {H : Heap} (hG : GG g s) (h : SQ g B m0 H) : ∃ cell : Cell, H[B 0]? = some cell ∧ cell.vm.isStatics = false ∧ s.vm.findClass RX5 = some cell.cls := by
  obtain ⟨x1, x2, x3, x4, x5, x6, x7, fi, fw, fl, fh, h1, -⟩ := h
  exact gg_recv hG h1 rfl
theorem SP.put {g : GT} {B : Nat → Nat} {m0 : Nat} {S S1 : BS} {H H1 : Heap} (h : SP g B m0 S H) (hi : Inj5 B) (hb : But (B 0) H H1) (hat : va_at (gD g) bbCl (B 0, stE S1 (B 1) (B 2) (B 3) (B 4) m0) H1) (he : S1.2 = S.2) : SP g B m0 S1 H1 := by
  obtain ⟨fi, fw, fl, fh, ⟨h1, h2, h3, h4, h5⟩, h6, h7⟩ := h
  have e2 : sN S1 = sN S := by rw [show sN S1 = S1.2.2.1 from rfl, he]
  have e3 : sTv S1 = sTv S := by rw [show sTv S1 = S1.2.2.2 from rfl, he]
  refine ⟨fi, fw, fl, fh, ⟨hat, h2.but hb (hi.ne 1 0 (by decide) (by decide) (by decide)), h3.but hb (hi.ne 2 0 (by decide) (by decide) (by decide)), h4.but hb (hi.ne 3 0 (by decide) (by decide) (by decide)), h5.but hb (hi.ne 4 0 (by decide) (by decide) (by decide))⟩, ?_, by rw [e2]; exact h7⟩
  unfold AR
  rw [e2, e3]
  exact h6
theorem kp_ {D : va_G} {cl : List vw_C} {q : Nat × va_E} {H0 H : Heap} {sz : Nat} {locs : List Loc} (h : va_at D cl q H0) (hsz : H0.size = sz) (hS : va_S (fun q => sz ≤ q) H0 H locs) : va_at D cl q H := h.kept (hS.2.1 _ h.lt (by have := h.lt; rw [hsz] at this; exact Nat.not_le.mpr this))
theorem told7 {t : TT} {x0 x1 x2 x3 x4 x5 x6 : Int32} (h01 : tBa t = 0 ∨ tBa t = 1) (e0 : x0 = tBa t) (e1 : x1 = tMi t) (e2 : x2 = nI (tSt t)) (e3 : x3 = tCa t) (e4 : x4 = tWa t) (e5 : x5 = tLe t) (e6 : x6 = tPa t) {w : Nat} (hw : w < 7) :
    upd (upd (upd (upd (upd (upd (upd (fun _ => 0) 0 x0) 1 x1) 2 x2) 3 x3) 4 x4) 5 x5) 6 x6 w = tTold t w := by
  subst e0 e1 e2 e3 e4 e5 e6
  rcases (show w = 0 ∨ w = 1 ∨ w = 2 ∨ w = 3 ∨ w = 4 ∨ w = 5 ∨ w = 6 by omega) with rfl | rfl | rfl | rfl | rfl | rfl | rfl
  · rcases h01 with e | e <;> simp [upd, tTold, e]
  all_goals simp [upd, tTold]
/-- the k-th trial of best -/
def sTry (S : BS) (ic : Int32) (k : Nat) : BS := if ic = 0 then sPoi S (nI k) else sCod S k
def fTry (S : BS) (n : Nat) (ic : Int32) (k : Nat) : Int32 := bWaited (bRun (sTry S ic k) n)
theorem FM_m0 {M B C : Nat → Nat} {q : Nat} (e : q = M 0) : FM M B C q := Or.inl ⟨0, by decide, e⟩

set_option maxHeartbeats 4000000 in
theorem met_X4_pass (l : Launch) (g : GT) (T : Nat) (M B C : Nat → Nat) (th : Int32) (S : BS) (hok : OKS T S) (hD : MD g M B C) (hT : T < 2 ^ 29) (v : Int32) : Met l yX4_pass (ws_ yX4_pass cX4_pass 3 (Option.some Jvm.ClassFile.FieldType.int)) ({ frames := 5, cells := 0, slots := 0, locals := 109 } : Room) (PcG g [.ref (M 0), .int v] (fun H => MX g M B C th S H)) (va_Qi (fun (r : Int32) (_ : Unit) => r = (aPass S v).2.1) (fun _ u => MX g M B C (aPass S v).1 (aPass S v).2.2 u.heap) (FM M B C)) 0 0 (FM M B C) := by
  refine gg_met (cc := cX4_pass) (maxL := 3) (ret := (Option.some Jvm.ClassFile.FieldType.int)) (by decide) (Nat.le_of_ble_eq_true rfl) ?_
  intro p e s m below meth c hx hb hr hlk hin hml hown hts hG hB ls hl
  have hown : s.vm.findClass RX4 = some m.cls := hown
  have hl : lv_has ls 3 [(0, .ref (M 0)), (1, .int v)] := hl
  obtain ⟨hMO, hSP, hC⟩ := hB
  have h_m := hMO.m0
  have nM := hD.1.ne
  have iM := hD.1
  have iB := hD.2.1
  have iC := hD.2.2.1
  have nBM := hD.2.2.2.1
  have nMB := hD.2.2.2.1.symm
  have nCM := hD.2.2.2.2.1
  have nMC := hD.2.2.2.2.1.symm
  have nBC := hD.2.2.2.2.2.1
  have nCB := hD.2.2.2.2.2.1.symm
  have gB9 := hD.2.2.2.2.2.2.2.1
  have gC9 := hD.2.2.2.2.2.2.2.2
  have hAN : ∀ q, FM M B C q → gA g q := hD.an
  have hS : va_S (FM M B C) s.heap s.heap [] := va_S.rf
  have hn40 : sN S ≤ 40 := hok.2.2.2.2.2.2.2.1
  refine lv_aload_n hx hb dX4_pass_0 rfl (lv_at hl 0 rfl) ?_
  refine lv_iconst (v := 0) hx hb dX4_pass_1 (by decide) ?_
  refine gg_put (ci := 4) (v := .int 0) (C := RX4) (T := TX4) (N := 8) hx hb hts in_X4 tyX4 tyX4_ok nmX4 hown hG h_m hS (Or.inl ⟨0, by decide, rfl⟩) rfl 0 (by decide) q716 rfl rfl rfl rfl (Nat.le_of_ble_eq_true rfl) dX4_pass_2 (fun H locs h_m hbut hS => ?_)
  have h_m : va_at (gD g) bbCl ((M 0), .inr (4, [.int 0, .int (nI (sN S)), .ref (M 1), .ref (M 2), .ref (M 3), .ref (M 4), .ref (B 0), .ref (C 0)])) H := h_m
  have hMO := hMO.put iM (fun q _ h9 => hbut.2 q h9) h_m
  have hSP := hSP.kept (fun i hi9 _ => hbut.2 _ (nBM i 0 hi9 (by decide)))
  have hC := hC.kept (fun i hi9 _ => hbut.2 _ (nCM i 0 hi9 (by decide)))
  refine lv_iload_n hx hb dX4_pass_5 rfl (lv_at hl 1 rfl) ?_
  refine lv_iconst (v := 1) hx hb dX4_pass_6 (by decide) ?_
  refine lv_sipush (v := 240) hx hb dX4_pass_7 (by decide) ?_
  refine vp_callSi (va_Run.run (va_runS (As := [.int v, .int 1, .int 240]) (rest := []) ⟨hx, hb, hml, hown, hts⟩ (met_X4_isIn l g v 1 240) (va_cwS 3 hts (lw_S q753 q754 q21 q755) rfl rfl rfl (by decide +kernel) ⟨Nat.le_of_ble_eq_true rfl, Nat.le_of_ble_eq_true rfl⟩) (gg_preS hG (hS.kp hG hAN) trivial) rfl rfl hl.1 rfl (lv_room (Nat.le_of_ble_eq_true rfl)) dX4_pass_10 ⟨Nat.le_of_ble_eq_true rfl, Nat.le_of_ble_eq_true rfl⟩)) (fun r_1 hr_1 => ?_)
  refine lv_if_ne (tgt := 22) hx hb dX4_pass_13 (by decide) (fun c_13 => ?_) (fun c_13 => ?_)
  · have hT1 := b01_t hr_1 c_13
    obtain ⟨n, hn1, hn2, hkj⟩ := in1_ex hT1
    subst hkj
    have hcl := nI_clamp (n := n) (by omega)
    refine lv_aload_n hx hb dX4_pass_22 rfl (lv_at hl 0 rfl) ?_
    refine gg_get (ci := 4) (C := RX4) (T := TX4) (N := 8) (v := .ref (B 0)) hx hb hts in_X4 hown hG h_m rfl 6 (by decide) q726 rfl rfl dX4_pass_23 ?_
    refine lv_iconst (v := 2) hx hb dX4_pass_26 (by decide) ?_
    refine lv_iconst (v := 2) hx hb dX4_pass_27 (by decide) ?_
    refine vp_callSi (va_Run.run (va_runV (As := [.int 2, .int 2]) (rest := []) ⟨hx, hb, hml, hown, hts⟩ (met_X5_are l g T (M 0) (B 0) S 2 (by decide) 2) (cwV 2 hts (lw_V q830 q802 q803 q22 q804) rfl rfl rfl (by decide +kernel) ⟨Nat.le_of_ble_eq_true rfl, Nat.le_of_ble_eq_true rfl⟩) (gg_preV hG (hS.kp hG hAN) (gg_recv hG hSP.b0 rfl) (RM.of hMO hSP hok)) rfl rfl hl.1 rfl (lv_room (Nat.le_of_ble_eq_true rfl)) dX4_pass_28 ⟨Nat.le_of_ble_eq_true rfl, Nat.le_of_ble_eq_true rfl⟩)) (fun r_2 hr_2 => ?_)
    refine lv_istore_n (lv' := [(2, .int r_2), (0, .ref (M 0)), (1, .int (nI n))]) hx hb dX4_pass_31 rfl hl (by decide) rfl (fun ls hl => ?_)
    refine lv_aload_n hx hb dX4_pass_32 rfl (lv_at hl 1 rfl) ?_
    refine gg_get (ci := 4) (C := RX4) (T := TX4) (N := 8) (v := .ref (B 0)) hx hb hts in_X4 hown hG h_m rfl 6 (by decide) q726 rfl rfl dX4_pass_33 ?_
    refine lv_iload_n hx hb dX4_pass_36 rfl (lv_at hl 2 rfl) ?_
    refine va_callv (va_runV (As := [.int (nI n)]) (rest := []) ⟨hx, hb, hml, hown, hts⟩ (met_X5_pass l g T (B 0) (C 0) M B 0 S hok iB nBM gB9 n hT (by omega)) (cwV 1 hts (lw_V q831 q832 q833 q22 q834) rfl rfl rfl (by decide +kernel) ⟨Nat.le_of_ble_eq_true rfl, Nat.le_of_ble_eq_true rfl⟩) (gg_preV hG (hS.kp hG hAN) (gg_recv hG hSP.b0 rfl) ⟨hMO, hSP⟩) rfl rfl hl.1 rfl (lv_room (Nat.le_of_ble_eq_true rfl)) dX4_pass_37 ⟨Nat.le_of_ble_eq_true rfl, Nat.le_of_ble_eq_true rfl⟩) hS (fun q _ e => Or.inr (Or.inl e)) (fun q  e => Or.inr (Or.inl e)) (fun u t9 H1 locs ht hvm _ hQ hz1 hk1 hS => ?_)
    rw [ht] at hQ
    have hMO := hMO.kept (fun i hi9 hl9 => hk1 _ hl9 (nMB.out hi9))
    have h_m := hMO.m0
    have hC := hC.kept (fun i hi9 hl9 => hk1 _ hl9 (nCB.out hi9))
    have hSP := hQ
    generalize H1 = H at hMO hSP hC h_m hS ⊢
    refine lv_aload_n hx hb dX4_pass_40 rfl (lv_at hl 1 rfl) ?_
    refine gg_get (ci := 4) (C := RX4) (T := TX4) (N := 8) (v := .ref (B 0)) hx hb hts in_X4 hown hG h_m rfl 6 (by decide) q726 rfl rfl dX4_pass_41 ?_
    refine lv_iconst (v := 2) hx hb dX4_pass_44 (by decide) ?_
    refine lv_iconst (v := 2) hx hb dX4_pass_45 (by decide) ?_
    refine vp_callSi (va_Run.run (va_runV (As := [.int 2, .int 2]) (rest := []) ⟨hx, hb, hml, hown, hts⟩ (met_X5_are l g (T + n) (M 0) (B 0) (bRun S n) 2 (by decide) 2) (cwV 2 hts (lw_V q830 q802 q803 q22 q804) rfl rfl rfl (by decide +kernel) ⟨Nat.le_of_ble_eq_true rfl, Nat.le_of_ble_eq_true rfl⟩) (gg_preV hG (hS.kp hG hAN) (gg_recv hG hSP.b0 rfl) (RM.of (hMO.run n) hSP (OKS_run hok n))) rfl rfl hl.1 rfl (lv_room (Nat.le_of_ble_eq_true rfl)) dX4_pass_46 ⟨Nat.le_of_ble_eq_true rfl, Nat.le_of_ble_eq_true rfl⟩)) (fun r_3 hr_3 => ?_)
    refine lv_iload_n hx hb dX4_pass_49 rfl (lv_at hl 0 rfl) ?_
    refine lv_isub hx hb dX4_pass_50 ?_
    have hE : aPass S (nI n) = ((0, bPassed (bRun S n) - bPassed S, bRun S n) : Ans) := by unfold aPass; rw [if_pos hT1, hcl]
    exact W.iret (v := (r_3 - r_2)) hx hb hr (fun t9 h9 hW9 => ⟨⟨_, (), rfl, (by rw [hE, hr_3, hr_2, mAre_2, mAre_2]), by dsimp only; rw [h9, hE]; exact ⟨hMO.run n, hSP, hC⟩⟩, hS.F h9⟩) hS.2.2 dX4_pass_51
  · refine lv_aload_n hx hb dX4_pass_16 rfl (lv_at hl 0 rfl) ?_
    refine lv_iconst (v := 1) hx hb dX4_pass_17 (by decide) ?_
    refine va_calli (va_runV (As := [.int 1]) (rest := []) ⟨hx, hb, hml, hown, hts⟩ (met_X4_no l g (M 0) (sN S) (M 1) (M 2) (M 3) (M 4) (B 0) (C 0) 0 1 (hAN _ (FM_m0 rfl))) (cwV 1 hts (lw_V q756 q758 qs6 q21 q759) rfl rfl rfl (by decide +kernel) ⟨Nat.le_of_ble_eq_true rfl, Nat.le_of_ble_eq_true rfl⟩) (gg_preV hG (hS.kp hG hAN) (gg_recv hG h_m rfl) h_m) rfl rfl hl.1 rfl (lv_room (Nat.le_of_ble_eq_true rfl)) dX4_pass_18 ⟨Nat.le_of_ble_eq_true rfl, Nat.le_of_ble_eq_true rfl⟩) hS (fun q _ e => FM_m0 e) (fun q e => FM_m0 e) (fun r_n u t9 H1 locs ht hvm hr_n hQ hz1 hk1 hS => ?_)
    rw [ht] at hQ
    have hMO := hMO.put iM (fun q h8 h9 => hk1 q h8 h9) hQ
    have hSP := hSP.kept (fun i hi9 hl9 => hk1 _ hl9 (nBM i 0 hi9 (by decide)))
    have hC := hC.kept (fun i hi9 hl9 => hk1 _ hl9 (nCM i 0 hi9 (by decide)))
    generalize H1 = H at hMO hSP hC hS ⊢
    have hE : aPass S v = ((1, 0, S) : Ans) := by unfold aPass; rw [if_neg (b01_f hr_1 c_13)]
    exact W.iret (v := r_n) hx hb hr (fun t9 h9 hW9 => ⟨⟨_, (), rfl, (hr_n.trans (congrArg (fun a : Ans => a.2.1) hE).symm), by dsimp only; rw [h9, hE]; exact ⟨hMO, hSP, hC⟩⟩, hS.F h9⟩) hS.2.2 dX4_pass_21

set_option maxHeartbeats 4000000 in
theorem met_X4_when (l : Launch) (g : GT) (T : Nat) (M B C : Nat → Nat) (th : Int32) (S : BS) (hok : OKS T S) (hD : MD g M B C) (hT : T < 2 ^ 29) (k : Int32) : Met l yX4_when (ws_ yX4_when cX4_when 3 (Option.some Jvm.ClassFile.FieldType.int)) ({ frames := 4, cells := 0, slots := 0, locals := 103 } : Room) (PcG g [.ref (M 0), .int k] (fun H => MX g M B C th S H)) (va_Qi (fun (r : Int32) (_ : Unit) => r = (aWhen S k).2.1) (fun _ u => MX g M B C (aWhen S k).1 (aWhen S k).2.2 u.heap) (FM M B C)) 0 0 (FM M B C) := by
  refine gg_met (cc := cX4_when) (maxL := 3) (ret := (Option.some Jvm.ClassFile.FieldType.int)) (by decide) (Nat.le_of_ble_eq_true rfl) ?_
  intro p e s m below meth c hx hb hr hlk hin hml hown hts hG hB ls hl
  have hown : s.vm.findClass RX4 = some m.cls := hown
  have hl : lv_has ls 3 [(0, .ref (M 0)), (1, .int k)] := hl
  obtain ⟨hMO, hSP, hC⟩ := hB
  have h_m := hMO.m0
  have nM := hD.1.ne
  have iM := hD.1
  have iB := hD.2.1
  have iC := hD.2.2.1
  have nBM := hD.2.2.2.1
  have nMB := hD.2.2.2.1.symm
  have nCM := hD.2.2.2.2.1
  have nMC := hD.2.2.2.2.1.symm
  have nBC := hD.2.2.2.2.2.1
  have nCB := hD.2.2.2.2.2.1.symm
  have gB9 := hD.2.2.2.2.2.2.2.1
  have gC9 := hD.2.2.2.2.2.2.2.2
  have hAN : ∀ q, FM M B C q → gA g q := hD.an
  have hS : va_S (FM M B C) s.heap s.heap [] := va_S.rf
  have hn40 : sN S ≤ 40 := hok.2.2.2.2.2.2.2.1
  refine lv_aload_n hx hb dX4_when_0 rfl (lv_at hl 0 rfl) ?_
  refine lv_iconst (v := 0) hx hb dX4_when_1 (by decide) ?_
  refine gg_put (ci := 4) (v := .int 0) (C := RX4) (T := TX4) (N := 8) hx hb hts in_X4 tyX4 tyX4_ok nmX4 hown hG h_m hS (Or.inl ⟨0, by decide, rfl⟩) rfl 0 (by decide) q716 rfl rfl rfl rfl (Nat.le_of_ble_eq_true rfl) dX4_when_2 (fun H locs h_m hbut hS => ?_)
  have h_m : va_at (gD g) bbCl ((M 0), .inr (4, [.int 0, .int (nI (sN S)), .ref (M 1), .ref (M 2), .ref (M 3), .ref (M 4), .ref (B 0), .ref (C 0)])) H := h_m
  have hMO := hMO.put iM (fun q _ h9 => hbut.2 q h9) h_m
  have hSP := hSP.kept (fun i hi9 _ => hbut.2 _ (nBM i 0 hi9 (by decide)))
  have hC := hC.kept (fun i hi9 _ => hbut.2 _ (nCM i 0 hi9 (by decide)))
  refine lv_aload_n hx hb dX4_when_5 rfl (lv_at hl 0 rfl) ?_
  refine lv_iload_n hx hb dX4_when_6 rfl (lv_at hl 1 rfl) ?_
  refine vp_callSi (va_Run.run (va_runV (As := [.int k]) (rest := []) ⟨hx, hb, hml, hown, hts⟩ (met_X4_isTraveller l g (M 0) (sN S) (M 1) (M 2) (M 3) (M 4) (B 0) (C 0) 0 k hn40) (cwV 1 hts (lw_V q764 q766 qs7 q21 q767) rfl rfl rfl (by decide +kernel) ⟨Nat.le_of_ble_eq_true rfl, Nat.le_of_ble_eq_true rfl⟩) (gg_preV hG (hS.kp hG hAN) (gg_recv hG h_m rfl) h_m) rfl rfl hl.1 rfl (lv_room (Nat.le_of_ble_eq_true rfl)) dX4_when_7 ⟨Nat.le_of_ble_eq_true rfl, Nat.le_of_ble_eq_true rfl⟩)) (fun r_1 hr_1 => ?_)
  refine lv_if_ne (tgt := 19) hx hb dX4_when_10 (by decide) (fun c_10 => ?_) (fun c_10 => ?_)
  · have hT1 := b01_t hr_1 c_10
    obtain ⟨j, hj, hkj⟩ := isT_ex hn40 hT1
    subst hkj
    have hcl := nI_clamp (n := j) (by omega)
    refine lv_aload_n hx hb dX4_when_19 rfl (lv_at hl 0 rfl) ?_
    refine gg_get (ci := 4) (C := RX4) (T := TX4) (N := 8) (v := .ref (C 0)) hx hb hts in_X4 hown hG h_m rfl 7 (by decide) q727 rfl rfl dX4_when_20 ?_
    refine lv_aload_n hx hb dX4_when_23 rfl (lv_at hl 0 rfl) ?_
    refine gg_get (ci := 4) (C := RX4) (T := TX4) (N := 8) (v := .ref (B 0)) hx hb hts in_X4 hown hG h_m rfl 6 (by decide) q726 rfl rfl dX4_when_24 ?_
    refine va_callv (va_runV (As := [.ref (B 0)]) (rest := []) ⟨hx, hb, hml, hown, hts⟩ (met_X5_become l g M C B S iC nCB iB gC9 gB9) (cwV 1 hts (lw_V q849 q850 q851 q22 q852) rfl rfl rfl (by decide +kernel) ⟨Nat.le_of_ble_eq_true rfl, Nat.le_of_ble_eq_true rfl⟩) (gg_preV hG (hS.kp hG hAN) (SQ.recv hG hC) ⟨hC, hSP⟩) rfl rfl hl.1 rfl (lv_room (Nat.le_of_ble_eq_true rfl)) dX4_when_27 ⟨Nat.le_of_ble_eq_true rfl, Nat.le_of_ble_eq_true rfl⟩) hS (fun q _ e => e.elim (fun e => Or.inr (Or.inr e)) (fun e => Or.inr (Or.inl e))) (fun q  e => e.elim (fun e => Or.inr (Or.inr e)) (fun e => Or.inr (Or.inl e))) (fun u t9 H1 locs ht hvm _ hQ hz1 hk1 hS => ?_)
    rw [ht] at hQ
    obtain ⟨hA, hSP⟩ := hQ
    have hMO := hMO.kept (fun i hi9 hl9 => hk1 _ hl9 (fun e => e.elim (nMC.out hi9) (nMB.out hi9)))
    have h_m := hMO.m0
    generalize H1 = H at hMO hA hSP h_m hS ⊢
    refine lv_iconst (v := 0) hx hb dX4_when_30 (by decide) ?_
    refine lv_istore_n (lv' := [(2, .int 0), (0, .ref (M 0)), (1, .int (nI j))]) hx hb dX4_when_31 rfl hl (by decide) rfl (fun ls hl => ?_)
    have loop : ∀ (d k : Nat), k ≤ 401 → 402 ≤ k + d → bWhen S j = srch (fun i => decide (tSt (sTv (bRun S i) j) = 2)) (401 - k) k → ∀ (H : Heap) (locs : List Loc), MO g M (B 0) (C 0) 0 S H → SP g B (M 0) S H → SP g C (M 0) (bRun S k) H → va_S (FM M B C) s.heap H locs → ∀ ls : Array Slot, lv_has ls 3 [(2, .int (nI k)), (0, .ref (M 0)), (1, .int (nI j))] → W p l e ({ frames := 4, cells := 0, slots := 0, locals := 103 } : Room) s m ([.ref (M 0), .int (nI j)] : List Value).toArray below meth c H locs 0 0 (MQ below (va_Qi (fun (r : Int32) (_ : Unit) => r = (aWhen S (nI j)).2.1) (fun _ u => MX g M B C (aWhen S (nI j)).1 (aWhen S (nI j)).2.2 u.heap) (FM M B C)) ([.ref (M 0), .int (nI j)] : List Value).toArray s 0 0 (FM M B C)) (F0 m 32 ls []) := by
      clear hMO hSP hA h_m hS
      intro d
      induction d with
      | zero => intro k h1 h2; exact absurd h2 (by omega)
      | succ d ih =>
        intro k hk4 hkd hI H locs hMO hSP hA hS ls hl
        have h_m := hMO.m0
        have hA0 := hA
        obtain ⟨fi, fw, fl, fh, ⟨h_ct, h_ci, -⟩, hAR, -⟩ := hA0
        have hs4 := ((OKS_run hok k).2.2.2.2.2.2.2.2.1 j (by rw [bRun_n]; exact hj)).2.2.1
        have e_i := (hAR j (by rw [bRun_n]; exact hj)).1
        refine lv_iload_n hx hb dX4_when_32 rfl (lv_at hl 0 rfl) ?_
        refine lv_sipush (v := 400) hx hb dX4_when_33 (by decide) ?_
        refine lv_icmp_gt (tgt := 67) hx hb dX4_when_36 (by decide) (fun c_36 => ?_) (fun c_36 => ?_)
        · have hk5 : k = 401 := by rcases Nat.lt_or_ge k 401 with q | q; exact absurd (show nI 400 < nI k from c_36) (nI_nlt (by omega) (by decide)); omega
          refine lv_iconst (v := (-1)) hx hb dX4_when_67 (by decide) ?_
          have hE : aWhen S (nI j) = ((0, bWhen S j, S) : Ans) := by unfold aWhen; rw [if_pos hT1, hcl]
          exact W.iret (v := (-1)) hx hb hr (fun t9 h9 hW9 => ⟨⟨_, (), rfl, (by rw [hE, hI, hk5]; rfl), by dsimp only; rw [h9, hE]; exact ⟨hMO, hSP, hA.sq⟩⟩, hS.F h9⟩) hS.2.2 dX4_when_68
        · have hk5 : k < 401 := by rcases Nat.lt_or_ge k 401 with q | q; exact q; exact absurd (show nI 400 < nI k from nI_lt (by omega) (by omega)) c_36
          refine lv_aload_n hx hb dX4_when_39 rfl (lv_at hl 1 rfl) ?_
          refine gg_get (ci := 4) (C := RX4) (T := TX4) (N := 8) (v := .ref (C 0)) hx hb hts in_X4 hown hG h_m rfl 7 (by decide) q727 rfl rfl dX4_when_40 ?_
          refine gg_getN (ci := 5) (C := RX5) (T := TX5) (N := 12) (v := .ref (C 1)) hx hb hts in_X5 hown hG h_ct rfl 7 (by decide) q683 rfl rfl dX4_when_43 ?_
          refine lv_iload_n hx hb dX4_when_46 rfl (lv_at hl 2 rfl) ?_
          refine gg_iald hx hb hG h_ci j (show j < 40 by omega) (by decide) rfl dX4_when_47 ?_
          refine lv_iconst (v := 2) hx hb dX4_when_48 (by decide) ?_
          refine lv_icmp_ne (tgt := 54) hx hb dX4_when_49 (by decide) (fun c_49 => ?_) (fun c_49 => ?_)
          · refine lv_aload_n hx hb dX4_when_54 rfl (lv_at hl 1 rfl) ?_
            refine gg_get (ci := 4) (C := RX4) (T := TX4) (N := 8) (v := .ref (C 0)) hx hb hts in_X4 hown hG h_m rfl 7 (by decide) q727 rfl rfl dX4_when_55 ?_
            refine va_callv (va_runV (As := []) (rest := []) ⟨hx, hb, hml, hown, hts⟩ (met_X5_pass_2 l g (T + k) (B 0) (C 0) M C 0 (bRun S k) (OKS_run hok k) iC nCM gC9 (by omega)) (cwV 0 hts (lw_V q858 q836 q837 q22 q838) rfl rfl rfl (by decide +kernel) ⟨Nat.le_of_ble_eq_true rfl, Nat.le_of_ble_eq_true rfl⟩) (gg_preV hG (hS.kp hG hAN) (gg_recv hG hA.b0 rfl) ⟨(hMO.run k), hA⟩) rfl rfl hl.1 rfl (lv_room (Nat.le_of_ble_eq_true rfl)) dX4_when_58 ⟨Nat.le_of_ble_eq_true rfl, Nat.le_of_ble_eq_true rfl⟩) hS (fun q _ e => Or.inr (Or.inr e)) (fun q  e => Or.inr (Or.inr e)) (fun u t9 H1 locs ht hvm _ hQ hz1 hk1 hS => ?_)
            rw [ht] at hQ
            have hMO := hMO.kept (fun i hi9 hl9 => hk1 _ hl9 (nMC.out hi9))
            have h_m := hMO.m0
            have hSP := hSP.kept (fun i hi9 hl9 => hk1 _ hl9 (nBC.out hi9))
            have hA := hQ
            generalize H1 = H at hMO hSP hA h_m hS ⊢
            refine lv_iinc (v := nI (k + 1)) (lv' := [(2, .int (nI (k + 1))), (0, .ref (M 0)), (1, .int (nI j))]) hx hb dX4_when_61 hl (k := 0) rfl (nI_1 k) (by decide) rfl (fun ls hl => ?_)
            refine lv_goto (tgt := 32) hx hb dX4_when_64 (by decide) ?_
            exact ih (k + 1) (by omega) (by omega) (by rw [hI]; exact srch_f (n := 401) hk5 (by simpa using fun e => c_49 (by rw [e_i, e]; rfl))) _ _ hMO hSP hA hS ls (lv_sub hl [0, 1, 2] rfl)
          · refine lv_iload_n hx hb dX4_when_52 rfl (lv_at hl 0 rfl) ?_
            have hE : aWhen S (nI j) = ((0, bWhen S j, S) : Ans) := by unfold aWhen; rw [if_pos hT1, hcl]
            exact W.iret (v := (nI k)) hx hb hr (fun t9 h9 hW9 => ⟨⟨_, (), rfl, (by rw [hE, hI]; exact (srch_t (n := 401) hk5 (by simpa using (nI_eq (by omega) (by decide)).mp (e_i.symm.trans (show _ = nI 2 from c_49)))).symm), by dsimp only; rw [h9, hE]; exact ⟨hMO, hSP, hA.sq⟩⟩, hS.F h9⟩) hS.2.2 dX4_when_53
    exact loop 402 0 (by decide) (by decide) rfl _ _ hMO hSP hA hS ls (lv_sub hl [0, 1, 2] rfl)
  · refine lv_aload_n hx hb dX4_when_13 rfl (lv_at hl 0 rfl) ?_
    refine lv_iconst (v := 1) hx hb dX4_when_14 (by decide) ?_
    refine va_calli (va_runV (As := [.int 1]) (rest := []) ⟨hx, hb, hml, hown, hts⟩ (met_X4_no l g (M 0) (sN S) (M 1) (M 2) (M 3) (M 4) (B 0) (C 0) 0 1 (hAN _ (FM_m0 rfl))) (cwV 1 hts (lw_V q756 q758 qs6 q21 q759) rfl rfl rfl (by decide +kernel) ⟨Nat.le_of_ble_eq_true rfl, Nat.le_of_ble_eq_true rfl⟩) (gg_preV hG (hS.kp hG hAN) (gg_recv hG h_m rfl) h_m) rfl rfl hl.1 rfl (lv_room (Nat.le_of_ble_eq_true rfl)) dX4_when_15 ⟨Nat.le_of_ble_eq_true rfl, Nat.le_of_ble_eq_true rfl⟩) hS (fun q _ e => FM_m0 e) (fun q e => FM_m0 e) (fun r_n u t9 H1 locs ht hvm hr_n hQ hz1 hk1 hS => ?_)
    rw [ht] at hQ
    have hMO := hMO.put iM (fun q h8 h9 => hk1 q h8 h9) hQ
    have hSP := hSP.kept (fun i hi9 hl9 => hk1 _ hl9 (nBM i 0 hi9 (by decide)))
    have hC := hC.kept (fun i hi9 hl9 => hk1 _ hl9 (nCM i 0 hi9 (by decide)))
    generalize H1 = H at hMO hSP hC hS ⊢
    have hE : aWhen S k = ((1, 0, S) : Ans) := by unfold aWhen; rw [if_neg (b01_f hr_1 c_10)]
    exact W.iret (v := r_n) hx hb hr (fun t9 h9 hW9 => ⟨⟨_, (), rfl, (hr_n.trans (congrArg (fun a : Ans => a.2.1) hE).symm), by dsimp only; rw [h9, hE]; exact ⟨hMO, hSP, hC⟩⟩, hS.F h9⟩) hS.2.2 dX4_when_18

set_option maxHeartbeats 4000000 in
theorem met_X4_foresee (l : Launch) (g : GT) (T : Nat) (M B C : Nat → Nat) (th : Int32) (S : BS) (hok : OKS T S) (hD : MD g M B C) (hT : T < 2 ^ 29) (v w : Int32) : Met l yX4_foresee (ws_ yX4_foresee cX4_foresee 3 (Option.some Jvm.ClassFile.FieldType.int)) ({ frames := 5, cells := 0, slots := 0, locals := 109 } : Room) (PcG g [.ref (M 0), .int v, .int w] (fun H => MX g M B C th S H)) (va_Qi (fun (r : Int32) (_ : Unit) => r = (aFore S v w).2.1) (fun _ u => MX g M B C (aFore S v w).1 (aFore S v w).2.2 u.heap) (FM M B C)) 0 0 (FM M B C) := by
  refine gg_met (cc := cX4_foresee) (maxL := 3) (ret := (Option.some Jvm.ClassFile.FieldType.int)) (by decide) (Nat.le_of_ble_eq_true rfl) ?_
  intro p e s m below meth c hx hb hr hlk hin hml hown hts hG hB ls hl
  have hown : s.vm.findClass RX4 = some m.cls := hown
  have hl : lv_has ls 3 [(0, .ref (M 0)), (1, .int v), (2, .int w)] := hl
  obtain ⟨hMO, hSP, hC⟩ := hB
  have h_m := hMO.m0
  have nM := hD.1.ne
  have iM := hD.1
  have iB := hD.2.1
  have iC := hD.2.2.1
  have nBM := hD.2.2.2.1
  have nMB := hD.2.2.2.1.symm
  have nCM := hD.2.2.2.2.1
  have nMC := hD.2.2.2.2.1.symm
  have nBC := hD.2.2.2.2.2.1
  have nCB := hD.2.2.2.2.2.1.symm
  have gB9 := hD.2.2.2.2.2.2.2.1
  have gC9 := hD.2.2.2.2.2.2.2.2
  have hAN : ∀ q, FM M B C q → gA g q := hD.an
  have hS : va_S (FM M B C) s.heap s.heap [] := va_S.rf
  have hn40 : sN S ≤ 40 := hok.2.2.2.2.2.2.2.1
  refine lv_aload_n hx hb dX4_foresee_0 rfl (lv_at hl 0 rfl) ?_
  refine lv_iconst (v := 0) hx hb dX4_foresee_1 (by decide) ?_
  refine gg_put (ci := 4) (v := .int 0) (C := RX4) (T := TX4) (N := 8) hx hb hts in_X4 tyX4 tyX4_ok nmX4 hown hG h_m hS (Or.inl ⟨0, by decide, rfl⟩) rfl 0 (by decide) q716 rfl rfl rfl rfl (Nat.le_of_ble_eq_true rfl) dX4_foresee_2 (fun H locs h_m hbut hS => ?_)
  have h_m : va_at (gD g) bbCl ((M 0), .inr (4, [.int 0, .int (nI (sN S)), .ref (M 1), .ref (M 2), .ref (M 3), .ref (M 4), .ref (B 0), .ref (C 0)])) H := h_m
  have hMO := hMO.put iM (fun q _ h9 => hbut.2 q h9) h_m
  have hSP := hSP.kept (fun i hi9 _ => hbut.2 _ (nBM i 0 hi9 (by decide)))
  have hC := hC.kept (fun i hi9 _ => hbut.2 _ (nCM i 0 hi9 (by decide)))
  refine lv_iload_n hx hb dX4_foresee_5 rfl (lv_at hl 1 rfl) ?_
  refine lv_iconst (v := 1) hx hb dX4_foresee_6 (by decide) ?_
  refine lv_sipush (v := 240) hx hb dX4_foresee_7 (by decide) ?_
  refine vp_callSi (va_Run.run (va_runS (As := [.int v, .int 1, .int 240]) (rest := []) ⟨hx, hb, hml, hown, hts⟩ (met_X4_isIn l g v 1 240) (va_cwS 3 hts (lw_S q753 q754 q21 q755) rfl rfl rfl (by decide +kernel) ⟨Nat.le_of_ble_eq_true rfl, Nat.le_of_ble_eq_true rfl⟩) (gg_preS hG (hS.kp hG hAN) trivial) rfl rfl hl.1 rfl (lv_room (Nat.le_of_ble_eq_true rfl)) dX4_foresee_10 ⟨Nat.le_of_ble_eq_true rfl, Nat.le_of_ble_eq_true rfl⟩)) (fun r_1 hr_1 => ?_)
  refine lv_if_ne (tgt := 22) hx hb dX4_foresee_13 (by decide) (fun c_13 => ?_) (fun c_13 => ?_)
  · have hT1 := b01_t hr_1 c_13
    obtain ⟨n, hn1, hn2, hkj⟩ := in1_ex hT1
    subst hkj
    have hcl := nI_clamp (n := n) (by omega)
    refine lv_iload_n hx hb dX4_foresee_22 rfl (lv_at hl 2 rfl) ?_
    refine lv_iconst (v := 0) hx hb dX4_foresee_23 (by decide) ?_
    refine lv_iconst (v := 3) hx hb dX4_foresee_24 (by decide) ?_
    refine vp_callSi (va_Run.run (va_runS (As := [.int w, .int 0, .int 3]) (rest := []) ⟨hx, hb, hml, hown, hts⟩ (met_X4_isIn l g w 0 3) (va_cwS 3 hts (lw_S q753 q754 q21 q755) rfl rfl rfl (by decide +kernel) ⟨Nat.le_of_ble_eq_true rfl, Nat.le_of_ble_eq_true rfl⟩) (gg_preS hG (hS.kp hG hAN) trivial) rfl rfl hl.1 rfl (lv_room (Nat.le_of_ble_eq_true rfl)) dX4_foresee_25 ⟨Nat.le_of_ble_eq_true rfl, Nat.le_of_ble_eq_true rfl⟩)) (fun r_2 hr_2 => ?_)
    refine lv_if_ne (tgt := 37) hx hb dX4_foresee_28 (by decide) (fun c_28 => ?_) (fun c_28 => ?_)
    · have hT2 := b01_t hr_2 c_28
      obtain ⟨j, hj, hkj⟩ := i_in (n := 3) rfl hT2.1 hT2.2
      subst hkj
      have hclw := nI_clamp (n := j) (by omega)
      refine lv_aload_n hx hb dX4_foresee_37 rfl (lv_at hl 0 rfl) ?_
      refine gg_get (ci := 4) (C := RX4) (T := TX4) (N := 8) (v := .ref (C 0)) hx hb hts in_X4 hown hG h_m rfl 7 (by decide) q727 rfl rfl dX4_foresee_38 ?_
      refine lv_aload_n hx hb dX4_foresee_41 rfl (lv_at hl 0 rfl) ?_
      refine gg_get (ci := 4) (C := RX4) (T := TX4) (N := 8) (v := .ref (B 0)) hx hb hts in_X4 hown hG h_m rfl 6 (by decide) q726 rfl rfl dX4_foresee_42 ?_
      refine va_callv (va_runV (As := [.ref (B 0)]) (rest := []) ⟨hx, hb, hml, hown, hts⟩ (met_X5_become l g M C B S iC nCB iB gC9 gB9) (cwV 1 hts (lw_V q849 q850 q851 q22 q852) rfl rfl rfl (by decide +kernel) ⟨Nat.le_of_ble_eq_true rfl, Nat.le_of_ble_eq_true rfl⟩) (gg_preV hG (hS.kp hG hAN) (SQ.recv hG hC) ⟨hC, hSP⟩) rfl rfl hl.1 rfl (lv_room (Nat.le_of_ble_eq_true rfl)) dX4_foresee_45 ⟨Nat.le_of_ble_eq_true rfl, Nat.le_of_ble_eq_true rfl⟩) hS (fun q _ e => e.elim (fun e => Or.inr (Or.inr e)) (fun e => Or.inr (Or.inl e))) (fun q  e => e.elim (fun e => Or.inr (Or.inr e)) (fun e => Or.inr (Or.inl e))) (fun u t9 H1 locs ht hvm _ hQ hz1 hk1 hS => ?_)
      rw [ht] at hQ
      obtain ⟨hA, hSP⟩ := hQ
      have hMO := hMO.kept (fun i hi9 hl9 => hk1 _ hl9 (fun e => e.elim (nMC.out hi9) (nMB.out hi9)))
      have h_m := hMO.m0
      generalize H1 = H at hMO hA hSP h_m hS ⊢
      refine lv_aload_n hx hb dX4_foresee_48 rfl (lv_at hl 0 rfl) ?_
      refine gg_get (ci := 4) (C := RX4) (T := TX4) (N := 8) (v := .ref (C 0)) hx hb hts in_X4 hown hG h_m rfl 7 (by decide) q727 rfl rfl dX4_foresee_49 ?_
      refine lv_iload_n hx hb dX4_foresee_52 rfl (lv_at hl 1 rfl) ?_
      refine va_callv (va_runV (As := [.int (nI n)]) (rest := []) ⟨hx, hb, hml, hown, hts⟩ (met_X5_pass l g T (B 0) (C 0) M C 0 S hok iC nCM gC9 n hT (by omega)) (cwV 1 hts (lw_V q831 q832 q833 q22 q834) rfl rfl rfl (by decide +kernel) ⟨Nat.le_of_ble_eq_true rfl, Nat.le_of_ble_eq_true rfl⟩) (gg_preV hG (hS.kp hG hAN) (gg_recv hG hA.b0 rfl) ⟨hMO, hA⟩) rfl rfl hl.1 rfl (lv_room (Nat.le_of_ble_eq_true rfl)) dX4_foresee_53 ⟨Nat.le_of_ble_eq_true rfl, Nat.le_of_ble_eq_true rfl⟩) hS (fun q _ e => Or.inr (Or.inr e)) (fun q  e => Or.inr (Or.inr e)) (fun u t9 H1 locs ht hvm _ hQ hz1 hk1 hS => ?_)
      rw [ht] at hQ
      have hMO := hMO.kept (fun i hi9 hl9 => hk1 _ hl9 (nMC.out hi9))
      have h_m := hMO.m0
      have hSP := hSP.kept (fun i hi9 hl9 => hk1 _ hl9 (nBC.out hi9))
      have hA := hQ
      generalize H1 = H at hMO hSP hA h_m hS ⊢
      have h_ct := hA.b0
      refine lv_iload_n hx hb dX4_foresee_56 rfl (lv_at hl 2 rfl) ?_
      refine lv_if_ne (tgt := 80) hx hb dX4_foresee_57 (by decide) (fun c_57 => ?_) (fun c_57 => ?_)
      · refine lv_iload_n hx hb dX4_foresee_80 rfl (lv_at hl 2 rfl) ?_
        refine lv_iconst (v := 1) hx hb dX4_foresee_81 (by decide) ?_
        refine lv_icmp_ne (tgt := 103) hx hb dX4_foresee_82 (by decide) (fun c_82 => ?_) (fun c_82 => ?_)
        · refine lv_iload_n hx hb dX4_foresee_103 rfl (lv_at hl 2 rfl) ?_
          refine lv_iconst (v := 2) hx hb dX4_foresee_104 (by decide) ?_
          refine lv_icmp_ne (tgt := 118) hx hb dX4_foresee_105 (by decide) (fun c_105 => ?_) (fun c_105 => ?_)
          · refine lv_aload_n hx hb dX4_foresee_118 rfl (lv_at hl 0 rfl) ?_
            refine gg_get (ci := 4) (C := RX4) (T := TX4) (N := 8) (v := .ref (C 0)) hx hb hts in_X4 hown hG h_m rfl 7 (by decide) q727 rfl rfl dX4_foresee_119 ?_
            refine gg_getN (ci := 5) (C := RX5) (T := TX5) (N := 12) (v := .int (sIc (bRun S n))) hx hb hts in_X5 hown hG h_ct rfl 3 (by decide) q677 rfl rfl dX4_foresee_122 ?_
            have hE : aFore S (nI n) (nI j) = ((0, sIc (bRun S n), S) : Ans) := by unfold aFore; rw [if_pos hT1, if_pos hT2, hcl, hclw]; unfold bFore; rw [if_neg (show ¬ j = 0 from fun e => c_57 (by rw [e]; rfl)), if_neg (show ¬ j = 1 from fun e => c_82 (by rw [e]; rfl)), if_neg (show ¬ j = 2 from fun e => c_105 (by rw [e]; rfl))]
            exact W.iret (v := (sIc (bRun S n))) hx hb hr (fun t9 h9 hW9 => ⟨⟨_, (), rfl, (congrArg (fun a : Ans => a.2.1) hE).symm, by dsimp only; rw [h9, hE]; exact ⟨hMO, hSP, hA.sq⟩⟩, hS.F h9⟩) hS.2.2 dX4_foresee_125
          · refine lv_aload_n hx hb dX4_foresee_108 rfl (lv_at hl 0 rfl) ?_
            refine gg_get (ci := 4) (C := RX4) (T := TX4) (N := 8) (v := .ref (C 0)) hx hb hts in_X4 hown hG h_m rfl 7 (by decide) q727 rfl rfl dX4_foresee_109 ?_
            refine gg_getN (ci := 5) (C := RX5) (T := TX5) (N := 12) (v := .int (sAn (bRun S n))) hx hb hts in_X5 hown hG h_ct rfl 1 (by decide) q673 rfl rfl dX4_foresee_112 ?_
            refine lv_goto (tgt := 125) hx hb dX4_foresee_115 (by decide) ?_
            have hE : aFore S (nI n) (nI j) = ((0, sAn (bRun S n), S) : Ans) := by unfold aFore; rw [if_pos hT1, if_pos hT2, hcl, hclw]; unfold bFore; rw [if_neg (show ¬ j = 0 from fun e => c_57 (by rw [e]; rfl)), if_neg (show ¬ j = 1 from fun e => c_82 (by rw [e]; rfl)), if_pos (show j = 2 from (nI_eq (by omega) (by decide)).mp (show nI j = nI 2 from c_105))]
            exact W.iret (v := (sAn (bRun S n))) hx hb hr (fun t9 h9 hW9 => ⟨⟨_, (), rfl, (congrArg (fun a : Ans => a.2.1) hE).symm, by dsimp only; rw [h9, hE]; exact ⟨hMO, hSP, hA.sq⟩⟩, hS.F h9⟩) hS.2.2 dX4_foresee_125
        · refine lv_aload_n hx hb dX4_foresee_85 rfl (lv_at hl 0 rfl) ?_
          refine gg_get (ci := 4) (C := RX4) (T := TX4) (N := 8) (v := .ref (C 0)) hx hb hts in_X4 hown hG h_m rfl 7 (by decide) q727 rfl rfl dX4_foresee_86 ?_
          refine vp_callSi (va_Run.run (va_runV (As := []) (rest := []) ⟨hx, hb, hml, hown, hts⟩ (met_X5_sumWaited l g (T + n) (M 0) (C 0) (bRun S n)) (cwV 0 hts (lw_V q863 q806 q807 q22 q808) rfl rfl rfl (by decide +kernel) ⟨Nat.le_of_ble_eq_true rfl, Nat.le_of_ble_eq_true rfl⟩) (gg_preV hG (hS.kp hG hAN) (gg_recv hG hA.b0 rfl) (RM.of (hMO.run n) hA (OKS_run hok n))) rfl rfl hl.1 rfl (lv_room (Nat.le_of_ble_eq_true rfl)) dX4_foresee_89 ⟨Nat.le_of_ble_eq_true rfl, Nat.le_of_ble_eq_true rfl⟩)) (fun r_3 hr_3 => ?_)
          refine lv_aload_n hx hb dX4_foresee_92 rfl (lv_at hl 0 rfl) ?_
          refine gg_get (ci := 4) (C := RX4) (T := TX4) (N := 8) (v := .ref (B 0)) hx hb hts in_X4 hown hG h_m rfl 6 (by decide) q726 rfl rfl dX4_foresee_93 ?_
          refine vp_callSi (va_Run.run (va_runV (As := []) (rest := [.int r_3]) ⟨hx, hb, hml, hown, hts⟩ (met_X5_sumWaited l g T (M 0) (B 0) S) (cwV 0 hts (lw_V q863 q806 q807 q22 q808) rfl rfl rfl (by decide +kernel) ⟨Nat.le_of_ble_eq_true rfl, Nat.le_of_ble_eq_true rfl⟩) (gg_preV hG (hS.kp hG hAN) (gg_recv hG hSP.b0 rfl) (RM.of hMO hSP hok)) rfl rfl hl.1 rfl (lv_room (Nat.le_of_ble_eq_true rfl)) dX4_foresee_96 ⟨Nat.le_of_ble_eq_true rfl, Nat.le_of_ble_eq_true rfl⟩)) (fun r_4 hr_4 => ?_)
          refine lv_isub hx hb dX4_foresee_99 ?_
          refine lv_goto (tgt := 125) hx hb dX4_foresee_100 (by decide) ?_
          have hE : aFore S (nI n) (nI j) = ((0, bWaited (bRun S n) - bWaited S, S) : Ans) := by unfold aFore; rw [if_pos hT1, if_pos hT2, hcl, hclw]; unfold bFore; rw [if_neg (show ¬ j = 0 from fun e => c_57 (by rw [e]; rfl)), if_pos (show j = 1 from (nI_eq (by omega) (by decide)).mp (show nI j = nI 1 from c_82))]
          exact W.iret (v := (r_3 - r_4)) hx hb hr (fun t9 h9 hW9 => ⟨⟨_, (), rfl, (by rw [hE, hr_3, hr_4]), by dsimp only; rw [h9, hE]; exact ⟨hMO, hSP, hA.sq⟩⟩, hS.F h9⟩) hS.2.2 dX4_foresee_125
      · refine lv_aload_n hx hb dX4_foresee_60 rfl (lv_at hl 0 rfl) ?_
        refine gg_get (ci := 4) (C := RX4) (T := TX4) (N := 8) (v := .ref (C 0)) hx hb hts in_X4 hown hG h_m rfl 7 (by decide) q727 rfl rfl dX4_foresee_61 ?_
        refine lv_iconst (v := 2) hx hb dX4_foresee_64 (by decide) ?_
        refine lv_iconst (v := 2) hx hb dX4_foresee_65 (by decide) ?_
        refine vp_callSi (va_Run.run (va_runV (As := [.int 2, .int 2]) (rest := []) ⟨hx, hb, hml, hown, hts⟩ (met_X5_are l g (T + n) (M 0) (C 0) (bRun S n) 2 (by decide) 2) (cwV 2 hts (lw_V q830 q802 q803 q22 q804) rfl rfl rfl (by decide +kernel) ⟨Nat.le_of_ble_eq_true rfl, Nat.le_of_ble_eq_true rfl⟩) (gg_preV hG (hS.kp hG hAN) (gg_recv hG hA.b0 rfl) (RM.of (hMO.run n) hA (OKS_run hok n))) rfl rfl hl.1 rfl (lv_room (Nat.le_of_ble_eq_true rfl)) dX4_foresee_66 ⟨Nat.le_of_ble_eq_true rfl, Nat.le_of_ble_eq_true rfl⟩)) (fun r_3 hr_3 => ?_)
        refine lv_aload_n hx hb dX4_foresee_69 rfl (lv_at hl 0 rfl) ?_
        refine gg_get (ci := 4) (C := RX4) (T := TX4) (N := 8) (v := .ref (B 0)) hx hb hts in_X4 hown hG h_m rfl 6 (by decide) q726 rfl rfl dX4_foresee_70 ?_
        refine lv_iconst (v := 2) hx hb dX4_foresee_73 (by decide) ?_
        refine lv_iconst (v := 2) hx hb dX4_foresee_74 (by decide) ?_
        refine vp_callSi (va_Run.run (va_runV (As := [.int 2, .int 2]) (rest := [.int r_3]) ⟨hx, hb, hml, hown, hts⟩ (met_X5_are l g T (M 0) (B 0) S 2 (by decide) 2) (cwV 2 hts (lw_V q830 q802 q803 q22 q804) rfl rfl rfl (by decide +kernel) ⟨Nat.le_of_ble_eq_true rfl, Nat.le_of_ble_eq_true rfl⟩) (gg_preV hG (hS.kp hG hAN) (gg_recv hG hSP.b0 rfl) (RM.of hMO hSP hok)) rfl rfl hl.1 rfl (lv_room (Nat.le_of_ble_eq_true rfl)) dX4_foresee_75 ⟨Nat.le_of_ble_eq_true rfl, Nat.le_of_ble_eq_true rfl⟩)) (fun r_4 hr_4 => ?_)
        refine lv_isub hx hb dX4_foresee_78 ?_
        have hE : aFore S (nI n) (nI j) = ((0, bPassed (bRun S n) - bPassed S, S) : Ans) := by unfold aFore; rw [if_pos hT1, if_pos hT2, hcl, hclw]; unfold bFore; rw [if_pos (show j = 0 from (nI_eq (by omega) (by decide)).mp (show nI j = nI 0 from c_57))]
        exact W.iret (v := (r_3 - r_4)) hx hb hr (fun t9 h9 hW9 => ⟨⟨_, (), rfl, (by rw [hE, hr_3, hr_4, mAre_2, mAre_2]), by dsimp only; rw [h9, hE]; exact ⟨hMO, hSP, hA.sq⟩⟩, hS.F h9⟩) hS.2.2 dX4_foresee_79
    · refine lv_aload_n hx hb dX4_foresee_31 rfl (lv_at hl 0 rfl) ?_
      refine lv_iconst (v := 2) hx hb dX4_foresee_32 (by decide) ?_
      refine va_calli (va_runV (As := [.int 2]) (rest := []) ⟨hx, hb, hml, hown, hts⟩ (met_X4_no l g (M 0) (sN S) (M 1) (M 2) (M 3) (M 4) (B 0) (C 0) 0 2 (hAN _ (FM_m0 rfl))) (cwV 1 hts (lw_V q756 q758 qs6 q21 q759) rfl rfl rfl (by decide +kernel) ⟨Nat.le_of_ble_eq_true rfl, Nat.le_of_ble_eq_true rfl⟩) (gg_preV hG (hS.kp hG hAN) (gg_recv hG h_m rfl) h_m) rfl rfl hl.1 rfl (lv_room (Nat.le_of_ble_eq_true rfl)) dX4_foresee_33 ⟨Nat.le_of_ble_eq_true rfl, Nat.le_of_ble_eq_true rfl⟩) hS (fun q _ e => FM_m0 e) (fun q e => FM_m0 e) (fun r_n u t9 H1 locs ht hvm hr_n hQ hz1 hk1 hS => ?_)
      rw [ht] at hQ
      have hMO := hMO.put iM (fun q h8 h9 => hk1 q h8 h9) hQ
      have hSP := hSP.kept (fun i hi9 hl9 => hk1 _ hl9 (nBM i 0 hi9 (by decide)))
      have hC := hC.kept (fun i hi9 hl9 => hk1 _ hl9 (nCM i 0 hi9 (by decide)))
      generalize H1 = H at hMO hSP hC hS ⊢
      have hE : aFore S (nI n) w = ((2, 0, S) : Ans) := by unfold aFore; rw [if_pos hT1, if_neg (b01_f hr_2 c_28)]
      exact W.iret (v := r_n) hx hb hr (fun t9 h9 hW9 => ⟨⟨_, (), rfl, (hr_n.trans (congrArg (fun a : Ans => a.2.1) hE).symm), by dsimp only; rw [h9, hE]; exact ⟨hMO, hSP, hC⟩⟩, hS.F h9⟩) hS.2.2 dX4_foresee_36
  · refine lv_aload_n hx hb dX4_foresee_16 rfl (lv_at hl 0 rfl) ?_
    refine lv_iconst (v := 1) hx hb dX4_foresee_17 (by decide) ?_
    refine va_calli (va_runV (As := [.int 1]) (rest := []) ⟨hx, hb, hml, hown, hts⟩ (met_X4_no l g (M 0) (sN S) (M 1) (M 2) (M 3) (M 4) (B 0) (C 0) 0 1 (hAN _ (FM_m0 rfl))) (cwV 1 hts (lw_V q756 q758 qs6 q21 q759) rfl rfl rfl (by decide +kernel) ⟨Nat.le_of_ble_eq_true rfl, Nat.le_of_ble_eq_true rfl⟩) (gg_preV hG (hS.kp hG hAN) (gg_recv hG h_m rfl) h_m) rfl rfl hl.1 rfl (lv_room (Nat.le_of_ble_eq_true rfl)) dX4_foresee_18 ⟨Nat.le_of_ble_eq_true rfl, Nat.le_of_ble_eq_true rfl⟩) hS (fun q _ e => FM_m0 e) (fun q e => FM_m0 e) (fun r_n u t9 H1 locs ht hvm hr_n hQ hz1 hk1 hS => ?_)
    rw [ht] at hQ
    have hMO := hMO.put iM (fun q h8 h9 => hk1 q h8 h9) hQ
    have hSP := hSP.kept (fun i hi9 hl9 => hk1 _ hl9 (nBM i 0 hi9 (by decide)))
    have hC := hC.kept (fun i hi9 hl9 => hk1 _ hl9 (nCM i 0 hi9 (by decide)))
    generalize H1 = H at hMO hSP hC hS ⊢
    have hE : aFore S v w = ((1, 0, S) : Ans) := by unfold aFore; rw [if_neg (b01_f hr_1 c_13)]
    exact W.iret (v := r_n) hx hb hr (fun t9 h9 hW9 => ⟨⟨_, (), rfl, (hr_n.trans (congrArg (fun a : Ans => a.2.1) hE).symm), by dsimp only; rw [h9, hE]; exact ⟨hMO, hSP, hC⟩⟩, hS.F h9⟩) hS.2.2 dX4_foresee_21

set_option maxHeartbeats 4000000 in
theorem met_X4_best (l : Launch) (g : GT) (T : Nat) (M B C : Nat → Nat) (th : Int32) (S : BS) (hok : OKS T S) (hD : MD g M B C) (hT : T < 2 ^ 29) (n my : Nat) (ic : Int32) (hn2 : n ≤ 240) (hmy : my ≤ 31) (hic : ¬ ic = 0 → ∀ k, k < my → k < 5) : Met l yX4_best (ws_ yX4_best cX4_best 8 (Option.some Jvm.ClassFile.FieldType.int)) ({ frames := 5, cells := 0, slots := 0, locals := 109 } : Room) (PcG g [.ref (M 0), .int (nI n), .int ic, .int (nI my)] (fun H => MX g M B C th S H)) (va_Qi (fun (r : Int32) (_ : Unit) => r = (bst (fTry S n ic) my).1) (fun _ u => MX g M B C th S u.heap) (FM M B C)) 0 0 (FM M B C) := by
  refine gg_met (cc := cX4_best) (maxL := 8) (ret := (Option.some Jvm.ClassFile.FieldType.int)) (by decide) (Nat.le_of_ble_eq_true rfl) ?_
  intro p e s m below meth c hx hb hr hlk hin hml hown hts hG hB ls hl
  have hown : s.vm.findClass RX4 = some m.cls := hown
  have hl : lv_has ls 8 [(0, .ref (M 0)), (1, .int (nI n)), (2, .int ic), (3, .int (nI my))] := hl
  obtain ⟨hMO, hSP, hC⟩ := hB
  have h_m := hMO.m0
  have nM := hD.1.ne
  have iM := hD.1
  have iB := hD.2.1
  have iC := hD.2.2.1
  have nBM := hD.2.2.2.1
  have nMB := hD.2.2.2.1.symm
  have nCM := hD.2.2.2.2.1
  have nMC := hD.2.2.2.2.1.symm
  have nBC := hD.2.2.2.2.2.1
  have nCB := hD.2.2.2.2.2.1.symm
  have gB9 := hD.2.2.2.2.2.2.2.1
  have gC9 := hD.2.2.2.2.2.2.2.2
  have hAN : ∀ q, FM M B C q → gA g q := hD.an
  have hS : va_S (FM M B C) s.heap s.heap [] := va_S.rf
  have hn40 : sN S ≤ 40 := hok.2.2.2.2.2.2.2.1
  refine lv_iconst (v := (-1)) hx hb dX4_best_0 (by decide) ?_
  refine lv_istore (lv' := [(4, .int (-1)), (0, .ref (M 0)), (1, .int (nI n)), (2, .int ic), (3, .int (nI my))]) hx hb dX4_best_1 hl (by decide) rfl (fun ls hl => ?_)
  refine lv_iconst (v := 0) hx hb dX4_best_3 (by decide) ?_
  refine lv_istore (lv' := [(5, .int 0), (4, .int (-1)), (0, .ref (M 0)), (1, .int (nI n)), (2, .int ic), (3, .int (nI my))]) hx hb dX4_best_4 hl (by decide) rfl (fun ls hl => ?_)
  refine lv_iconst (v := 0) hx hb dX4_best_6 (by decide) ?_
  refine lv_istore (lv' := [(6, .int 0), (5, .int 0), (4, .int (-1)), (0, .ref (M 0)), (1, .int (nI n)), (2, .int ic), (3, .int (nI my))]) hx hb dX4_best_7 hl (by decide) rfl (fun ls hl => ?_)
  have loop : ∀ (d k : Nat), k ≤ my → my + 1 ≤ k + d → ∀ (H : Heap) (locs : List Loc), MO g M (B 0) (C 0) th S H → SP g B (M 0) S H → SQ g C (M 0) H → va_S (FM M B C) s.heap H locs → ∀ ls : Array Slot, lv_has ls 8 [(6, .int (nI k)), (5, .int ((bst (fTry S n ic) k).2)), (4, .int ((bst (fTry S n ic) k).1)), (0, .ref (M 0)), (1, .int (nI n)), (2, .int ic), (3, .int (nI my))] → W p l e ({ frames := 5, cells := 0, slots := 0, locals := 109 } : Room) s m ([.ref (M 0), .int (nI n), .int ic, .int (nI my)] : List Value).toArray below meth c H locs 0 0 (MQ below (va_Qi (fun (r : Int32) (_ : Unit) => r = (bst (fTry S n ic) my).1) (fun _ u => MX g M B C th S u.heap) (FM M B C)) ([.ref (M 0), .int (nI n), .int ic, .int (nI my)] : List Value).toArray s 0 0 (FM M B C)) (F0 m 9 ls []) := by
    clear hMO hSP hC h_m hS
    intro d
    induction d with
    | zero => intro k h1 h2; exact absurd h2 (by omega)
    | succ d ih =>
      intro k hk hkd H locs hMO hSP hC hS ls hl
      have h_m := hMO.m0
      refine lv_iload hx hb dX4_best_9 (lv_at hl 0 rfl) ?_
      refine lv_iload_n hx hb dX4_best_11 rfl (lv_at hl 6 rfl) ?_
      refine lv_icmp_ge (tgt := 98) hx hb dX4_best_12 (by decide) (fun c_12 => ?_) (fun c_12 => ?_)
      · have hk5 : k = my := by rcases Nat.lt_or_ge k my with q | q; exact absurd c_12 (nI_ge q (by omega)); omega
        subst hk5
        refine lv_iload hx hb dX4_best_98 (lv_at hl 2 rfl) ?_
        exact W.iret (v := ((bst (fTry S n ic) k).1)) hx hb hr (fun t9 h9 hW9 => ⟨⟨_, (), rfl, rfl, by dsimp only; rw [h9]; exact ⟨hMO, hSP, hC⟩⟩, hS.F h9⟩) hS.2.2 dX4_best_100
      · have hk5 : k < my := by rcases Nat.lt_or_ge k my with q | q; exact q; exact absurd (nI_le q (by omega)) c_12
        refine lv_aload_n hx hb dX4_best_15 rfl (lv_at hl 3 rfl) ?_
        refine gg_get (ci := 4) (C := RX4) (T := TX4) (N := 8) (v := .ref (C 0)) hx hb hts in_X4 hown hG h_m rfl 7 (by decide) q727 rfl rfl dX4_best_16 ?_
        refine lv_aload_n hx hb dX4_best_19 rfl (lv_at hl 3 rfl) ?_
        refine gg_get (ci := 4) (C := RX4) (T := TX4) (N := 8) (v := .ref (B 0)) hx hb hts in_X4 hown hG h_m rfl 6 (by decide) q726 rfl rfl dX4_best_20 ?_
        refine va_callv (va_runV (As := [.ref (B 0)]) (rest := []) ⟨hx, hb, hml, hown, hts⟩ (met_X5_become l g M C B S iC nCB iB gC9 gB9) (cwV 1 hts (lw_V q849 q850 q851 q22 q852) rfl rfl rfl (by decide +kernel) ⟨Nat.le_of_ble_eq_true rfl, Nat.le_of_ble_eq_true rfl⟩) (gg_preV hG (hS.kp hG hAN) (SQ.recv hG hC) ⟨hC, hSP⟩) rfl rfl hl.1 rfl (lv_room (Nat.le_of_ble_eq_true rfl)) dX4_best_23 ⟨Nat.le_of_ble_eq_true rfl, Nat.le_of_ble_eq_true rfl⟩) hS (fun q _ e => e.elim (fun e => Or.inr (Or.inr e)) (fun e => Or.inr (Or.inl e))) (fun q  e => e.elim (fun e => Or.inr (Or.inr e)) (fun e => Or.inr (Or.inl e))) (fun u t9 H1 locs ht hvm _ hQ hz1 hk1 hS => ?_)
        rw [ht] at hQ
        obtain ⟨hA, hSP⟩ := hQ
        have hMO := hMO.kept (fun i hi9 hl9 => hk1 _ hl9 (fun e => e.elim (nMC.out hi9) (nMB.out hi9)))
        have h_m := hMO.m0
        generalize H1 = H at hMO hA hSP h_m hS ⊢
        have h_ct := hA.b0
        refine lv_iload_n hx hb dX4_best_26 rfl (lv_at hl 5 rfl) ?_
        refine lv_if_eq (tgt := 42) hx hb dX4_best_27 (by decide) (fun c_27 => ?_) (fun c_27 => ?_)
        · refine lv_aload_n hx hb dX4_best_42 rfl (lv_at hl 3 rfl) ?_
          refine gg_get (ci := 4) (C := RX4) (T := TX4) (N := 8) (v := .ref (C 0)) hx hb hts in_X4 hown hG h_m rfl 7 (by decide) q727 rfl rfl dX4_best_43 ?_
          refine lv_iload hx hb dX4_best_46 (lv_at hl 0 rfl) ?_
          refine gg_putN (ci := 5) (v := .int (nI k)) (C := RX5) (T := TX5) (N := 12) hx hb hts in_X5 tyX5 tyX5_ok nmX5 hown hG h_ct hS (Or.inr (Or.inr ⟨0, by decide, rfl⟩)) rfl 2 (by decide) q675 rfl rfl rfl rfl (Nat.le_of_ble_eq_true rfl) dX4_best_48 (fun H locs h_ct hbut hS => ?_)
          have h_ct : va_at (gD g) bbCl ((C 0), .inr (5, [.int (sMi S), .int (sAn S), .int (nI k), .int (sIc S), .int (nI (sCo S)), .int (bPassing S), .int (sLa S), .ref (C 1), .ref (C 2), .ref (C 3), .ref (C 4), .ref (M 0)])) H := h_ct
          have hA := hA.put (S1 := (sPoi S (nI k))) iC hbut h_ct rfl
          have hSP := hSP.kept (fun i hi9 _ => hbut.2 _ (nBC i 0 hi9 (by decide)))
          have hMO := hMO.kept (fun i hi9 _ => hbut.2 _ (nMC i 0 hi9 (by decide)))
          have h_m := hMO.m0
          have hS1 : sTry S ic k = sPoi S (nI k) := if_pos c_27
          have hok1 : OKS T (sPoi S (nI k)) := OKS_poise hok (nI_pos' (by omega)) (show nI k ≤ nI 30 from nI_le (by omega) (by decide))
          rw [← hS1] at hA hok1
          have hM1 : MO g M (B 0) (C 0) th (sTry S ic k) H := hMO.alike (by rw [hS1]; exact ⟨rfl, rfl, fun _ => ⟨rfl, rfl, rfl⟩⟩)
          refine lv_aload_n hx hb dX4_best_51 rfl (lv_at hl 3 rfl) ?_
          refine gg_get (ci := 4) (C := RX4) (T := TX4) (N := 8) (v := .ref (C 0)) hx hb hts in_X4 hown hG h_m rfl 7 (by decide) q727 rfl rfl dX4_best_52 ?_
          refine lv_iload_n hx hb dX4_best_55 rfl (lv_at hl 4 rfl) ?_
          refine va_callv (va_runV (As := [.int (nI n)]) (rest := []) ⟨hx, hb, hml, hown, hts⟩ (met_X5_pass l g T (B 0) (C 0) M C th (sTry S ic k) hok1 iC nCM gC9 n hT (by omega)) (cwV 1 hts (lw_V q831 q832 q833 q22 q834) rfl rfl rfl (by decide +kernel) ⟨Nat.le_of_ble_eq_true rfl, Nat.le_of_ble_eq_true rfl⟩) (gg_preV hG (hS.kp hG hAN) (gg_recv hG hA.b0 rfl) ⟨hM1, hA⟩) rfl rfl hl.1 rfl (lv_room (Nat.le_of_ble_eq_true rfl)) dX4_best_56 ⟨Nat.le_of_ble_eq_true rfl, Nat.le_of_ble_eq_true rfl⟩) hS (fun q _ e => Or.inr (Or.inr e)) (fun q  e => Or.inr (Or.inr e)) (fun u t9 H1 locs ht hvm _ hQ hz1 hk1 hS => ?_)
          rw [ht] at hQ
          have hMO := hMO.kept (fun i hi9 hl9 => hk1 _ hl9 (nMC.out hi9))
          have h_m := hMO.m0
          have hSP := hSP.kept (fun i hi9 hl9 => hk1 _ hl9 (nBC.out hi9))
          have hA := hQ
          generalize H1 = H at hMO hSP hA h_m hS ⊢
          have hM1 : MO g M (B 0) (C 0) th (sTry S ic k) H := hMO.alike (by rw [hS1]; exact ⟨rfl, rfl, fun _ => ⟨rfl, rfl, rfl⟩⟩)
          refine lv_aload_n hx hb dX4_best_59 rfl (lv_at hl 3 rfl) ?_
          refine gg_get (ci := 4) (C := RX4) (T := TX4) (N := 8) (v := .ref (C 0)) hx hb hts in_X4 hown hG h_m rfl 7 (by decide) q727 rfl rfl dX4_best_60 ?_
          refine vp_callSi (va_Run.run (va_runV (As := []) (rest := []) ⟨hx, hb, hml, hown, hts⟩ (met_X5_sumWaited l g (T + n) (M 0) (C 0) (bRun (sTry S ic k) n)) (cwV 0 hts (lw_V q863 q806 q807 q22 q808) rfl rfl rfl (by decide +kernel) ⟨Nat.le_of_ble_eq_true rfl, Nat.le_of_ble_eq_true rfl⟩) (gg_preV hG (hS.kp hG hAN) (gg_recv hG hA.b0 rfl) (RM.of (hM1.run n) hA (OKS_run hok1 n))) rfl rfl hl.1 rfl (lv_room (Nat.le_of_ble_eq_true rfl)) dX4_best_63 ⟨Nat.le_of_ble_eq_true rfl, Nat.le_of_ble_eq_true rfl⟩)) (fun r_w hr_w => ?_)
          have hr_w : r_w = fTry S n ic k := hr_w
          refine lv_istore (lv' := [(7, .int r_w), (6, .int (nI k)), (5, .int ((bst (fTry S n ic) k).2)), (4, .int ((bst (fTry S n ic) k).1)), (0, .ref (M 0)), (1, .int (nI n)), (2, .int ic), (3, .int (nI my))]) hx hb dX4_best_66 hl (by decide) rfl (fun ls hl => ?_)
          refine lv_iload hx hb dX4_best_68 (lv_at hl 3 rfl) ?_
          refine lv_iconst (v := (-1)) hx hb dX4_best_70 (by decide) ?_
          refine lv_icmp_eq (tgt := 84) hx hb dX4_best_71 (by decide) (fun c_71 => ?_) (fun c_71 => ?_)
          · refine lv_iload hx hb dX4_best_84 (lv_at hl 1 rfl) ?_
            refine lv_istore (lv' := [(4, .int (nI k)), (7, .int r_w), (6, .int (nI k)), (5, .int ((bst (fTry S n ic) k).2)), (0, .ref (M 0)), (1, .int (nI n)), (2, .int ic), (3, .int (nI my))]) hx hb dX4_best_86 hl (by decide) rfl (fun ls hl => ?_)
            refine lv_iload hx hb dX4_best_88 (lv_at hl 1 rfl) ?_
            refine lv_istore (lv' := [(5, .int r_w), (4, .int (nI k)), (7, .int r_w), (6, .int (nI k)), (0, .ref (M 0)), (1, .int (nI n)), (2, .int ic), (3, .int (nI my))]) hx hb dX4_best_90 hl (by decide) rfl (fun ls hl => ?_)
            refine lv_iinc (v := nI (k + 1)) (lv' := [(6, .int (nI (k + 1))), (5, .int r_w), (4, .int (nI k)), (7, .int r_w), (0, .ref (M 0)), (1, .int (nI n)), (2, .int ic), (3, .int (nI my))]) hx hb dX4_best_92 hl (k := 3) rfl (nI_1 k) (by decide) rfl (fun ls hl => ?_)
            refine lv_goto (tgt := 9) hx hb dX4_best_95 (by decide) ?_
            have hl := (lv_sub hl [0, 1, 2, 4, 5, 6, 7] rfl)
            have eb : bst (fTry S n ic) (k + 1) = (nI k, fTry S n ic k) := by rw [bst, if_pos c_71]
            refine ih (k + 1) (by omega) (by omega) _ _ hMO hSP hA.sq hS ls ?_
            rw [eb, ← hr_w]; exact hl
          · refine lv_iload hx hb dX4_best_74 (lv_at hl 0 rfl) ?_
            refine lv_iload hx hb dX4_best_76 (lv_at hl 2 rfl) ?_
            refine lv_icmp_lt (tgt := 84) hx hb dX4_best_78 (by decide) (fun c_78 => ?_) (fun c_78 => ?_)
            · refine lv_iload hx hb dX4_best_84 (lv_at hl 1 rfl) ?_
              refine lv_istore (lv' := [(4, .int (nI k)), (7, .int r_w), (6, .int (nI k)), (5, .int ((bst (fTry S n ic) k).2)), (0, .ref (M 0)), (1, .int (nI n)), (2, .int ic), (3, .int (nI my))]) hx hb dX4_best_86 hl (by decide) rfl (fun ls hl => ?_)
              refine lv_iload hx hb dX4_best_88 (lv_at hl 1 rfl) ?_
              refine lv_istore (lv' := [(5, .int r_w), (4, .int (nI k)), (7, .int r_w), (6, .int (nI k)), (0, .ref (M 0)), (1, .int (nI n)), (2, .int ic), (3, .int (nI my))]) hx hb dX4_best_90 hl (by decide) rfl (fun ls hl => ?_)
              refine lv_iinc (v := nI (k + 1)) (lv' := [(6, .int (nI (k + 1))), (5, .int r_w), (4, .int (nI k)), (7, .int r_w), (0, .ref (M 0)), (1, .int (nI n)), (2, .int ic), (3, .int (nI my))]) hx hb dX4_best_92 hl (k := 3) rfl (nI_1 k) (by decide) rfl (fun ls hl => ?_)
              refine lv_goto (tgt := 9) hx hb dX4_best_95 (by decide) ?_
              have hl := (lv_sub hl [0, 1, 2, 4, 5, 6, 7] rfl)
              have eb : bst (fTry S n ic) (k + 1) = (nI k, fTry S n ic k) := by rw [bst, if_neg c_71, if_pos (by rw [← hr_w]; exact c_78)]
              refine ih (k + 1) (by omega) (by omega) _ _ hMO hSP hA.sq hS ls ?_
              rw [eb, ← hr_w]; exact hl
            · refine lv_goto (tgt := 92) hx hb dX4_best_81 (by decide) ?_
              refine lv_iinc (v := nI (k + 1)) (lv' := [(6, .int (nI (k + 1))), (7, .int r_w), (5, .int ((bst (fTry S n ic) k).2)), (4, .int ((bst (fTry S n ic) k).1)), (0, .ref (M 0)), (1, .int (nI n)), (2, .int ic), (3, .int (nI my))]) hx hb dX4_best_92 hl (k := 1) rfl (nI_1 k) (by decide) rfl (fun ls hl => ?_)
              refine lv_goto (tgt := 9) hx hb dX4_best_95 (by decide) ?_
              have hl := (lv_sub hl [0, 2, 3, 4, 5, 6, 7] rfl)
              have eb : bst (fTry S n ic) (k + 1) = bst (fTry S n ic) k := by rw [bst, if_neg c_71, if_neg (by rw [← hr_w]; exact c_78)]
              refine ih (k + 1) (by omega) (by omega) _ _ hMO hSP hA.sq hS ls ?_
              rw [eb]; exact hl
        · refine lv_aload_n hx hb dX4_best_30 rfl (lv_at hl 3 rfl) ?_
          refine gg_get (ci := 4) (C := RX4) (T := TX4) (N := 8) (v := .ref (C 0)) hx hb hts in_X4 hown hG h_m rfl 7 (by decide) q727 rfl rfl dX4_best_31 ?_
          refine lv_iload hx hb dX4_best_34 (lv_at hl 0 rfl) ?_
          refine gg_putN (ci := 5) (v := .int (nI k)) (C := RX5) (T := TX5) (N := 12) hx hb hts in_X5 tyX5 tyX5_ok nmX5 hown hG h_ct hS (Or.inr (Or.inr ⟨0, by decide, rfl⟩)) rfl 4 (by decide) q679 rfl rfl rfl rfl (Nat.le_of_ble_eq_true rfl) dX4_best_36 (fun H locs h_ct hbut hS => ?_)
          have h_ct : va_at (gD g) bbCl ((C 0), .inr (5, [.int (sMi S), .int (sAn S), .int (sPo S), .int (sIc S), .int (nI k), .int (bPassing S), .int (sLa S), .ref (C 1), .ref (C 2), .ref (C 3), .ref (C 4), .ref (M 0)])) H := h_ct
          have hA := hA.put (S1 := (sCod S k)) iC hbut h_ct rfl
          have hSP := hSP.kept (fun i hi9 _ => hbut.2 _ (nBC i 0 hi9 (by decide)))
          have hMO := hMO.kept (fun i hi9 _ => hbut.2 _ (nMC i 0 hi9 (by decide)))
          have h_m := hMO.m0
          have hS1 : sTry S ic k = sCod S k := if_neg c_27
          have hok1 : OKS T (sCod S k) := OKS_code hok (hic c_27 k hk5)
          rw [← hS1] at hA hok1
          have hM1 : MO g M (B 0) (C 0) th (sTry S ic k) H := hMO.alike (by rw [hS1]; exact ⟨rfl, rfl, fun _ => ⟨rfl, rfl, rfl⟩⟩)
          refine lv_goto (tgt := 51) hx hb dX4_best_39 (by decide) ?_
          refine lv_aload_n hx hb dX4_best_51 rfl (lv_at hl 3 rfl) ?_
          refine gg_get (ci := 4) (C := RX4) (T := TX4) (N := 8) (v := .ref (C 0)) hx hb hts in_X4 hown hG h_m rfl 7 (by decide) q727 rfl rfl dX4_best_52 ?_
          refine lv_iload_n hx hb dX4_best_55 rfl (lv_at hl 4 rfl) ?_
          refine va_callv (va_runV (As := [.int (nI n)]) (rest := []) ⟨hx, hb, hml, hown, hts⟩ (met_X5_pass l g T (B 0) (C 0) M C th (sTry S ic k) hok1 iC nCM gC9 n hT (by omega)) (cwV 1 hts (lw_V q831 q832 q833 q22 q834) rfl rfl rfl (by decide +kernel) ⟨Nat.le_of_ble_eq_true rfl, Nat.le_of_ble_eq_true rfl⟩) (gg_preV hG (hS.kp hG hAN) (gg_recv hG hA.b0 rfl) ⟨hM1, hA⟩) rfl rfl hl.1 rfl (lv_room (Nat.le_of_ble_eq_true rfl)) dX4_best_56 ⟨Nat.le_of_ble_eq_true rfl, Nat.le_of_ble_eq_true rfl⟩) hS (fun q _ e => Or.inr (Or.inr e)) (fun q  e => Or.inr (Or.inr e)) (fun u t9 H1 locs ht hvm _ hQ hz1 hk1 hS => ?_)
          rw [ht] at hQ
          have hMO := hMO.kept (fun i hi9 hl9 => hk1 _ hl9 (nMC.out hi9))
          have h_m := hMO.m0
          have hSP := hSP.kept (fun i hi9 hl9 => hk1 _ hl9 (nBC.out hi9))
          have hA := hQ
          generalize H1 = H at hMO hSP hA h_m hS ⊢
          have hM1 : MO g M (B 0) (C 0) th (sTry S ic k) H := hMO.alike (by rw [hS1]; exact ⟨rfl, rfl, fun _ => ⟨rfl, rfl, rfl⟩⟩)
          refine lv_aload_n hx hb dX4_best_59 rfl (lv_at hl 3 rfl) ?_
          refine gg_get (ci := 4) (C := RX4) (T := TX4) (N := 8) (v := .ref (C 0)) hx hb hts in_X4 hown hG h_m rfl 7 (by decide) q727 rfl rfl dX4_best_60 ?_
          refine vp_callSi (va_Run.run (va_runV (As := []) (rest := []) ⟨hx, hb, hml, hown, hts⟩ (met_X5_sumWaited l g (T + n) (M 0) (C 0) (bRun (sTry S ic k) n)) (cwV 0 hts (lw_V q863 q806 q807 q22 q808) rfl rfl rfl (by decide +kernel) ⟨Nat.le_of_ble_eq_true rfl, Nat.le_of_ble_eq_true rfl⟩) (gg_preV hG (hS.kp hG hAN) (gg_recv hG hA.b0 rfl) (RM.of (hM1.run n) hA (OKS_run hok1 n))) rfl rfl hl.1 rfl (lv_room (Nat.le_of_ble_eq_true rfl)) dX4_best_63 ⟨Nat.le_of_ble_eq_true rfl, Nat.le_of_ble_eq_true rfl⟩)) (fun r_w hr_w => ?_)
          have hr_w : r_w = fTry S n ic k := hr_w
          refine lv_istore (lv' := [(7, .int r_w), (6, .int (nI k)), (5, .int ((bst (fTry S n ic) k).2)), (4, .int ((bst (fTry S n ic) k).1)), (0, .ref (M 0)), (1, .int (nI n)), (2, .int ic), (3, .int (nI my))]) hx hb dX4_best_66 hl (by decide) rfl (fun ls hl => ?_)
          refine lv_iload hx hb dX4_best_68 (lv_at hl 3 rfl) ?_
          refine lv_iconst (v := (-1)) hx hb dX4_best_70 (by decide) ?_
          refine lv_icmp_eq (tgt := 84) hx hb dX4_best_71 (by decide) (fun c_71 => ?_) (fun c_71 => ?_)
          · refine lv_iload hx hb dX4_best_84 (lv_at hl 1 rfl) ?_
            refine lv_istore (lv' := [(4, .int (nI k)), (7, .int r_w), (6, .int (nI k)), (5, .int ((bst (fTry S n ic) k).2)), (0, .ref (M 0)), (1, .int (nI n)), (2, .int ic), (3, .int (nI my))]) hx hb dX4_best_86 hl (by decide) rfl (fun ls hl => ?_)
            refine lv_iload hx hb dX4_best_88 (lv_at hl 1 rfl) ?_
            refine lv_istore (lv' := [(5, .int r_w), (4, .int (nI k)), (7, .int r_w), (6, .int (nI k)), (0, .ref (M 0)), (1, .int (nI n)), (2, .int ic), (3, .int (nI my))]) hx hb dX4_best_90 hl (by decide) rfl (fun ls hl => ?_)
            refine lv_iinc (v := nI (k + 1)) (lv' := [(6, .int (nI (k + 1))), (5, .int r_w), (4, .int (nI k)), (7, .int r_w), (0, .ref (M 0)), (1, .int (nI n)), (2, .int ic), (3, .int (nI my))]) hx hb dX4_best_92 hl (k := 3) rfl (nI_1 k) (by decide) rfl (fun ls hl => ?_)
            refine lv_goto (tgt := 9) hx hb dX4_best_95 (by decide) ?_
            have hl := (lv_sub hl [0, 1, 2, 4, 5, 6, 7] rfl)
            have eb : bst (fTry S n ic) (k + 1) = (nI k, fTry S n ic k) := by rw [bst, if_pos c_71]
            refine ih (k + 1) (by omega) (by omega) _ _ hMO hSP hA.sq hS ls ?_
            rw [eb, ← hr_w]; exact hl
          · refine lv_iload hx hb dX4_best_74 (lv_at hl 0 rfl) ?_
            refine lv_iload hx hb dX4_best_76 (lv_at hl 2 rfl) ?_
            refine lv_icmp_lt (tgt := 84) hx hb dX4_best_78 (by decide) (fun c_78 => ?_) (fun c_78 => ?_)
            · refine lv_iload hx hb dX4_best_84 (lv_at hl 1 rfl) ?_
              refine lv_istore (lv' := [(4, .int (nI k)), (7, .int r_w), (6, .int (nI k)), (5, .int ((bst (fTry S n ic) k).2)), (0, .ref (M 0)), (1, .int (nI n)), (2, .int ic), (3, .int (nI my))]) hx hb dX4_best_86 hl (by decide) rfl (fun ls hl => ?_)
              refine lv_iload hx hb dX4_best_88 (lv_at hl 1 rfl) ?_
              refine lv_istore (lv' := [(5, .int r_w), (4, .int (nI k)), (7, .int r_w), (6, .int (nI k)), (0, .ref (M 0)), (1, .int (nI n)), (2, .int ic), (3, .int (nI my))]) hx hb dX4_best_90 hl (by decide) rfl (fun ls hl => ?_)
              refine lv_iinc (v := nI (k + 1)) (lv' := [(6, .int (nI (k + 1))), (5, .int r_w), (4, .int (nI k)), (7, .int r_w), (0, .ref (M 0)), (1, .int (nI n)), (2, .int ic), (3, .int (nI my))]) hx hb dX4_best_92 hl (k := 3) rfl (nI_1 k) (by decide) rfl (fun ls hl => ?_)
              refine lv_goto (tgt := 9) hx hb dX4_best_95 (by decide) ?_
              have hl := (lv_sub hl [0, 1, 2, 4, 5, 6, 7] rfl)
              have eb : bst (fTry S n ic) (k + 1) = (nI k, fTry S n ic k) := by rw [bst, if_neg c_71, if_pos (by rw [← hr_w]; exact c_78)]
              refine ih (k + 1) (by omega) (by omega) _ _ hMO hSP hA.sq hS ls ?_
              rw [eb, ← hr_w]; exact hl
            · refine lv_goto (tgt := 92) hx hb dX4_best_81 (by decide) ?_
              refine lv_iinc (v := nI (k + 1)) (lv' := [(6, .int (nI (k + 1))), (7, .int r_w), (5, .int ((bst (fTry S n ic) k).2)), (4, .int ((bst (fTry S n ic) k).1)), (0, .ref (M 0)), (1, .int (nI n)), (2, .int ic), (3, .int (nI my))]) hx hb dX4_best_92 hl (k := 1) rfl (nI_1 k) (by decide) rfl (fun ls hl => ?_)
              refine lv_goto (tgt := 9) hx hb dX4_best_95 (by decide) ?_
              have hl := (lv_sub hl [0, 2, 3, 4, 5, 6, 7] rfl)
              have eb : bst (fTry S n ic) (k + 1) = bst (fTry S n ic) k := by rw [bst, if_neg c_71, if_neg (by rw [← hr_w]; exact c_78)]
              refine ih (k + 1) (by omega) (by omega) _ _ hMO hSP hA.sq hS ls ?_
              rw [eb]; exact hl
  exact loop (my + 1) 0 (Nat.zero_le _) (by omega) _ _ hMO hSP hC hS ls (lv_sub hl [0, 1, 2, 3, 4, 5, 6] rfl)

theorem fTry_c (S : BS) (n : Nat) : fTry S n 1 = fCode S n := by
  funext k
  unfold fTry sTry fCode
  rw [if_neg (by decide)]
theorem fTry_p (S : BS) (n : Nat) : fTry S n 0 = fPoise S n := by
  funext k
  unfold fTry sTry fPoise
  rw [if_pos rfl]

set_option maxHeartbeats 4000000 in
theorem met_X4_bestCode (l : Launch) (g : GT) (T : Nat) (M B C : Nat → Nat) (th : Int32) (S : BS) (hok : OKS T S) (hD : MD g M B C) (hT : T < 2 ^ 29) (v : Int32) : Met l yX4_bestCode (ws_ yX4_bestCode cX4_bestCode 2 (Option.some Jvm.ClassFile.FieldType.int)) ({ frames := 6, cells := 0, slots := 0, locals := 136 } : Room) (PcG g [.ref (M 0), .int v] (fun H => MX g M B C th S H)) (va_Qi (fun (r : Int32) (_ : Unit) => r = (aBestC S v).2.1) (fun _ u => MX g M B C (aBestC S v).1 (aBestC S v).2.2 u.heap) (FM M B C)) 0 0 (FM M B C) := by
  refine gg_met (cc := cX4_bestCode) (maxL := 2) (ret := (Option.some Jvm.ClassFile.FieldType.int)) (by decide) (Nat.le_of_ble_eq_true rfl) ?_
  intro p e s m below meth c hx hb hr hlk hin hml hown hts hG hB ls hl
  have hown : s.vm.findClass RX4 = some m.cls := hown
  have hl : lv_has ls 2 [(0, .ref (M 0)), (1, .int v)] := hl
  obtain ⟨hMO, hSP, hC⟩ := hB
  have h_m := hMO.m0
  have nM := hD.1.ne
  have iM := hD.1
  have iB := hD.2.1
  have iC := hD.2.2.1
  have nBM := hD.2.2.2.1
  have nMB := hD.2.2.2.1.symm
  have nCM := hD.2.2.2.2.1
  have nMC := hD.2.2.2.2.1.symm
  have nBC := hD.2.2.2.2.2.1
  have nCB := hD.2.2.2.2.2.1.symm
  have gB9 := hD.2.2.2.2.2.2.2.1
  have gC9 := hD.2.2.2.2.2.2.2.2
  have hAN : ∀ q, FM M B C q → gA g q := hD.an
  have hS : va_S (FM M B C) s.heap s.heap [] := va_S.rf
  have hn40 : sN S ≤ 40 := hok.2.2.2.2.2.2.2.1
  refine lv_aload_n hx hb dX4_bestCode_0 rfl (lv_at hl 0 rfl) ?_
  refine lv_iconst (v := 0) hx hb dX4_bestCode_1 (by decide) ?_
  refine gg_put (ci := 4) (v := .int 0) (C := RX4) (T := TX4) (N := 8) hx hb hts in_X4 tyX4 tyX4_ok nmX4 hown hG h_m hS (Or.inl ⟨0, by decide, rfl⟩) rfl 0 (by decide) q716 rfl rfl rfl rfl (Nat.le_of_ble_eq_true rfl) dX4_bestCode_2 (fun H locs h_m hbut hS => ?_)
  have h_m : va_at (gD g) bbCl ((M 0), .inr (4, [.int 0, .int (nI (sN S)), .ref (M 1), .ref (M 2), .ref (M 3), .ref (M 4), .ref (B 0), .ref (C 0)])) H := h_m
  have hMO := hMO.put iM (fun q _ h9 => hbut.2 q h9) h_m
  have hSP := hSP.kept (fun i hi9 _ => hbut.2 _ (nBM i 0 hi9 (by decide)))
  have hC := hC.kept (fun i hi9 _ => hbut.2 _ (nCM i 0 hi9 (by decide)))
  refine lv_iload_n hx hb dX4_bestCode_5 rfl (lv_at hl 1 rfl) ?_
  refine lv_iconst (v := 1) hx hb dX4_bestCode_6 (by decide) ?_
  refine lv_sipush (v := 240) hx hb dX4_bestCode_7 (by decide) ?_
  refine vp_callSi (va_Run.run (va_runS (As := [.int v, .int 1, .int 240]) (rest := []) ⟨hx, hb, hml, hown, hts⟩ (met_X4_isIn l g v 1 240) (va_cwS 3 hts (lw_S q753 q754 q21 q755) rfl rfl rfl (by decide +kernel) ⟨Nat.le_of_ble_eq_true rfl, Nat.le_of_ble_eq_true rfl⟩) (gg_preS hG (hS.kp hG hAN) trivial) rfl rfl hl.1 rfl (lv_room (Nat.le_of_ble_eq_true rfl)) dX4_bestCode_10 ⟨Nat.le_of_ble_eq_true rfl, Nat.le_of_ble_eq_true rfl⟩)) (fun r_1 hr_1 => ?_)
  refine lv_if_eq (tgt := 26) hx hb dX4_bestCode_13 (by decide) (fun c_13 => ?_) (fun c_13 => ?_)
  · refine lv_aload_n hx hb dX4_bestCode_26 rfl (lv_at hl 0 rfl) ?_
    refine lv_iconst (v := 1) hx hb dX4_bestCode_27 (by decide) ?_
    refine va_calli (va_runV (As := [.int 1]) (rest := []) ⟨hx, hb, hml, hown, hts⟩ (met_X4_no l g (M 0) (sN S) (M 1) (M 2) (M 3) (M 4) (B 0) (C 0) 0 1 (hAN _ (FM_m0 rfl))) (cwV 1 hts (lw_V q756 q758 qs6 q21 q759) rfl rfl rfl (by decide +kernel) ⟨Nat.le_of_ble_eq_true rfl, Nat.le_of_ble_eq_true rfl⟩) (gg_preV hG (hS.kp hG hAN) (gg_recv hG h_m rfl) h_m) rfl rfl hl.1 rfl (lv_room (Nat.le_of_ble_eq_true rfl)) dX4_bestCode_28 ⟨Nat.le_of_ble_eq_true rfl, Nat.le_of_ble_eq_true rfl⟩) hS (fun q _ e => FM_m0 e) (fun q e => FM_m0 e) (fun r_n u t9 H1 locs ht hvm hr_n hQ hz1 hk1 hS => ?_)
    rw [ht] at hQ
    have hMO := hMO.put iM (fun q h8 h9 => hk1 q h8 h9) hQ
    have hSP := hSP.kept (fun i hi9 hl9 => hk1 _ hl9 (nBM i 0 hi9 (by decide)))
    have hC := hC.kept (fun i hi9 hl9 => hk1 _ hl9 (nCM i 0 hi9 (by decide)))
    generalize H1 = H at hMO hSP hC hS ⊢
    have hE : aBestC S v = ((1, 0, S) : Ans) := by unfold aBestC; rw [if_neg (b01_f hr_1 c_13)]
    exact W.iret (v := r_n) hx hb hr (fun t9 h9 hW9 => ⟨⟨_, (), rfl, (hr_n.trans (congrArg (fun a : Ans => a.2.1) hE).symm), by dsimp only; rw [h9, hE]; exact ⟨hMO, hSP, hC⟩⟩, hS.F h9⟩) hS.2.2 dX4_bestCode_31
  · have hT1 := b01_t hr_1 c_13
    obtain ⟨n, hn1, hn2, hkj⟩ := in1_ex hT1
    subst hkj
    have hcl := nI_clamp (n := n) (by omega)
    refine lv_aload_n hx hb dX4_bestCode_16 rfl (lv_at hl 0 rfl) ?_
    refine lv_iload_n hx hb dX4_bestCode_17 rfl (lv_at hl 1 rfl) ?_
    refine lv_iconst (v := 1) hx hb dX4_bestCode_18 (by decide) ?_
    refine lv_iconst (v := 4) hx hb dX4_bestCode_19 (by decide) ?_
    refine va_calli (va_runV (As := [.int (nI n), .int 1, .int 4]) (rest := []) ⟨hx, hb, hml, hown, hts⟩ (met_X4_best l g T M B C 0 S hok hD hT n 4 1 hn2 (by decide) (fun _ k hk => by omega)) (cwV 3 hts (lw_V q868 q870 qs12 q21 q871) rfl rfl rfl (by decide +kernel) ⟨Nat.le_of_ble_eq_true rfl, Nat.le_of_ble_eq_true rfl⟩) (gg_preV hG (hS.kp hG hAN) (gg_recv hG h_m rfl) ⟨hMO, hSP, hC⟩) rfl rfl hl.1 rfl (lv_room (Nat.le_of_ble_eq_true rfl)) dX4_bestCode_20 ⟨Nat.le_of_ble_eq_true rfl, Nat.le_of_ble_eq_true rfl⟩) hS (fun q _ e => e) (fun q e => e) (fun r_b u t9 H1 locs ht hvm hr_b hQ hz1 hk1 hS => ?_)
    rw [ht] at hQ
    obtain ⟨hMO, hSP, hC⟩ := hQ
    generalize H1 = H at hMO hSP hC hS ⊢
    refine lv_goto (tgt := 31) hx hb dX4_bestCode_23 (by decide) ?_
    have hE : aBestC S (nI n) = ((0, (bst (fCode S n) 4).1, S) : Ans) := by unfold aBestC; rw [if_pos hT1, hcl]
    exact W.iret (v := r_b) hx hb hr (fun t9 h9 hW9 => ⟨⟨_, (), rfl, (by rw [hE, hr_b, fTry_c]), by dsimp only; rw [h9, hE]; exact ⟨hMO, hSP, hC⟩⟩, hS.F h9⟩) hS.2.2 dX4_bestCode_31

set_option maxHeartbeats 4000000 in
theorem met_X4_bestPoise (l : Launch) (g : GT) (T : Nat) (M B C : Nat → Nat) (th : Int32) (S : BS) (hok : OKS T S) (hD : MD g M B C) (hT : T < 2 ^ 29) (v : Int32) : Met l yX4_bestPoise (ws_ yX4_bestPoise cX4_bestPoise 2 (Option.some Jvm.ClassFile.FieldType.int)) ({ frames := 6, cells := 0, slots := 0, locals := 136 } : Room) (PcG g [.ref (M 0), .int v] (fun H => MX g M B C th S H)) (va_Qi (fun (r : Int32) (_ : Unit) => r = (aBestP S v).2.1) (fun _ u => MX g M B C (aBestP S v).1 (aBestP S v).2.2 u.heap) (FM M B C)) 0 0 (FM M B C) := by
  refine gg_met (cc := cX4_bestPoise) (maxL := 2) (ret := (Option.some Jvm.ClassFile.FieldType.int)) (by decide) (Nat.le_of_ble_eq_true rfl) ?_
  intro p e s m below meth c hx hb hr hlk hin hml hown hts hG hB ls hl
  have hown : s.vm.findClass RX4 = some m.cls := hown
  have hl : lv_has ls 2 [(0, .ref (M 0)), (1, .int v)] := hl
  obtain ⟨hMO, hSP, hC⟩ := hB
  have h_m := hMO.m0
  have nM := hD.1.ne
  have iM := hD.1
  have iB := hD.2.1
  have iC := hD.2.2.1
  have nBM := hD.2.2.2.1
  have nMB := hD.2.2.2.1.symm
  have nCM := hD.2.2.2.2.1
  have nMC := hD.2.2.2.2.1.symm
  have nBC := hD.2.2.2.2.2.1
  have nCB := hD.2.2.2.2.2.1.symm
  have gB9 := hD.2.2.2.2.2.2.2.1
  have gC9 := hD.2.2.2.2.2.2.2.2
  have hAN : ∀ q, FM M B C q → gA g q := hD.an
  have hS : va_S (FM M B C) s.heap s.heap [] := va_S.rf
  have hn40 : sN S ≤ 40 := hok.2.2.2.2.2.2.2.1
  refine lv_aload_n hx hb dX4_bestPoise_0 rfl (lv_at hl 0 rfl) ?_
  refine lv_iconst (v := 0) hx hb dX4_bestPoise_1 (by decide) ?_
  refine gg_put (ci := 4) (v := .int 0) (C := RX4) (T := TX4) (N := 8) hx hb hts in_X4 tyX4 tyX4_ok nmX4 hown hG h_m hS (Or.inl ⟨0, by decide, rfl⟩) rfl 0 (by decide) q716 rfl rfl rfl rfl (Nat.le_of_ble_eq_true rfl) dX4_bestPoise_2 (fun H locs h_m hbut hS => ?_)
  have h_m : va_at (gD g) bbCl ((M 0), .inr (4, [.int 0, .int (nI (sN S)), .ref (M 1), .ref (M 2), .ref (M 3), .ref (M 4), .ref (B 0), .ref (C 0)])) H := h_m
  have hMO := hMO.put iM (fun q _ h9 => hbut.2 q h9) h_m
  have hSP := hSP.kept (fun i hi9 _ => hbut.2 _ (nBM i 0 hi9 (by decide)))
  have hC := hC.kept (fun i hi9 _ => hbut.2 _ (nCM i 0 hi9 (by decide)))
  refine lv_iload_n hx hb dX4_bestPoise_5 rfl (lv_at hl 1 rfl) ?_
  refine lv_iconst (v := 1) hx hb dX4_bestPoise_6 (by decide) ?_
  refine lv_sipush (v := 240) hx hb dX4_bestPoise_7 (by decide) ?_
  refine vp_callSi (va_Run.run (va_runS (As := [.int v, .int 1, .int 240]) (rest := []) ⟨hx, hb, hml, hown, hts⟩ (met_X4_isIn l g v 1 240) (va_cwS 3 hts (lw_S q753 q754 q21 q755) rfl rfl rfl (by decide +kernel) ⟨Nat.le_of_ble_eq_true rfl, Nat.le_of_ble_eq_true rfl⟩) (gg_preS hG (hS.kp hG hAN) trivial) rfl rfl hl.1 rfl (lv_room (Nat.le_of_ble_eq_true rfl)) dX4_bestPoise_10 ⟨Nat.le_of_ble_eq_true rfl, Nat.le_of_ble_eq_true rfl⟩)) (fun r_1 hr_1 => ?_)
  refine lv_if_eq (tgt := 27) hx hb dX4_bestPoise_13 (by decide) (fun c_13 => ?_) (fun c_13 => ?_)
  · refine lv_aload_n hx hb dX4_bestPoise_27 rfl (lv_at hl 0 rfl) ?_
    refine lv_iconst (v := 1) hx hb dX4_bestPoise_28 (by decide) ?_
    refine va_calli (va_runV (As := [.int 1]) (rest := []) ⟨hx, hb, hml, hown, hts⟩ (met_X4_no l g (M 0) (sN S) (M 1) (M 2) (M 3) (M 4) (B 0) (C 0) 0 1 (hAN _ (FM_m0 rfl))) (cwV 1 hts (lw_V q756 q758 qs6 q21 q759) rfl rfl rfl (by decide +kernel) ⟨Nat.le_of_ble_eq_true rfl, Nat.le_of_ble_eq_true rfl⟩) (gg_preV hG (hS.kp hG hAN) (gg_recv hG h_m rfl) h_m) rfl rfl hl.1 rfl (lv_room (Nat.le_of_ble_eq_true rfl)) dX4_bestPoise_29 ⟨Nat.le_of_ble_eq_true rfl, Nat.le_of_ble_eq_true rfl⟩) hS (fun q _ e => FM_m0 e) (fun q e => FM_m0 e) (fun r_n u t9 H1 locs ht hvm hr_n hQ hz1 hk1 hS => ?_)
    rw [ht] at hQ
    have hMO := hMO.put iM (fun q h8 h9 => hk1 q h8 h9) hQ
    have hSP := hSP.kept (fun i hi9 hl9 => hk1 _ hl9 (nBM i 0 hi9 (by decide)))
    have hC := hC.kept (fun i hi9 hl9 => hk1 _ hl9 (nCM i 0 hi9 (by decide)))
    generalize H1 = H at hMO hSP hC hS ⊢
    have hE : aBestP S v = ((1, 0, S) : Ans) := by unfold aBestP; rw [if_neg (b01_f hr_1 c_13)]
    exact W.iret (v := r_n) hx hb hr (fun t9 h9 hW9 => ⟨⟨_, (), rfl, (hr_n.trans (congrArg (fun a : Ans => a.2.1) hE).symm), by dsimp only; rw [h9, hE]; exact ⟨hMO, hSP, hC⟩⟩, hS.F h9⟩) hS.2.2 dX4_bestPoise_32
  · have hT1 := b01_t hr_1 c_13
    obtain ⟨n, hn1, hn2, hkj⟩ := in1_ex hT1
    subst hkj
    have hcl := nI_clamp (n := n) (by omega)
    refine lv_aload_n hx hb dX4_bestPoise_16 rfl (lv_at hl 0 rfl) ?_
    refine lv_iload_n hx hb dX4_bestPoise_17 rfl (lv_at hl 1 rfl) ?_
    refine lv_iconst (v := 0) hx hb dX4_bestPoise_18 (by decide) ?_
    refine lv_bipush (v := 31) hx hb dX4_bestPoise_19 (by decide) ?_
    refine va_calli (va_runV (As := [.int (nI n), .int 0, .int 31]) (rest := []) ⟨hx, hb, hml, hown, hts⟩ (met_X4_best l g T M B C 0 S hok hD hT n 31 0 hn2 (by decide) (fun h => absurd rfl h)) (cwV 3 hts (lw_V q868 q870 qs12 q21 q871) rfl rfl rfl (by decide +kernel) ⟨Nat.le_of_ble_eq_true rfl, Nat.le_of_ble_eq_true rfl⟩) (gg_preV hG (hS.kp hG hAN) (gg_recv hG h_m rfl) ⟨hMO, hSP, hC⟩) rfl rfl hl.1 rfl (lv_room (Nat.le_of_ble_eq_true rfl)) dX4_bestPoise_21 ⟨Nat.le_of_ble_eq_true rfl, Nat.le_of_ble_eq_true rfl⟩) hS (fun q _ e => e) (fun q e => e) (fun r_b u t9 H1 locs ht hvm hr_b hQ hz1 hk1 hS => ?_)
    rw [ht] at hQ
    obtain ⟨hMO, hSP, hC⟩ := hQ
    generalize H1 = H at hMO hSP hC hS ⊢
    refine lv_goto (tgt := 32) hx hb dX4_bestPoise_24 (by decide) ?_
    have hE : aBestP S (nI n) = ((0, (bst (fPoise S n) 31).1, S) : Ans) := by unfold aBestP; rw [if_pos hT1, hcl]
    exact W.iret (v := r_b) hx hb hr (fun t9 h9 hW9 => ⟨⟨_, (), rfl, (by rw [hE, hr_b, fTry_p]), by dsimp only; rw [h9, hE]; exact ⟨hMO, hSP, hC⟩⟩, hS.F h9⟩) hS.2.2 dX4_bestPoise_32
