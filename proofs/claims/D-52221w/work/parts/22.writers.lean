/-! THE COMPONENT'S WRITERS, where nothing is thrown: codes' array, crack, leave, poise, setCold, ring, pass. -/
set_option maxRecDepth 100000
def sIce (S : BS) (v : Int32) : BS := ((sMi S, sAn S, sPo S, v, sCo S, sLa S), S.2)
def sPoi (S : BS) (v : Int32) : BS := ((sMi S, sAn S, v, sIc S, sCo S, sLa S), S.2)
def sCod (S : BS) (v : Nat) : BS := ((sMi S, sAn S, sPo S, sIc S, v, sLa S), S.2)
def sCol (S : BS) (h : Nat) (v : Int32) : BS := (S.1, upd (sCd S) h v, S.2.2)
def tGone (t : TT) : TT := (tBa t, tMi t, tCa t, 3, tWa t, tLe t, tPa t)
def sGone (S : BS) (k : Nat) : BS := (S.1, sCd S, sN S, va_up (sTv S) k (tGone (sTv S k)))
/-- k minutes on -/
def bRun (S : BS) : Nat → BS
  | 0 => S
  | k + 1 => bStep (bRun S k)
theorem OKS_run {T : Nat} {S : BS} (h : OKS T S) : ∀ k, OKS (T + k) (bRun S k)
  | 0 => h
  | k + 1 => OKS_step (OKS_run h k)
section GGC
variable {p : Program} {l : Launch} {e : Env} {R : Room} {s : State} {m : MethodId} {args : Array Value} {below : List Frame} {meth : Method} {c : Code} {H H0 : Heap} {locs : List Loc} {cells slots : Nat} {Q : State → Prop}
variable {cc : ByteArray} {pc : Nat} {ls : Array Slot} {rest : List Value} {g : GT} {A : Nat → Prop}
/-- a copy of Code.$VALUES -/
theorem gg_clone (hx : p.tables.exec = Jvm.exec) (hb : c.code = cc) (hml : c.maxLocals = ls.size) {own : String} {index : Nat} (hown : s.vm.findClass own = some m.cls)
    (hlink : (Cond.methodLink own index ⟨"[LBridgeBells$Code;", "clone", "()Ljava/lang/Object;"⟩).before args s = true) (hsame : (Cond.sameMethod "[LBridgeBells$Code;" "java/lang/Object" "clone" "()Ljava/lang/Object;").before args s = true)
    (hnat : (Cond.native ⟨"java/lang/Object", "clone", "()Ljava/lang/Object;"⟩).before args s = true) (hinst : (Cond.instanceMethod ⟨"java/lang/Object", "clone", "()Ljava/lang/Object;"⟩).before args s = true)
    (hsel : (Cond.selects "[LBridgeBells$Code;" ⟨"[LBridgeBells$Code;", "clone", "()Ljava/lang/Object;"⟩ ⟨"java/lang/Object", "clone", "()Ljava/lang/Object;"⟩).before args s = true) (hcl : va_Nw (.castable "[LBridgeBells$Code;" "java/lang/Cloneable") s)
    (hG : GG g s) (hV : vaV g H) (hS : va_S A H0 H locs) (hframes : 1 ≤ R.frames) (hlocals : (rest.map fun v => v.category).sum + 14 ≤ R.locals) (hcells : cells + 1 ≤ R.cells) (hslots : slots + 5 ≤ R.slots) (hdg : decode cc pc = .ok (.invokevirtual index, 3))
    (kk : ∀ (q : Nat) (H1 : Heap), q = H.size → va_at (gD g) bbCl (q, .inl (gK g, 5, .inr (.inr (.inr (.inr (fun i => some (gC g i))))))) H1 → Grow H H1 → va_S A H0 H1 locs → W p l e R s m args below meth c H1 locs (cells + 1) (slots + 5) Q (F0 m (pc + 3) ls (.ref q :: rest))) : W p l e R s m args below meth c H locs cells slots Q (F0 m pc ls (.ref (gV g) :: rest)) := by
  obtain ⟨cell, h1, h2, h3, h4, h5, -⟩ := hV
  have hsz : cell.slots.size = 5 := by rw [h3, vp_cell_q, arrV_size]
  have hE : ({ cls := cell.cls, slots := cell.slots } : Cell) = vp_cell (gK g) (5, .inr (.inr (.inr (.inr (fun i => some (gC g i)))))) := by rw [h2, h3]; rfl
  obtain ⟨cA, cB, f1, f2, f3⟩ := Cond.castable_spec (va_Nw.use (A := args) rfl hcl)
  have hnm : s.vm.findClass "[LBridgeBells$Code;" = some (gK g) := va_nmO (hG.k.2 3 _ rfl).2 rfl
  cases hnm.symm.trans f1
  intro T hT X
  have hcellT : T.heap[gV g]? = some cell := by rw [hT]; exact h1
  obtain ⟨-, kA, hkA, comp, hkind⟩ := State.isArrayOf_alike X.warmed.alike ((hG.k.2 3 _ rfl).1 0 (fun _ => .null))
  obtain ⟨-, kS, hkS, compS, hkindS⟩ := (hG.k.2 3 _ rfl).1 0 (fun _ => .null)
  have hfit : ∀ i v, cell.slots[i]? = some v → T.fitsSlot cell.cls .none i v = true := by
    intro i v hv
    have hi : i < 5 := by have := (Array.getElem?_eq_some_iff.mp hv).1; omega
    rw [h3, vp_cell_q, arrV_read _ _ hi] at hv
    rw [h2]
    have hk' : T.vm.classes[gK g]? = some kA := hkA
    rw [← Option.some.inj hv]
    simp [State.fitsSlot, State.slotType?, hk', hkind, va_rf, fits]
  obtain ⟨vm', X', st⟩ := X.cloneArray hx hown hlink hsame hnat hinst hsel hcellT (fun k h => by rw [h] at h5; cases h5) h4 (by rw [h2]; exact hnm) f2 (by rw [h2]; exact f3) hfit
    (g := F0 m pc ls (.ref (gV g) :: rest)) rfl (by rw [hml]) rfl (by rw [hb]; exact hdg) hframes (by show 2 * 0 + _ + 14 ≤ _; omega) hcells (by rw [hsz]; exact hslots) (hloader := by rw [h2]; exact Vm.clonesLoader_of_array hkS hkindS)
  rw [hsz] at X'
  rw [hE] at X' st
  have hH1 : ((T.setVm vm').pushCell (vp_cell (gK g) (5, .inr (.inr (.inr (.inr (fun i => some (gC g i)))))))).heap = H.push (vp_cell (gK g) (5, .inr (.inr (.inr (.inr (fun i => some (gC g i))))))) := by rw [← hT]; rfl
  have hgr : Grow H (H.push (vp_cell (gK g) (5, .inr (.inr (.inr (.inr (fun i => some (gC g i)))))))) := ⟨by rw [Array.size_push], fun q hq => by rw [Array.getElem?_push, if_neg (Nat.ne_of_lt hq)]⟩
  obtain ⟨t, b1, b2⟩ := kk H.size _ rfl (show _ = some _ by rw [Array.getElem?_push_size]) hgr (hS.grow hgr) _ hH1 X'
  refine ⟨t, st t ?_, b2⟩
  rw [hT]
  exact b1
end GGC

set_option maxHeartbeats 4000000 in
theorem met_X3_values (l : Launch) (g : GT) (sz : Nat) : Met l yX3_values (ws_ yX3_values cX3_values 0 (Option.some (Jvm.ClassFile.FieldType.array (Jvm.ClassFile.FieldType.object "BridgeBells$Code")))) ({ frames := 1, cells := 1, slots := 5, locals := 40 } : Room) (PcG g [] (fun H => H.size = sz)) (va_Qr (fun _ : Unit => True) (fun _ ra u => sz ≤ ra ∧ va_at (gD g) bbCl (ra, .inl (gK g, 5, .inr (.inr (.inr (.inr (fun i => some (gC g i))))))) u.heap) (fun q => sz ≤ q)) 1 5 (fun q => sz ≤ q) := by
  refine gg_met (cc := cX3_values) (maxL := 0) (ret := (Option.some (Jvm.ClassFile.FieldType.array (Jvm.ClassFile.FieldType.object "BridgeBells$Code")))) (by decide) (Nat.le_of_ble_eq_true rfl) ?_
  intro p e s m below meth c hx hb hr hlk hin hml hown hts hG hB ls hl
  have hown : s.vm.findClass RX3 = some m.cls := hown
  have hl : lv_has ls 0 [] := hl
  obtain ⟨cf, kf, fi, f, a9, cell, h1, h2, h3, h4, h5, h6, h7, h8⟩ := (hG.2.2.1.2.2.1)
  refine W.gets hx hb hown (hts _ q542) h1 h2 h3 h4 h5 (fun e => by rw [e] at h6; cases h6) h7 rfl dX3_values_0 ?_
  refine W.eq (g2 := F0 m 3 ls [.ref (gV g)]) rfl ?_
  have hS : va_S (fun q => sz ≤ q) s.heap s.heap [] := va_S.rf
  refine gg_clone hx hb (by rw [hml]; exact hl.1.symm) hown (hts _ q544) (hts _ q545) (hts _ q546) (hts _ q547) (hts _ q548) (hG.nw q549 rfl) hG hG.2.2.1.2.2.2.1 hS (Nat.le_of_ble_eq_true rfl) (Nat.le_of_ble_eq_true rfl) (Nat.le_of_ble_eq_true rfl) (Nat.le_of_ble_eq_true rfl) dX3_values_3 (fun ra H hra h_ra hgr hS => ?_)
  have hnm : s.vm.findClass "[LBridgeBells$Code;" = some (gK g) := va_nmO (hG.k.2 3 _ rfl).2 rfl
  have hsr : sz ≤ ra := Nat.le_of_eq (hB.symm.trans hra.symm)
  refine va_castA hx hb hown (hts _ q551) (P1 h_ra) 0 rfl hnm dX3_values_6 ?_
  refine W.widen (k := 1) (n := 5) (by decide) (Nat.le_refl 5) ?_
  exact W.aret hx hb hr (Or.inr ⟨_, rfl⟩) (Or.inr ⟨_, rfl⟩) (fun t9 h9 hW9 => ⟨⟨(), _, rfl, trivial, by dsimp only; rw [h9]; exact ⟨hsr, h_ra⟩⟩, hS.F h9⟩) hS.2.2 dX3_values_9

set_option maxHeartbeats 4000000 in
theorem met_X1_crack (l : Launch) (g : GT) (T x b : Nat) (S : BS) (F : Nat → Prop) (hok : OKS T S) : Met l yX1_crack (ws_ yX1_crack cX1_crack 1 (Option.some Jvm.ClassFile.FieldType.int)) ({ frames := 1, cells := 0, slots := 0, locals := 21 } : Room) (PcG g [.ref x] (fun H => XB g F x b S H)) (va_Qi (fun (r : Int32) (_ : Unit) => r = (if 0 < sIc S - 3 then sIc S - 3 else 0)) (fun _ u => XB g F x b (sIce S (if 0 < sIc S - 3 then sIc S - 3 else 0)) u.heap) F) 0 0 (F) := by
  refine gg_met (cc := cX1_crack) (maxL := 1) (ret := (Option.some Jvm.ClassFile.FieldType.int)) (by decide) (Nat.le_of_ble_eq_true rfl) ?_
  intro p e s m below meth c hx hb hr hlk hin hml hown hts hG hB ls hl
  have hown : s.vm.findClass RX1 = some m.cls := hown
  have hl : lv_has ls 1 [(0, .ref x)] := hl
  obtain ⟨h_x, ⟨cd, al, el, cap, mc, arr, ad, hX⟩, hFx⟩ := hB
  have hAN : ∀ q, F q → gA g q := hX.2.2.2.2.2.2.2.2.1
  have hS : va_S F s.heap s.heap [] := va_S.rf
  have hFb : F b := hX.2.2.2.2.2.2.2.1.1
  have hxb : x ≠ b := fun e => hFx (e ▸ hFb)
  have hn40 : sN S ≤ 40 := hok.2.2.2.2.2.2.2.1
  refine lv_aload_n hx hb dX1_crack_0 rfl (lv_at hl 0 rfl) ?_
  refine gg_get (ci := 0) (C := RX1) (T := TX1) (N := 1) (v := .ref b) hx hb hts in_X1 hown hG h_x rfl 0 (by decide) q115 rfl rfl dX1_crack_1 ?_
  refine lv_iconst (v := 0) hx hb dX1_crack_4 (by decide) ?_
  refine lv_aload_n hx hb dX1_crack_5 rfl (lv_at hl 0 rfl) ?_
  refine gg_get (ci := 0) (C := RX1) (T := TX1) (N := 1) (v := .ref b) hx hb hts in_X1 hown hG h_x rfl 0 (by decide) q115 rfl rfl dX1_crack_6 ?_
  refine gg_getN (ci := 1) (C := RX2) (T := TX2) (N := 8) (v := .int (sIc S)) hx hb hts in_X2 hown hG hX.1 rfl 3 (by decide) q89 rfl rfl dX1_crack_9 ?_
  refine lv_iconst (v := 3) hx hb dX1_crack_12 (by decide) ?_
  refine lv_isub hx hb dX1_crack_13 ?_
  refine va_mmax hx hb (by rw [hml]; exact hl.1.symm) hown (hts _ q123) (hts _ q124) (hts _ q31) (hts _ q125) (Nat.le_of_ble_eq_true rfl) (Nat.le_of_ble_eq_true rfl) (Nat.zero_le _) (Nat.zero_le _) dX1_crack_14 ?_
  refine gg_putN (ci := 1) (v := .int (if 0 < (sIc S - 3) then (sIc S - 3) else 0)) (C := RX2) (T := TX2) (N := 8) hx hb hts in_X2 tyX2 tyX2_ok nmX2 hown hG hX.1 hS hFb rfl 3 (by decide) q89 rfl rfl rfl rfl (Nat.le_of_ble_eq_true rfl) dX1_crack_17 (fun H locs h_b hbut hS => ?_)
  have h_b : va_at (gD g) bbCl (b, .inr (1, [.int (sMi S), .int (sAn S), .int (sPo S), .int (if 0 < (sIc S - 3) then (sIc S - 3) else 0), .ref (gC g (sCo S)), .int (sLa S), .ref cd, .ref al])) H := h_b
  have hX := hX.putB (S1 := sIce S (if 0 < sIc S - 3 then sIc S - 3 else 0)) hbut h_b rfl
  have h_x := h_x.but hbut hxb
  refine lv_aload_n hx hb dX1_crack_20 rfl (lv_at hl 0 rfl) ?_
  refine gg_get (ci := 0) (C := RX1) (T := TX1) (N := 1) (v := .ref b) hx hb hts in_X1 hown hG h_x rfl 0 (by decide) q115 rfl rfl dX1_crack_21 ?_
  refine gg_getN (ci := 1) (C := RX2) (T := TX2) (N := 8) (v := .int (if 0 < (sIc S - 3) then (sIc S - 3) else 0)) hx hb hts in_X2 hown hG hX.1 rfl 3 (by decide) q89 rfl rfl dX1_crack_24 ?_
  exact W.iret (v := (if 0 < (sIc S - 3) then (sIc S - 3) else 0)) hx hb hr (fun t9 h9 hW9 => ⟨⟨_, (), rfl, rfl, by dsimp only; rw [h9]; exact ⟨h_x, ⟨_, _, _, _, _, _, _, hX⟩, hFx⟩⟩, hS.F h9⟩) hS.2.2 dX1_crack_27

set_option maxHeartbeats 4000000 in
theorem met_X1_poise (l : Launch) (g : GT) (T x b : Nat) (S : BS) (F : Nat → Prop) (hok : OKS T S) (v : Int32) (h1 : 0 ≤ v) (h2 : v ≤ 30) (h3 : sAn S = 0 ∨ sAn S = 60) : Met l yX1_poise (ws_ yX1_poise cX1_poise 3 (Option.some Jvm.ClassFile.FieldType.int)) ({ frames := 2, cells := 0, slots := 0, locals := 42 } : Room) (PcG g [.ref x, .int v] (fun H => XB g F x b S H)) (va_Qi (fun (r : Int32) (_ : Unit) => r = sPo S) (fun _ u => XB g F x b (sPoi S v) u.heap) F) 0 0 (F) := by
  refine gg_met (cc := cX1_poise) (maxL := 3) (ret := (Option.some Jvm.ClassFile.FieldType.int)) (by decide) (Nat.le_of_ble_eq_true rfl) ?_
  intro p e s m below meth c hx hb hr hlk hin hml hown hts hG hB ls hl
  have hown : s.vm.findClass RX1 = some m.cls := hown
  have hl : lv_has ls 3 [(0, .ref x), (1, .int v)] := hl
  obtain ⟨h_x, ⟨cd, al, el, cap, mc, arr, ad, hX⟩, hFx⟩ := hB
  have hAN : ∀ q, F q → gA g q := hX.2.2.2.2.2.2.2.2.1
  have hS : va_S F s.heap s.heap [] := va_S.rf
  have hFb : F b := hX.2.2.2.2.2.2.2.1.1
  have hxb : x ≠ b := fun e => hFx (e ▸ hFb)
  have hn40 : sN S ≤ 40 := hok.2.2.2.2.2.2.2.1
  refine lv_iconst (v := 0) hx hb dX1_poise_0 (by decide) ?_
  refine lv_bipush (v := 30) hx hb dX1_poise_1 (by decide) ?_
  refine lv_iload_n hx hb dX1_poise_3 rfl (lv_at hl 1 rfl) ?_
  refine va_csv (va_Run.run (va_runS (As := [.int 0, .int 30, .int v]) (rest := []) ⟨hx, hb, hml, hown, hts⟩ (met_X1_requireFrom l g 0 30 v h1 h2) (va_cwS 3 hts (lw_S q267 q268 q14 q269) rfl rfl rfl (by decide +kernel) ⟨Nat.le_of_ble_eq_true rfl, Nat.le_of_ble_eq_true rfl⟩) (gg_preS hG (hS.kp hG hAN) trivial) rfl rfl hl.1 rfl (lv_room (Nat.le_of_ble_eq_true rfl)) dX1_poise_4 ⟨Nat.le_of_ble_eq_true rfl, Nat.le_of_ble_eq_true rfl⟩)) (fun _ => ?_)
  refine lv_aload_n hx hb dX1_poise_7 rfl (lv_at hl 0 rfl) ?_
  refine gg_get (ci := 0) (C := RX1) (T := TX1) (N := 1) (v := .ref b) hx hb hts in_X1 hown hG h_x rfl 0 (by decide) q115 rfl rfl dX1_poise_8 ?_
  refine gg_getN (ci := 1) (C := RX2) (T := TX2) (N := 8) (v := .int (sAn S)) hx hb hts in_X2 hown hG hX.1 rfl 1 (by decide) q85 rfl rfl dX1_poise_11 ?_
  refine lv_if_eq (tgt := 29) hx hb dX1_poise_14 (by decide) (fun c_14 => ?_) (fun c_14 => ?_)
  · refine lv_iconst (v := 1) hx hb dX1_poise_29 (by decide) ?_
    refine lv_goto (tgt := 34) hx hb dX1_poise_30 (by decide) ?_
    refine va_csv (va_Run.run (va_runS (As := [.int 1]) (rest := []) ⟨hx, hb, hml, hown, hts⟩ (met_X1_requireState l g 1 (by decide)) (va_cwS 1 hts (lw_S q338 q339 q14 q340) rfl rfl rfl (by decide +kernel) ⟨Nat.le_of_ble_eq_true rfl, Nat.le_of_ble_eq_true rfl⟩) (gg_preS hG (hS.kp hG hAN) trivial) rfl rfl hl.1 rfl (lv_room (Nat.le_of_ble_eq_true rfl)) dX1_poise_34 ⟨Nat.le_of_ble_eq_true rfl, Nat.le_of_ble_eq_true rfl⟩)) (fun _ => ?_)
    refine lv_aload_n hx hb dX1_poise_37 rfl (lv_at hl 0 rfl) ?_
    refine gg_get (ci := 0) (C := RX1) (T := TX1) (N := 1) (v := .ref b) hx hb hts in_X1 hown hG h_x rfl 0 (by decide) q115 rfl rfl dX1_poise_38 ?_
    refine gg_getN (ci := 1) (C := RX2) (T := TX2) (N := 8) (v := .int (sPo S)) hx hb hts in_X2 hown hG hX.1 rfl 2 (by decide) q87 rfl rfl dX1_poise_41 ?_
    refine lv_istore_n (lv' := [(2, .int (sPo S)), (0, .ref x), (1, .int v)]) hx hb dX1_poise_44 rfl hl (by decide) rfl (fun ls hl => ?_)
    refine lv_aload_n hx hb dX1_poise_45 rfl (lv_at hl 1 rfl) ?_
    refine gg_get (ci := 0) (C := RX1) (T := TX1) (N := 1) (v := .ref b) hx hb hts in_X1 hown hG h_x rfl 0 (by decide) q115 rfl rfl dX1_poise_46 ?_
    refine lv_iload_n hx hb dX1_poise_49 rfl (lv_at hl 2 rfl) ?_
    refine gg_putN (ci := 1) (v := .int v) (C := RX2) (T := TX2) (N := 8) hx hb hts in_X2 tyX2 tyX2_ok nmX2 hown hG hX.1 hS hFb rfl 2 (by decide) q87 rfl rfl rfl rfl (Nat.le_of_ble_eq_true rfl) dX1_poise_50 (fun H locs h_b hbut hS => ?_)
    have h_b : va_at (gD g) bbCl (b, .inr (1, [.int (sMi S), .int (sAn S), .int v, .int (sIc S), .ref (gC g (sCo S)), .int (sLa S), .ref cd, .ref al])) H := h_b
    have hX := hX.putB (S1 := sPoi S v) hbut h_b rfl
    have h_x := h_x.but hbut hxb
    refine lv_iload_n hx hb dX1_poise_53 rfl (lv_at hl 0 rfl) ?_
    exact W.iret (v := (sPo S)) hx hb hr (fun t9 h9 hW9 => ⟨⟨_, (), rfl, rfl, by dsimp only; rw [h9]; exact ⟨h_x, ⟨_, _, _, _, _, _, _, hX⟩, hFx⟩⟩, hS.F h9⟩) hS.2.2 dX1_poise_54
  · refine lv_aload_n hx hb dX1_poise_17 rfl (lv_at hl 0 rfl) ?_
    refine gg_get (ci := 0) (C := RX1) (T := TX1) (N := 1) (v := .ref b) hx hb hts in_X1 hown hG h_x rfl 0 (by decide) q115 rfl rfl dX1_poise_18 ?_
    refine gg_getN (ci := 1) (C := RX2) (T := TX2) (N := 8) (v := .int (sAn S)) hx hb hts in_X2 hown hG hX.1 rfl 1 (by decide) q85 rfl rfl dX1_poise_21 ?_
    refine lv_bipush (v := 60) hx hb dX1_poise_24 (by decide) ?_
    refine lv_icmp_ne (tgt := 33) hx hb dX1_poise_26 (by decide) (fun c_26 => absurd (h3.resolve_left c_14) c_26) (fun c_26 => ?_)
    refine lv_iconst (v := 1) hx hb dX1_poise_29 (by decide) ?_
    refine lv_goto (tgt := 34) hx hb dX1_poise_30 (by decide) ?_
    refine va_csv (va_Run.run (va_runS (As := [.int 1]) (rest := []) ⟨hx, hb, hml, hown, hts⟩ (met_X1_requireState l g 1 (by decide)) (va_cwS 1 hts (lw_S q338 q339 q14 q340) rfl rfl rfl (by decide +kernel) ⟨Nat.le_of_ble_eq_true rfl, Nat.le_of_ble_eq_true rfl⟩) (gg_preS hG (hS.kp hG hAN) trivial) rfl rfl hl.1 rfl (lv_room (Nat.le_of_ble_eq_true rfl)) dX1_poise_34 ⟨Nat.le_of_ble_eq_true rfl, Nat.le_of_ble_eq_true rfl⟩)) (fun _ => ?_)
    refine lv_aload_n hx hb dX1_poise_37 rfl (lv_at hl 0 rfl) ?_
    refine gg_get (ci := 0) (C := RX1) (T := TX1) (N := 1) (v := .ref b) hx hb hts in_X1 hown hG h_x rfl 0 (by decide) q115 rfl rfl dX1_poise_38 ?_
    refine gg_getN (ci := 1) (C := RX2) (T := TX2) (N := 8) (v := .int (sPo S)) hx hb hts in_X2 hown hG hX.1 rfl 2 (by decide) q87 rfl rfl dX1_poise_41 ?_
    refine lv_istore_n (lv' := [(2, .int (sPo S)), (0, .ref x), (1, .int v)]) hx hb dX1_poise_44 rfl hl (by decide) rfl (fun ls hl => ?_)
    refine lv_aload_n hx hb dX1_poise_45 rfl (lv_at hl 1 rfl) ?_
    refine gg_get (ci := 0) (C := RX1) (T := TX1) (N := 1) (v := .ref b) hx hb hts in_X1 hown hG h_x rfl 0 (by decide) q115 rfl rfl dX1_poise_46 ?_
    refine lv_iload_n hx hb dX1_poise_49 rfl (lv_at hl 2 rfl) ?_
    refine gg_putN (ci := 1) (v := .int v) (C := RX2) (T := TX2) (N := 8) hx hb hts in_X2 tyX2 tyX2_ok nmX2 hown hG hX.1 hS hFb rfl 2 (by decide) q87 rfl rfl rfl rfl (Nat.le_of_ble_eq_true rfl) dX1_poise_50 (fun H locs h_b hbut hS => ?_)
    have h_b : va_at (gD g) bbCl (b, .inr (1, [.int (sMi S), .int (sAn S), .int v, .int (sIc S), .ref (gC g (sCo S)), .int (sLa S), .ref cd, .ref al])) H := h_b
    have hX := hX.putB (S1 := sPoi S v) hbut h_b rfl
    have h_x := h_x.but hbut hxb
    refine lv_iload_n hx hb dX1_poise_53 rfl (lv_at hl 0 rfl) ?_
    exact W.iret (v := (sPo S)) hx hb hr (fun t9 h9 hW9 => ⟨⟨_, (), rfl, rfl, by dsimp only; rw [h9]; exact ⟨h_x, ⟨_, _, _, _, _, _, _, hX⟩, hFx⟩⟩, hS.F h9⟩) hS.2.2 dX1_poise_54

set_option maxHeartbeats 4000000 in
theorem met_X1_setCold (l : Launch) (g : GT) (T x b : Nat) (S : BS) (F : Nat → Prop) (hok : OKS T S) (h : Nat) (hh : h < 8) (v : Int32) (h1 : -3 ≤ v) (h2 : v ≤ 3) : Met l yX1_setCold (ws_ yX1_setCold cX1_setCold 4 (Option.some Jvm.ClassFile.FieldType.int)) ({ frames := 2, cells := 0, slots := 0, locals := 42 } : Room) (PcG g [.ref x, .int (nI h), .int v] (fun H => XB g F x b S H)) (va_Qi (fun (r : Int32) (_ : Unit) => r = sCd S h) (fun _ u => XB g F x b (sCol S h v) u.heap) F) 0 0 (F) := by
  refine gg_met (cc := cX1_setCold) (maxL := 4) (ret := (Option.some Jvm.ClassFile.FieldType.int)) (by decide) (Nat.le_of_ble_eq_true rfl) ?_
  intro p e s m below meth c hx hb hr hlk hin hml hown hts hG hB ls hl
  have hown : s.vm.findClass RX1 = some m.cls := hown
  have hl : lv_has ls 4 [(0, .ref x), (1, .int (nI h)), (2, .int v)] := hl
  obtain ⟨h_x, ⟨cd, al, el, cap, mc, arr, ad, hX⟩, hFx⟩ := hB
  have hAN : ∀ q, F q → gA g q := hX.2.2.2.2.2.2.2.2.1
  have hS : va_S F s.heap s.heap [] := va_S.rf
  have hFb : F b := hX.2.2.2.2.2.2.2.1.1
  have hxb : x ≠ b := fun e => hFx (e ▸ hFb)
  have hn40 : sN S ≤ 40 := hok.2.2.2.2.2.2.2.1
  refine lv_iload_n hx hb dX1_setCold_0 rfl (lv_at hl 1 rfl) ?_
  refine lv_bipush (v := 8) hx hb dX1_setCold_1 (by decide) ?_
  refine va_csv (va_Run.run (va_runS (As := [.int (nI h), .int 8]) (rest := []) ⟨hx, hb, hml, hown, hts⟩ (met_X1_requireIndex l g h 8 hh (by decide)) (va_cwS 2 hts (lw_S q503 q504 q14 q505) rfl rfl rfl (by decide +kernel) ⟨Nat.le_of_ble_eq_true rfl, Nat.le_of_ble_eq_true rfl⟩) (gg_preS hG (hS.kp hG hAN) trivial) rfl rfl hl.1 rfl (lv_room (Nat.le_of_ble_eq_true rfl)) dX1_setCold_3 ⟨Nat.le_of_ble_eq_true rfl, Nat.le_of_ble_eq_true rfl⟩)) (fun _ => ?_)
  refine lv_bipush (v := (-3)) hx hb dX1_setCold_6 (by decide) ?_
  refine lv_iconst (v := 3) hx hb dX1_setCold_8 (by decide) ?_
  refine lv_iload_n hx hb dX1_setCold_9 rfl (lv_at hl 2 rfl) ?_
  refine va_csv (va_Run.run (va_runS (As := [.int (-3), .int 3, .int v]) (rest := []) ⟨hx, hb, hml, hown, hts⟩ (met_X1_requireFrom l g (-3) 3 v h1 h2) (va_cwS 3 hts (lw_S q267 q268 q14 q269) rfl rfl rfl (by decide +kernel) ⟨Nat.le_of_ble_eq_true rfl, Nat.le_of_ble_eq_true rfl⟩) (gg_preS hG (hS.kp hG hAN) trivial) rfl rfl hl.1 rfl (lv_room (Nat.le_of_ble_eq_true rfl)) dX1_setCold_10 ⟨Nat.le_of_ble_eq_true rfl, Nat.le_of_ble_eq_true rfl⟩)) (fun _ => ?_)
  refine lv_aload_n hx hb dX1_setCold_13 rfl (lv_at hl 0 rfl) ?_
  refine gg_get (ci := 0) (C := RX1) (T := TX1) (N := 1) (v := .ref b) hx hb hts in_X1 hown hG h_x rfl 0 (by decide) q115 rfl rfl dX1_setCold_14 ?_
  refine gg_getN (ci := 1) (C := RX2) (T := TX2) (N := 8) (v := .ref cd) hx hb hts in_X2 hown hG hX.1 rfl 6 (by decide) q95 rfl rfl dX1_setCold_17 ?_
  refine lv_iload_n hx hb dX1_setCold_20 rfl (lv_at hl 1 rfl) ?_
  refine gg_iald hx hb hG hX.2.1 h hh (by decide) rfl dX1_setCold_21 ?_
  refine lv_istore_n (lv' := [(3, .int ((sCd S) h)), (0, .ref x), (1, .int (nI h)), (2, .int v)]) hx hb dX1_setCold_22 rfl hl (by decide) rfl (fun ls hl => ?_)
  refine lv_aload_n hx hb dX1_setCold_23 rfl (lv_at hl 1 rfl) ?_
  refine gg_get (ci := 0) (C := RX1) (T := TX1) (N := 1) (v := .ref b) hx hb hts in_X1 hown hG h_x rfl 0 (by decide) q115 rfl rfl dX1_setCold_24 ?_
  refine gg_getN (ci := 1) (C := RX2) (T := TX2) (N := 8) (v := .ref cd) hx hb hts in_X2 hown hG hX.1 rfl 6 (by decide) q95 rfl rfl dX1_setCold_27 ?_
  refine lv_iload_n hx hb dX1_setCold_30 rfl (lv_at hl 2 rfl) ?_
  refine lv_iload_n hx hb dX1_setCold_31 rfl (lv_at hl 3 rfl) ?_
  refine gg_iast hx hb hG hX.2.1 hS hX.2.2.2.2.2.2.2.1.2.1 h hh (by decide) rfl dX1_setCold_32 (fun H locs h_cd hbut hS => ?_)
  have hxc : x ≠ cd := fun e => hFx (e ▸ hX.2.2.2.2.2.2.2.1.2.1)
  have hX := hX.cold h_cd hbut.frm
  have h_x := h_x.but hbut hxc
  refine lv_iload_n hx hb dX1_setCold_33 rfl (lv_at hl 0 rfl) ?_
  exact W.iret (v := ((sCd S) h)) hx hb hr (fun t9 h9 hW9 => ⟨⟨_, (), rfl, rfl, by dsimp only; rw [h9]; exact ⟨h_x, ⟨_, _, _, _, _, _, _, hX⟩, hFx⟩⟩, hS.F h9⟩) hS.2.2 dX1_setCold_34

set_option maxHeartbeats 4000000 in
theorem met_X1_leave (l : Launch) (g : GT) (T x b : Nat) (S : BS) (F : Nat → Prop) (hok : OKS T S) (k : Nat) (hk : k < sN S) (h0 : tSt (sTv S k) = 0) : Met l yX1_leave (ws_ yX1_leave cX1_leave 3 (Option.some Jvm.ClassFile.FieldType.int)) ({ frames := 4, cells := 0, slots := 0, locals := 85 } : Room) (PcG g [.ref x, .int (nI k)] (fun H => XB g F x b S H)) (va_Qi (fun (r : Int32) (_ : Unit) => r = tWa (sTv S k)) (fun _ u => XB g F x b (sGone S k) u.heap) F) 0 0 (F) := by
  refine gg_met (cc := cX1_leave) (maxL := 3) (ret := (Option.some Jvm.ClassFile.FieldType.int)) (by decide) (Nat.le_of_ble_eq_true rfl) ?_
  intro p e s m below meth c hx hb hr hlk hin hml hown hts hG hB ls hl
  have hown : s.vm.findClass RX1 = some m.cls := hown
  have hl : lv_has ls 3 [(0, .ref x), (1, .int (nI k))] := hl
  obtain ⟨h_x, ⟨cd, al, el, cap, mc, arr, ad, hX⟩, hFx⟩ := hB
  have hAN : ∀ q, F q → gA g q := hX.2.2.2.2.2.2.2.2.1
  have hS : va_S F s.heap s.heap [] := va_S.rf
  have hFb : F b := hX.2.2.2.2.2.2.2.1.1
  have hxb : x ≠ b := fun e => hFx (e ▸ hFb)
  have hn40 : sN S ≤ 40 := hok.2.2.2.2.2.2.2.1
  refine lv_aload_n hx hb dX1_leave_0 rfl (lv_at hl 0 rfl) ?_
  refine gg_get (ci := 0) (C := RX1) (T := TX1) (N := 1) (v := .ref b) hx hb hts in_X1 hown hG h_x rfl 0 (by decide) q115 rfl rfl dX1_leave_1 ?_
  refine gg_getN (ci := 1) (C := RX2) (T := TX2) (N := 8) (v := .ref al) hx hb hts in_X2 hown hG hX.1 rfl 7 (by decide) q97 rfl rfl dX1_leave_4 ?_
  refine lv_iload_n hx hb dX1_leave_7 rfl (lv_at hl 1 rfl) ?_
  refine va_csr (va_Run.run (va_runS (As := [.ref al, .int (nI k)]) (rest := []) ⟨hx, hb, hml, hown, hts⟩ (met_X1_known l g al el (sN S) cap k (ad k) mc arr hk hX.2.2.2.2.2.1 (by have := hX.2.2.2.2.2.2.1; omega) (hX.2.2.2.2.1 k hk).1) (va_cwS 2 hts (lw_S q492 q493 q14 q494) rfl rfl rfl (by decide +kernel) ⟨Nat.le_of_ble_eq_true rfl, Nat.le_of_ble_eq_true rfl⟩) (gg_preS hG (hS.kp hG hAN) ⟨hX.2.2.1, hX.2.2.2.1 (by omega)⟩) rfl rfl hl.1 rfl (lv_room (Nat.le_of_ble_eq_true rfl)) dX1_leave_8 ⟨Nat.le_of_ble_eq_true rfl, Nat.le_of_ble_eq_true rfl⟩)) (fun a_k ha_k => ?_)
  subst ha_k
  refine va_castS hx hb hown (hts _ q251) (hG.k.1 2 _ rfl).2 (gg_recv hG (hX.2.2.2.2.1 k hk).2 rfl) dX1_leave_11 ?_
  refine lv_astore_n (lv' := [(2, .ref (ad k)), (0, .ref x), (1, .int (nI k))]) hx hb dX1_leave_14 rfl hl (by decide) rfl (fun ls hl => ?_)
  refine lv_aload_n hx hb dX1_leave_15 rfl (lv_at hl 0 rfl) ?_
  refine gg_getS hx hb hts hown hG (hS.kp hG hAN) 0 (by decide) rfl q528 dX1_leave_16 ?_
  refine vp_callSi (va_Run.run (va_runV (As := [.ref (gS g 0)]) (rest := []) ⟨hx, hb, hml, hown, hts⟩ (met_X6_is l g (ad k) (sTv S k) 0 (hok.2.2.2.2.2.2.2.2.1 k hk).2.2.1 (by decide)) (cwV 1 hts (lw_V q529 q194 q195 q28 q196) rfl rfl rfl (by decide +kernel) ⟨Nat.le_of_ble_eq_true rfl, Nat.le_of_ble_eq_true rfl⟩) (gg_preV hG (hS.kp hG hAN) (gg_recv hG (hX.2.2.2.2.1 k hk).2 rfl) (hX.2.2.2.2.1 k hk).2) rfl rfl hl.1 rfl (lv_room (Nat.le_of_ble_eq_true rfl)) dX1_leave_19 ⟨Nat.le_of_ble_eq_true rfl, Nat.le_of_ble_eq_true rfl⟩)) (fun r_is hr_is => ?_)
  refine va_csv (va_Run.run (va_runS (As := [.int r_is]) (rest := []) ⟨hx, hb, hml, hown, hts⟩ (met_X1_requireState l g r_is (by rw [hr_is, if_pos h0]; decide)) (va_cwS 1 hts (lw_S q338 q339 q14 q340) rfl rfl rfl (by decide +kernel) ⟨Nat.le_of_ble_eq_true rfl, Nat.le_of_ble_eq_true rfl⟩) (gg_preS hG (hS.kp hG hAN) trivial) rfl rfl hl.1 rfl (lv_room (Nat.le_of_ble_eq_true rfl)) dX1_leave_22 ⟨Nat.le_of_ble_eq_true rfl, Nat.le_of_ble_eq_true rfl⟩)) (fun _ => ?_)
  refine lv_aload_n hx hb dX1_leave_25 rfl (lv_at hl 0 rfl) ?_
  refine gg_getS hx hb hts hown hG (hS.kp hG hAN) 3 (by decide) rfl q530 dX1_leave_26 ?_
  refine gg_putN (ci := 2) (v := .ref (gS g 3)) (C := RX6) (T := TX6) (N := 7) hx hb hts in_X6 tyX6 tyX6_ok nmX6 hown hG (hX.2.2.2.2.1 k hk).2 hS (hX.2.2.2.2.2.2.2.1.2.2.2.2 k hk) rfl 3 (by decide) q370 rfl rfl rfl rfl (Nat.le_of_ble_eq_true rfl) dX1_leave_29 (fun H locs h_t hbut hS => ?_)
  have h_t : va_at (gD g) bbCl ((ad k), .inr (2, [.int (tBa (sTv S k)), .int (tMi (sTv S k)), .int (tCa (sTv S k)), .ref (gS g 3), .int (tWa (sTv S k)), .int (tLe (sTv S k)), .int (tPa (sTv S k))])) H := h_t
  have hxt : x ≠ ad k := fun e => hFx (by rw [e]; exact hX.2.2.2.2.2.2.2.1.2.2.2.2 k hk)
  have hX := hX.putT (t := tGone (sTv S k)) hk (fun q _ h2 => hbut.2 q h2) h_t
  have h_x := h_x.but hbut hxt
  refine lv_aload_n hx hb dX1_leave_32 rfl (lv_at hl 0 rfl) ?_
  refine gg_getN (ci := 2) (C := RX6) (T := TX6) (N := 7) (v := .int (tWa (sTv S k))) hx hb hts in_X6 hown hG h_t rfl 4 (by decide) q372 rfl rfl dX1_leave_33 ?_
  exact W.iret (v := (tWa (sTv S k))) hx hb hr (fun t9 h9 hW9 => ⟨⟨_, (), rfl, rfl, by dsimp only; rw [h9]; exact ⟨h_x, ⟨_, _, _, _, _, _, _, hX⟩, hFx⟩⟩, hS.F h9⟩) hS.2.2 dX1_leave_36

set_option maxHeartbeats 4000000 in
theorem met_X1_pass_2 (l : Launch) (g : GT) (T b n : Nat) (S : BS) (F : Nat → Prop) (hok : OKS T S) (hT : T < 2 ^ 29) (hn : n ≤ 500) : Met l yX1_pass_2 (ws_ yX1_pass_2 cX1_pass_2 3 (Option.some (Jvm.ClassFile.FieldType.object "BridgeBells$Bridge"))) ({ frames := 8, cells := 0, slots := 0, locals := 171 } : Room) (PcG g [.ref b, .int (nI n)] (fun H => BW g F b S H)) (va_Qr (fun _ : Unit => True) (fun _ ra u => ra = b ∧ BW g F b (bRun S n) u.heap) F) 0 0 (F) := by
  refine gg_met (cc := cX1_pass_2) (maxL := 3) (ret := (Option.some (Jvm.ClassFile.FieldType.object "BridgeBells$Bridge"))) (by decide) (Nat.le_of_ble_eq_true rfl) ?_
  intro p e s m below meth c hx hb hr hlk hin hml hown hts hG hB ls hl
  have hown : s.vm.findClass RX1 = some m.cls := hown
  have hl : lv_has ls 3 [(0, .ref b), (1, .int (nI n))] := hl
  have hAN : ∀ q, F q → gA g q := hB.choose_spec.choose_spec.choose_spec.choose_spec.choose_spec.choose_spec.choose_spec.2.2.2.2.2.2.2.2.1
  have hS : va_S F s.heap s.heap [] := va_S.rf
  refine lv_iconst (v := 0) hx hb dX1_pass_2_0 (by decide) ?_
  refine lv_istore_n (lv' := [(2, .int 0), (0, .ref b), (1, .int (nI n))]) hx hb dX1_pass_2_1 rfl hl (by decide) rfl (fun ls hl => ?_)
  have loop : ∀ (d k : Nat), k ≤ n → n + 1 ≤ k + d → ∀ (H : Heap) (locs : List Loc), BW g F b (bRun S k) H → va_S F s.heap H locs → ∀ ls : Array Slot, lv_has ls 3 [(2, .int (nI k)), (0, .ref b), (1, .int (nI n))] → W p l e ({ frames := 8, cells := 0, slots := 0, locals := 171 } : Room) s m ([.ref b, .int (nI n)] : List Value).toArray below meth c H locs 0 0 (MQ below (va_Qr (fun _ : Unit => True) (fun _ ra u => ra = b ∧ BW g F b (bRun S n) u.heap) F) ([.ref b, .int (nI n)] : List Value).toArray s 0 0 (F)) (F0 m 2 ls []) := by
    intro d
    induction d with
    | zero => intro k h1 h2; exact absurd h2 (by omega)
    | succ d ih =>
      intro k hkn hkd H locs hW hS ls hl
      refine lv_iload_n hx hb dX1_pass_2_2 rfl (lv_at hl 0 rfl) ?_
      refine lv_iload_n hx hb dX1_pass_2_3 rfl (lv_at hl 2 rfl) ?_
      refine lv_icmp_ge (tgt := 17) hx hb dX1_pass_2_4 (by decide) (fun c_4 => ?_) (fun c_4 => ?_)
      · have hk : k = n := by rcases Nat.lt_or_ge k n with q | q; exact absurd c_4 (nI_ge q (by omega)); omega
        rw [hk] at hW
        refine lv_aload_n hx hb dX1_pass_2_17 rfl (lv_at hl 1 rfl) ?_
        refine W.widen (k := 0) (n := 0) (Nat.le_refl 0) (Nat.le_refl 0) ?_
        exact W.aret hx hb hr (Or.inl ⟨_, rfl⟩) (Or.inr ⟨_, rfl⟩) (fun t9 h9 hW9 => ⟨⟨(), _, rfl, trivial, by dsimp only; rw [h9]; exact ⟨rfl, hW⟩⟩, hS.F h9⟩) hS.2.2 dX1_pass_2_18
      · have hk : k < n := by rcases Nat.lt_or_ge k n with q | q; exact q; exact absurd (nI_le q (by omega)) c_4
        refine lv_aload_n hx hb dX1_pass_2_7 rfl (lv_at hl 1 rfl) ?_
        refine va_callv (va_runV (As := []) (rest := []) ⟨hx, hb, hml, hown, hts⟩ (met_X2_pass l g (T + k) b (bRun S k) F (OKS_run hok k) (by omega)) (cwV 0 hts (lw_V q590 q591 q592 q15 q593) rfl rfl rfl (by decide +kernel) ⟨Nat.le_of_ble_eq_true rfl, Nat.le_of_ble_eq_true rfl⟩) (gg_preV hG (hS.kp hG hAN) (gg_recv hG hW.choose_spec.choose_spec.choose_spec.choose_spec.choose_spec.choose_spec.choose_spec.1 rfl) hW) rfl rfl hl.1 rfl (lv_room (Nat.le_of_ble_eq_true rfl)) dX1_pass_2_8 ⟨Nat.le_of_ble_eq_true rfl, Nat.le_of_ble_eq_true rfl⟩) hS (fun q _ e => e) (fun q e => e) (fun u t9 H1 locs ht hvm _ hW hz1 hk1 hS => ?_)
        rw [ht] at hW
        generalize H1 = H at hW hS ⊢
        refine lv_iinc (v := nI (k + 1)) (lv' := [(2, .int (nI (k + 1))), (0, .ref b), (1, .int (nI n))]) hx hb dX1_pass_2_11 hl (k := 0) rfl (nI_1 k) (by decide) rfl (fun ls hl => ?_)
        refine lv_goto (tgt := 2) hx hb dX1_pass_2_14 (by decide) ?_
        exact ih (k + 1) (by omega) (by omega) _ _ hW hS ls (lv_sub hl [0, 1, 2] rfl)
  exact loop (n + 1) 0 (Nat.zero_le _) (by omega) _ _ hB hS ls (lv_sub hl [0, 1, 2] rfl)

set_option maxHeartbeats 4000000 in
theorem met_X1_pass (l : Launch) (g : GT) (T x b : Nat) (S : BS) (F : Nat → Prop) (hok : OKS T S) (n : Nat) (h1 : 1 ≤ n) (h2 : n ≤ 240) (hT : T < 2 ^ 29) : Met l yX1_pass (ws_ yX1_pass cX1_pass 3 (Option.some Jvm.ClassFile.FieldType.int)) ({ frames := 9, cells := 0, slots := 0, locals := 193 } : Room) (PcG g [.ref x, .int (nI n)] (fun H => XB g F x b S H)) (va_Qi (fun (r : Int32) (_ : Unit) => r = bPassed (bRun S n) - bPassed S) (fun _ u => XB g F x b (bRun S n) u.heap) F) 0 0 (F) := by
  refine gg_met (cc := cX1_pass) (maxL := 3) (ret := (Option.some Jvm.ClassFile.FieldType.int)) (by decide) (Nat.le_of_ble_eq_true rfl) ?_
  intro p e s m below meth c hx hb hr hlk hin hml hown hts hG hB ls hl
  have hown : s.vm.findClass RX1 = some m.cls := hown
  have hl : lv_has ls 3 [(0, .ref x), (1, .int (nI n))] := hl
  obtain ⟨h_x, ⟨cd, al, el, cap, mc, arr, ad, hX⟩, hFx⟩ := hB
  have hAN : ∀ q, F q → gA g q := hX.2.2.2.2.2.2.2.2.1
  have hS : va_S F s.heap s.heap [] := va_S.rf
  have hFb : F b := hX.2.2.2.2.2.2.2.1.1
  have hxb : x ≠ b := fun e => hFx (e ▸ hFb)
  have hn40 : sN S ≤ 40 := hok.2.2.2.2.2.2.2.1
  refine lv_iconst (v := 1) hx hb dX1_pass_0 (by decide) ?_
  refine lv_sipush (v := 240) hx hb dX1_pass_1 (by decide) ?_
  refine lv_iload_n hx hb dX1_pass_4 rfl (lv_at hl 1 rfl) ?_
  refine va_csv (va_Run.run (va_runS (As := [.int 1, .int 240, .int (nI n)]) (rest := []) ⟨hx, hb, hml, hown, hts⟩ (met_X1_requireFrom l g 1 240 (nI n) (show nI 1 ≤ nI n from nI_le h1 (by omega)) (show nI n ≤ nI 240 from nI_le h2 (by decide))) (va_cwS 3 hts (lw_S q267 q268 q14 q269) rfl rfl rfl (by decide +kernel) ⟨Nat.le_of_ble_eq_true rfl, Nat.le_of_ble_eq_true rfl⟩) (gg_preS hG (hS.kp hG hAN) trivial) rfl rfl hl.1 rfl (lv_room (Nat.le_of_ble_eq_true rfl)) dX1_pass_5 ⟨Nat.le_of_ble_eq_true rfl, Nat.le_of_ble_eq_true rfl⟩)) (fun _ => ?_)
  refine lv_aload_n hx hb dX1_pass_8 rfl (lv_at hl 0 rfl) ?_
  refine gg_get (ci := 0) (C := RX1) (T := TX1) (N := 1) (v := .ref b) hx hb hts in_X1 hown hG h_x rfl 0 (by decide) q115 rfl rfl dX1_pass_9 ?_
  refine vp_callSi (va_Run.run (va_runV (As := []) (rest := []) ⟨hx, hb, hml, hown, hts⟩ (met_X2_passed l g T b S) (cwV 0 hts (lw_V q187 q188 q189 q15 q190) rfl rfl rfl (by decide +kernel) ⟨Nat.le_of_ble_eq_true rfl, Nat.le_of_ble_eq_true rfl⟩) (gg_preV hG (hS.kp hG hAN) (gg_recv hG hX.1 rfl) (hX.rb hok)) rfl rfl hl.1 rfl (lv_room (Nat.le_of_ble_eq_true rfl)) dX1_pass_12 ⟨Nat.le_of_ble_eq_true rfl, Nat.le_of_ble_eq_true rfl⟩)) (fun r_1 hr_1 => ?_)
  refine lv_istore_n (lv' := [(2, .int r_1), (0, .ref x), (1, .int (nI n))]) hx hb dX1_pass_15 rfl hl (by decide) rfl (fun ls hl => ?_)
  refine lv_aload_n hx hb dX1_pass_16 rfl (lv_at hl 1 rfl) ?_
  refine gg_get (ci := 0) (C := RX1) (T := TX1) (N := 1) (v := .ref b) hx hb hts in_X1 hown hG h_x rfl 0 (by decide) q115 rfl rfl dX1_pass_17 ?_
  refine lv_iload_n hx hb dX1_pass_20 rfl (lv_at hl 2 rfl) ?_
  refine va_callr (va_runS (As := [.ref b, .int (nI n)]) (rest := []) ⟨hx, hb, hml, hown, hts⟩ (met_X1_pass_2 l g T b n S F hok hT (by omega)) (va_cwS 2 hts (lw_S q587 q588 q14 q589) rfl rfl rfl (by decide +kernel) ⟨Nat.le_of_ble_eq_true rfl, Nat.le_of_ble_eq_true rfl⟩) (gg_preS hG (hS.kp hG hAN) ⟨_, _, _, _, _, _, _, hX⟩) rfl rfl hl.1 rfl (lv_room (Nat.le_of_ble_eq_true rfl)) dX1_pass_21 ⟨Nat.le_of_ble_eq_true rfl, Nat.le_of_ble_eq_true rfl⟩) hS (fun q _ e => e) (fun q e => e) (fun u ra t9 H1 locs ht hvm _ hB1 hz1 hk1 hS => ?_)
  rw [ht] at hB1
  obtain ⟨hra, cd, al, el, cap, mc, arr, ad, hX⟩ := hB1
  subst hra
  have h_x := h_x.kept (hk1 x h_x.lt hFx)
  generalize H1 = H at hX h_x hS ⊢
  refine vp_callSi (va_Run.run (va_runV (As := []) (rest := []) ⟨hx, hb, hml, hown, hts⟩ (met_X2_passed l g (T + n) ra (bRun S n)) (cwV 0 hts (lw_V q187 q188 q189 q15 q190) rfl rfl rfl (by decide +kernel) ⟨Nat.le_of_ble_eq_true rfl, Nat.le_of_ble_eq_true rfl⟩) (gg_preV hG (hS.kp hG hAN) (gg_recv hG hX.1 rfl) (hX.rb (OKS_run hok n))) rfl rfl hl.1 rfl (lv_room (Nat.le_of_ble_eq_true rfl)) dX1_pass_24 ⟨Nat.le_of_ble_eq_true rfl, Nat.le_of_ble_eq_true rfl⟩)) (fun r_2 hr_2 => ?_)
  refine lv_iload_n hx hb dX1_pass_27 rfl (lv_at hl 0 rfl) ?_
  refine lv_isub hx hb dX1_pass_28 ?_
  exact W.iret (v := (r_2 - r_1)) hx hb hr (fun t9 h9 hW9 => ⟨⟨_, (), rfl, (by rw [hr_2, hr_1]), by dsimp only; rw [h9]; exact ⟨h_x, ⟨_, _, _, _, _, _, _, hX⟩, hFx⟩⟩, hS.F h9⟩) hS.2.2 dX1_pass_29
