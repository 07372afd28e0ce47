/-! THE COMPONENT'S READERS: what is required, told, counted, summed up. -/
set_option maxRecDepth 100000
/-- what a call through an interface asks -/
theorem lw_F {own : String} {idx : Nat} {C : String} {x y : MethodName} {b : ByteArray} {L : Nat} {r : Option FieldType} (h1 : Cond.methodLink own idx x ∈ lw_all) (h3 : Cond.selects C x y ∈ lw_all) (h4 : Cond.instanceMethod y ∈ lw_all) (h5 : Cond.initialized y.cls ∈ lw_all) (h6 : Cond.code y b L r ∈ lw_all) : GoodIn lw_all (va_wsF own idx C x y (ws_ y b L r)) := by
  refine lw_app ?_ (lw_meth h6)
  intro w hw
  simp only [List.mem_cons, List.not_mem_nil, or_false] at hw
  rcases hw with e | e | e | e
  · rw [e]; exact h1
  · rw [e]; exact h3
  · rw [e]; exact h4
  · rw [e]; exact h5
/-- the seven numbers of a traveller -/
def tTold (t : TT) (w : Nat) : Int32 := if w = 0 then (if tBa t = 0 then 0 else 1) else if w = 1 then tMi t else if w = 2 then nI (tSt t) else if w = 3 then tCa t else if w = 4 then tWa t else if w = 5 then tLe t else tPa t
/-- the twelve numbers of a bridge -/
def bCnt (S : BS) (w : Nat) : Int32 := if w = 0 then sMi S else if w = 1 then sAn S else if w = 2 then sPo S else if w = 3 then sIc S else if w = 4 then nI (sCo S) else if w = 5 then nI (sN S) else if w = 6 then bWaiting S 1 else if w = 7 then bWaiting S 0 else if w = 8 then bPassed S else if w = 9 then bWaited S else if w = 10 then bPassing S else bNext S
/-- the component's object and its bridge -/
def XB (g : GT) (F : Nat → Prop) (x b : Nat) (S : BS) (H : Heap) : Prop := va_at (gD g) bbCl (x, .inr (0, [.ref b])) H ∧ BW g F b S H ∧ ¬ F x

set_option maxHeartbeats 4000000 in
theorem met_X1_require (l : Launch) (g : GT) (z : Int32) (hz : ¬ z = 0) : Met l yX1_require (ws_ yX1_require cX1_require 1 none) ({ frames := 0, cells := 0, slots := 0, locals := 0 } : Room) (PcG g [.int z] (fun _ => True)) (va_Sv (fun _ => True)) 0 0 (fun _ => False) := by
  refine gg_met (cc := cX1_require) (maxL := 1) (ret := none) (by decide) (Nat.le_of_ble_eq_true rfl) ?_
  intro p e s m below meth c hx hb hr hlk hin hml hown hts hG hB ls hl
  have hown : s.vm.findClass RX1 = some m.cls := hown
  have hl : lv_has ls 1 [(0, .int z)] := hl
  refine lv_iload_n hx hb dX1_require_0 rfl (lv_at hl 0 rfl) ?_
  refine lv_if_ne (tgt := 12) hx hb dX1_require_1 (by decide) (fun c_1 => ?_) (fun c_1 => absurd c_1 hz)
  exact W.vret hx hb hr (fun t9 h9 hW9 => ⟨rfl, trivial, h9⟩) (fun _ h => absurd h List.not_mem_nil) dX1_require_12

set_option maxHeartbeats 4000000 in
theorem met_X1_requireState (l : Launch) (g : GT) (z : Int32) (hz : ¬ z = 0) : Met l yX1_requireState (ws_ yX1_requireState cX1_requireState 1 none) ({ frames := 0, cells := 0, slots := 0, locals := 0 } : Room) (PcG g [.int z] (fun _ => True)) (va_Sv (fun _ => True)) 0 0 (fun _ => False) := by
  refine gg_met (cc := cX1_requireState) (maxL := 1) (ret := none) (by decide) (Nat.le_of_ble_eq_true rfl) ?_
  intro p e s m below meth c hx hb hr hlk hin hml hown hts hG hB ls hl
  have hown : s.vm.findClass RX1 = some m.cls := hown
  have hl : lv_has ls 1 [(0, .int z)] := hl
  refine lv_iload_n hx hb dX1_requireState_0 rfl (lv_at hl 0 rfl) ?_
  refine lv_if_ne (tgt := 12) hx hb dX1_requireState_1 (by decide) (fun c_1 => ?_) (fun c_1 => absurd c_1 hz)
  exact W.vret hx hb hr (fun t9 h9 hW9 => ⟨rfl, trivial, h9⟩) (fun _ h => absurd h List.not_mem_nil) dX1_requireState_12

set_option maxHeartbeats 4000000 in
theorem met_X1_requireIndex (l : Launch) (g : GT) (k n : Nat) (hk : k < n) (hn : n < 2 ^ 31) : Met l yX1_requireIndex (ws_ yX1_requireIndex cX1_requireIndex 2 none) ({ frames := 0, cells := 0, slots := 0, locals := 0 } : Room) (PcG g [.int (nI k), .int (nI n)] (fun _ => True)) (va_Sv (fun _ => True)) 0 0 (fun _ => False) := by
  refine gg_met (cc := cX1_requireIndex) (maxL := 2) (ret := none) (by decide) (Nat.le_of_ble_eq_true rfl) ?_
  intro p e s m below meth c hx hb hr hlk hin hml hown hts hG hB ls hl
  have hown : s.vm.findClass RX1 = some m.cls := hown
  have hl : lv_has ls 2 [(0, .int (nI k)), (1, .int (nI n))] := hl
  refine lv_iload_n hx hb dX1_requireIndex_0 rfl (lv_at hl 0 rfl) ?_
  refine lv_if_lt (tgt := 9) hx hb dX1_requireIndex_1 (by decide) (fun c_1 => absurd c_1 (nI_pos (Nat.lt_trans hk hn))) (fun c_1 => ?_)
  refine lv_iload_n hx hb dX1_requireIndex_4 rfl (lv_at hl 0 rfl) ?_
  refine lv_iload_n hx hb dX1_requireIndex_5 rfl (lv_at hl 1 rfl) ?_
  refine lv_icmp_lt (tgt := 17) hx hb dX1_requireIndex_6 (by decide) (fun c_6 => ?_) (fun c_6 => absurd (nI_lt hk hn) c_6)
  exact W.vret hx hb hr (fun t9 h9 hW9 => ⟨rfl, trivial, h9⟩) (fun _ h => absurd h List.not_mem_nil) dX1_requireIndex_17

set_option maxHeartbeats 4000000 in
theorem met_X1_requireFrom (l : Launch) (g : GT) (lo hi v : Int32) (h1 : lo ≤ v) (h2 : v ≤ hi) : Met l yX1_requireFrom (ws_ yX1_requireFrom cX1_requireFrom 3 none) ({ frames := 1, cells := 0, slots := 0, locals := 20 } : Room) (PcG g [.int lo, .int hi, .int v] (fun _ => True)) (va_Sv (fun _ => True)) 0 0 (fun _ => False) := by
  refine gg_met (cc := cX1_requireFrom) (maxL := 3) (ret := none) (by decide) (Nat.le_of_ble_eq_true rfl) ?_
  intro p e s m below meth c hx hb hr hlk hin hml hown hts hG hB ls hl
  have hown : s.vm.findClass RX1 = some m.cls := hown
  have hl : lv_has ls 3 [(0, .int lo), (1, .int hi), (2, .int v)] := hl
  refine lv_iload_n hx hb dX1_requireFrom_0 rfl (lv_at hl 2 rfl) ?_
  refine lv_iload_n hx hb dX1_requireFrom_1 rfl (lv_at hl 0 rfl) ?_
  refine lv_icmp_lt (tgt := 14) hx hb dX1_requireFrom_2 (by decide) (fun c_2 => absurd c_2 (Int32.not_lt.mpr h1)) (fun c_2 => ?_)
  refine lv_iload_n hx hb dX1_requireFrom_5 rfl (lv_at hl 2 rfl) ?_
  refine lv_iload_n hx hb dX1_requireFrom_6 rfl (lv_at hl 1 rfl) ?_
  refine lv_icmp_gt (tgt := 14) hx hb dX1_requireFrom_7 (by decide) (fun c_7 => absurd c_7 (Int32.not_lt.mpr h2)) (fun c_7 => ?_)
  refine lv_iconst (v := 1) hx hb dX1_requireFrom_10 (by decide) ?_
  refine lv_goto (tgt := 15) hx hb dX1_requireFrom_11 (by decide) ?_
  refine va_csv (va_Run.run (va_runS (As := [.int 1]) (rest := []) ⟨hx, hb, hml, hown, hts⟩ (met_X1_require l g 1 (by decide)) (va_cwS 1 hts (lw_S q270 q271 q14 q272) rfl rfl rfl (by decide +kernel) ⟨Nat.le_of_ble_eq_true rfl, Nat.le_of_ble_eq_true rfl⟩) (gg_preS hG (Kp.rf hG) trivial) rfl rfl hl.1 rfl (lv_room (Nat.le_of_ble_eq_true rfl)) dX1_requireFrom_15 ⟨Nat.le_of_ble_eq_true rfl, Nat.le_of_ble_eq_true rfl⟩)) (fun _ => ?_)
  exact W.vret hx hb hr (fun t9 h9 hW9 => ⟨rfl, trivial, h9⟩) (fun _ h => absurd h List.not_mem_nil) dX1_requireFrom_18

set_option maxHeartbeats 4000000 in
theorem met_X1_known (l : Launch) (g : GT) (al el n cap k x : Nat) (mc : Int32) (arr : Nat → Option Nat) (hk : k < n) (hn : n ≤ cap) (hcap : cap < 2 ^ 31) (hx0 : arr k = some x) : Met l yX1_known (ws_ yX1_known cX1_known 2 (Option.some (Jvm.ClassFile.FieldType.object "java/lang/Object"))) ({ frames := 3, cells := 0, slots := 0, locals := 64 } : Room) (PcG g [.ref al, .int (nI k)] (fun H => va_at (gD g) bbCl (al, alE mc el n) H ∧ va_at (gD g) bbCl (el, rfA g cap arr) H)) (va_Sr (fun r => r = x) Value.ref) 0 0 (fun _ => False) := by
  refine gg_met (cc := cX1_known) (maxL := 2) (ret := (Option.some (Jvm.ClassFile.FieldType.object "java/lang/Object"))) (by decide) (Nat.le_of_ble_eq_true rfl) ?_
  intro p e s m below meth c hx hb hr hlk hin hml hown hts hG hB ls hl
  have hown : s.vm.findClass RX1 = some m.cls := hown
  have hl : lv_has ls 2 [(0, .ref al), (1, .int (nI k))] := hl
  refine lv_iload_n hx hb dX1_known_0 rfl (lv_at hl 1 rfl) ?_
  refine lv_aload_n hx hb dX1_known_1 rfl (lv_at hl 0 rfl) ?_
  refine va_csFi (va_runF (As := []) (rest := [.int (nI k)]) (hG.k.1 3 _ rfl).2 ⟨hx, hb, hml, hown, hts⟩ (met_J3_size l g al el n mc) (va_cwF 0 hts (lw_F q496 q500 q148 q20 q150) rfl rfl rfl hG.1.2.2.2.2.1 (by decide +kernel) ⟨Nat.le_of_ble_eq_true rfl, Nat.le_of_ble_eq_true rfl⟩) (gg_preV hG (Kp.rf hG) (gg_recv hG hB.1 rfl) hB.1) rfl rfl hl.1 rfl (lv_room (Nat.le_of_ble_eq_true rfl)) dX1_known_2 ⟨Nat.le_of_ble_eq_true rfl, Nat.le_of_ble_eq_true rfl⟩) (fun z hz => ?_)
  subst hz
  refine va_csv (va_Run.run (va_runS (As := [.int (nI k), .int (nI n)]) (rest := []) ⟨hx, hb, hml, hown, hts⟩ (met_X1_requireIndex l g k n hk (Nat.lt_of_le_of_lt hn hcap)) (va_cwS 2 hts (lw_S q503 q504 q14 q505) rfl rfl rfl (by decide +kernel) ⟨Nat.le_of_ble_eq_true rfl, Nat.le_of_ble_eq_true rfl⟩) (gg_preS hG (Kp.rf hG) trivial) rfl rfl hl.1 rfl (lv_room (Nat.le_of_ble_eq_true rfl)) dX1_known_7 ⟨Nat.le_of_ble_eq_true rfl, Nat.le_of_ble_eq_true rfl⟩)) (fun _ => ?_)
  refine lv_aload_n hx hb dX1_known_10 rfl (lv_at hl 0 rfl) ?_
  refine lv_iload_n hx hb dX1_known_11 rfl (lv_at hl 1 rfl) ?_
  refine va_csFr (va_runF (As := [.int (nI k)]) (rest := []) (hG.k.1 3 _ rfl).2 ⟨hx, hb, hml, hown, hts⟩ (met_J3_get l g al el n cap k x mc arr hk hn hcap hx0) (va_cwF 1 hts (lw_F q522 q525 q152 q20 q154) rfl rfl rfl hG.1.2.2.2.2.2.1 (by decide +kernel) ⟨Nat.le_of_ble_eq_true rfl, Nat.le_of_ble_eq_true rfl⟩) (gg_preV hG (Kp.rf hG) (gg_recv hG hB.1 rfl) hB) rfl rfl hl.1 rfl (lv_room (Nat.le_of_ble_eq_true rfl)) dX1_known_12 ⟨Nat.le_of_ble_eq_true rfl, Nat.le_of_ble_eq_true rfl⟩) (fun r_ hr_ => ?_)
  subst hr_
  exact W.aret hx hb hr (Or.inl ⟨_, rfl⟩) (Or.inr ⟨_, rfl⟩) (fun t9 h9 hW9 => ⟨_, rfl, rfl, h9⟩) (fun _ h => absurd h List.not_mem_nil) dX1_known_17

set_option maxHeartbeats 4000000 in
theorem met_X1_travellerTold (l : Launch) (g : GT) (a w : Nat) (t : TT) (hw : w < 7) (ht : tSt t < 4) : Met l yX1_travellerTold (ws_ yX1_travellerTold cX1_travellerTold 2 (Option.some Jvm.ClassFile.FieldType.int)) ({ frames := 1, cells := 0, slots := 0, locals := 20 } : Room) (PcG g [.ref a, .int (nI w)] (fun H => va_at (gD g) bbCl (a, tvE g t) H)) (vp_Si (fun r => r = tTold t w)) 0 0 (fun _ => False) := by
  refine gg_met (cc := cX1_travellerTold) (maxL := 2) (ret := (Option.some Jvm.ClassFile.FieldType.int)) (by decide) (Nat.le_of_ble_eq_true rfl) ?_
  intro p e s m below meth c hx hb hr hlk hin hml hown hts hG hB ls hl
  have hown : s.vm.findClass RX1 = some m.cls := hown
  have hl : lv_has ls 2 [(0, .ref a), (1, .int (nI w))] := hl
  rcases (show w = 0 ∨ w = 1 ∨ w = 2 ∨ w = 3 ∨ w = 4 ∨ w = 5 ∨ w = 6 by omega) with rfl | rfl | rfl | rfl | rfl | rfl | rfl
  all_goals refine lv_iload_n hx hb dX1_travellerTold_0 rfl (lv_at hl 1 rfl) ?_
  · refine lv_tableIn (tgt := 40) hx hb dX1_travellerTold_1 (by decide) (by decide) rfl (by decide) ?_
    refine lv_aload_n hx hb dX1_travellerTold_40 rfl (lv_at hl 0 rfl) ?_
    refine gg_get (ci := 2) (C := RX6) (T := TX6) (N := 7) (v := .int (tBa t)) hx hb hts in_X6 hown hG hB rfl 0 (by decide) q364 rfl rfl dX1_travellerTold_41 ?_
    refine lv_if_eq (tgt := 51) hx hb dX1_travellerTold_44 (by decide) (fun c_44 => ?_) (fun c_44 => ?_)
    · refine lv_iconst (v := 0) hx hb dX1_travellerTold_51 (by decide) ?_
      exact W.iret (v := 0) hx hb hr (fun t9 h9 hW9 => ⟨_, rfl, (by simp [tTold, c_44]), h9⟩) (fun _ h => absurd h List.not_mem_nil) dX1_travellerTold_52
    · refine lv_iconst (v := 1) hx hb dX1_travellerTold_47 (by decide) ?_
      refine lv_goto (tgt := 52) hx hb dX1_travellerTold_48 (by decide) ?_
      exact W.iret (v := 1) hx hb hr (fun t9 h9 hW9 => ⟨_, rfl, (by simp [tTold, c_44]), h9⟩) (fun _ h => absurd h List.not_mem_nil) dX1_travellerTold_52
  · refine lv_tableIn (tgt := 53) hx hb dX1_travellerTold_1 (by decide) (by decide) rfl (by decide) ?_
    refine lv_aload_n hx hb dX1_travellerTold_53 rfl (lv_at hl 0 rfl) ?_
    refine gg_get (ci := 2) (C := RX6) (T := TX6) (N := 7) (v := .int (tMi t)) hx hb hts in_X6 hown hG hB rfl 1 (by decide) q366 rfl rfl dX1_travellerTold_54 ?_
    exact W.iret (v := (tMi t)) hx hb hr (fun t9 h9 hW9 => ⟨_, rfl, rfl, h9⟩) (fun _ h => absurd h List.not_mem_nil) dX1_travellerTold_57
  · refine lv_tableIn (tgt := 58) hx hb dX1_travellerTold_1 (by decide) (by decide) rfl (by decide) ?_
    refine lv_aload_n hx hb dX1_travellerTold_58 rfl (lv_at hl 0 rfl) ?_
    refine gg_getN (ci := 2) (C := RX6) (T := TX6) (N := 7) (v := .ref (gS g (tSt t))) hx hb hts in_X6 hown hG hB rfl 3 (by decide) q370 rfl rfl dX1_travellerTold_59 ?_
    refine vp_callSi (va_Run.run (va_runU (As := []) (rest := []) ⟨hx, hb, hml, hown, hts⟩ (met_J0_ordinalS l g (tSt t) ht) (va_cwU 0 hts (lw_U q255 q256 q257 q185 q16 q186) rfl rfl rfl rfl (by decide +kernel) ⟨Nat.le_of_ble_eq_true rfl, Nat.le_of_ble_eq_true rfl⟩) (gg_preV hG (Kp.rf hG) (gg_recvS hG (Kp.rf hG) ht) trivial) rfl rfl hl.1 rfl (lv_room (Nat.le_of_ble_eq_true rfl)) dX1_travellerTold_62 ⟨Nat.le_of_ble_eq_true rfl, Nat.le_of_ble_eq_true rfl⟩)) (fun r_o hr_o => ?_)
    exact W.iret (v := r_o) hx hb hr (fun t9 h9 hW9 => ⟨_, rfl, hr_o, h9⟩) (fun _ h => absurd h List.not_mem_nil) dX1_travellerTold_65
  · refine lv_tableIn (tgt := 66) hx hb dX1_travellerTold_1 (by decide) (by decide) rfl (by decide) ?_
    refine lv_aload_n hx hb dX1_travellerTold_66 rfl (lv_at hl 0 rfl) ?_
    refine gg_get (ci := 2) (C := RX6) (T := TX6) (N := 7) (v := .int (tCa t)) hx hb hts in_X6 hown hG hB rfl 2 (by decide) q368 rfl rfl dX1_travellerTold_67 ?_
    exact W.iret (v := (tCa t)) hx hb hr (fun t9 h9 hW9 => ⟨_, rfl, rfl, h9⟩) (fun _ h => absurd h List.not_mem_nil) dX1_travellerTold_70
  · refine lv_tableIn (tgt := 71) hx hb dX1_travellerTold_1 (by decide) (by decide) rfl (by decide) ?_
    refine lv_aload_n hx hb dX1_travellerTold_71 rfl (lv_at hl 0 rfl) ?_
    refine gg_getN (ci := 2) (C := RX6) (T := TX6) (N := 7) (v := .int (tWa t)) hx hb hts in_X6 hown hG hB rfl 4 (by decide) q372 rfl rfl dX1_travellerTold_72 ?_
    exact W.iret (v := (tWa t)) hx hb hr (fun t9 h9 hW9 => ⟨_, rfl, rfl, h9⟩) (fun _ h => absurd h List.not_mem_nil) dX1_travellerTold_75
  · refine lv_tableIn (tgt := 76) hx hb dX1_travellerTold_1 (by decide) (by decide) rfl (by decide) ?_
    refine lv_aload_n hx hb dX1_travellerTold_76 rfl (lv_at hl 0 rfl) ?_
    refine gg_getN (ci := 2) (C := RX6) (T := TX6) (N := 7) (v := .int (tLe t)) hx hb hts in_X6 hown hG hB rfl 5 (by decide) q375 rfl rfl dX1_travellerTold_77 ?_
    exact W.iret (v := (tLe t)) hx hb hr (fun t9 h9 hW9 => ⟨_, rfl, rfl, h9⟩) (fun _ h => absurd h List.not_mem_nil) dX1_travellerTold_80
  · refine lv_tableOut (tgt := 81) hx hb dX1_travellerTold_1 (Or.inr (by decide)) (by decide) ?_
    refine lv_aload_n hx hb dX1_travellerTold_81 rfl (lv_at hl 0 rfl) ?_
    refine gg_getN (ci := 2) (C := RX6) (T := TX6) (N := 7) (v := .int (tPa t)) hx hb hts in_X6 hown hG hB rfl 6 (by decide) q377 rfl rfl dX1_travellerTold_82 ?_
    exact W.iret (v := (tPa t)) hx hb hr (fun t9 h9 hW9 => ⟨_, rfl, rfl, h9⟩) (fun _ h => absurd h List.not_mem_nil) dX1_travellerTold_85

set_option maxHeartbeats 4000000 in
theorem met_X1_counted (l : Launch) (g : GT) (T x b w : Nat) (S : BS) (F : Nat → Prop) (hok : OKS T S) (hw : w < 12) : Met l yX1_counted (ws_ yX1_counted cX1_counted 2 (Option.some Jvm.ClassFile.FieldType.int)) ({ frames := 7, cells := 0, slots := 0, locals := 149 } : Room) (PcG g [.ref x, .int (nI w)] (fun H => XB g F x b S H)) (vp_Si (fun r => r = bCnt S w)) 0 0 (fun _ => False) := by
  refine gg_met (cc := cX1_counted) (maxL := 2) (ret := (Option.some Jvm.ClassFile.FieldType.int)) (by decide) (Nat.le_of_ble_eq_true rfl) ?_
  intro p e s m below meth c hx hb hr hlk hin hml hown hts hG hB ls hl
  have hown : s.vm.findClass RX1 = some m.cls := hown
  have hl : lv_has ls 2 [(0, .ref x), (1, .int (nI w))] := hl
  obtain ⟨h_x, hW, hFx⟩ := hB
  have hB : RB g T b S s.heap := hW.rb hok
  obtain ⟨cd, al, el, cap, mc, arr, ad, hX⟩ := hW
  have h_b := hX.1
  have h_al := hX.2.2.1
  rcases (show w = 0 ∨ w = 1 ∨ w = 2 ∨ w = 3 ∨ w = 4 ∨ w = 5 ∨ w = 6 ∨ w = 7 ∨ w = 8 ∨ w = 9 ∨ w = 10 ∨ w = 11 by omega) with rfl | rfl | rfl | rfl | rfl | rfl | rfl | rfl | rfl | rfl | rfl | rfl
  all_goals refine lv_iload_n hx hb dX1_counted_0 rfl (lv_at hl 1 rfl) ?_
  · refine lv_tableIn (tgt := 64) hx hb dX1_counted_1 (by decide) (by decide) rfl (by decide) ?_
    refine lv_aload_n hx hb dX1_counted_64 rfl (lv_at hl 0 rfl) ?_
    refine gg_get (ci := 0) (C := RX1) (T := TX1) (N := 1) (v := .ref b) hx hb hts in_X1 hown hG h_x rfl 0 (by decide) q115 rfl rfl dX1_counted_65 ?_
    refine gg_getN (ci := 1) (C := RX2) (T := TX2) (N := 8) (v := .int (sMi S)) hx hb hts in_X2 hown hG h_b rfl 0 (by decide) q83 rfl rfl dX1_counted_68 ?_
    exact W.iret (v := (sMi S)) hx hb hr (fun t9 h9 hW9 => ⟨_, rfl, rfl, h9⟩) (fun _ h => absurd h List.not_mem_nil) dX1_counted_71
  · refine lv_tableIn (tgt := 72) hx hb dX1_counted_1 (by decide) (by decide) rfl (by decide) ?_
    refine lv_aload_n hx hb dX1_counted_72 rfl (lv_at hl 0 rfl) ?_
    refine gg_get (ci := 0) (C := RX1) (T := TX1) (N := 1) (v := .ref b) hx hb hts in_X1 hown hG h_x rfl 0 (by decide) q115 rfl rfl dX1_counted_73 ?_
    refine gg_getN (ci := 1) (C := RX2) (T := TX2) (N := 8) (v := .int (sAn S)) hx hb hts in_X2 hown hG h_b rfl 1 (by decide) q85 rfl rfl dX1_counted_76 ?_
    exact W.iret (v := (sAn S)) hx hb hr (fun t9 h9 hW9 => ⟨_, rfl, rfl, h9⟩) (fun _ h => absurd h List.not_mem_nil) dX1_counted_79
  · refine lv_tableIn (tgt := 80) hx hb dX1_counted_1 (by decide) (by decide) rfl (by decide) ?_
    refine lv_aload_n hx hb dX1_counted_80 rfl (lv_at hl 0 rfl) ?_
    refine gg_get (ci := 0) (C := RX1) (T := TX1) (N := 1) (v := .ref b) hx hb hts in_X1 hown hG h_x rfl 0 (by decide) q115 rfl rfl dX1_counted_81 ?_
    refine gg_getN (ci := 1) (C := RX2) (T := TX2) (N := 8) (v := .int (sPo S)) hx hb hts in_X2 hown hG h_b rfl 2 (by decide) q87 rfl rfl dX1_counted_84 ?_
    exact W.iret (v := (sPo S)) hx hb hr (fun t9 h9 hW9 => ⟨_, rfl, rfl, h9⟩) (fun _ h => absurd h List.not_mem_nil) dX1_counted_87
  · refine lv_tableIn (tgt := 88) hx hb dX1_counted_1 (by decide) (by decide) rfl (by decide) ?_
    refine lv_aload_n hx hb dX1_counted_88 rfl (lv_at hl 0 rfl) ?_
    refine gg_get (ci := 0) (C := RX1) (T := TX1) (N := 1) (v := .ref b) hx hb hts in_X1 hown hG h_x rfl 0 (by decide) q115 rfl rfl dX1_counted_89 ?_
    refine gg_getN (ci := 1) (C := RX2) (T := TX2) (N := 8) (v := .int (sIc S)) hx hb hts in_X2 hown hG h_b rfl 3 (by decide) q89 rfl rfl dX1_counted_92 ?_
    exact W.iret (v := (sIc S)) hx hb hr (fun t9 h9 hW9 => ⟨_, rfl, rfl, h9⟩) (fun _ h => absurd h List.not_mem_nil) dX1_counted_95
  · refine lv_tableIn (tgt := 96) hx hb dX1_counted_1 (by decide) (by decide) rfl (by decide) ?_
    refine lv_aload_n hx hb dX1_counted_96 rfl (lv_at hl 0 rfl) ?_
    refine gg_get (ci := 0) (C := RX1) (T := TX1) (N := 1) (v := .ref b) hx hb hts in_X1 hown hG h_x rfl 0 (by decide) q115 rfl rfl dX1_counted_97 ?_
    refine gg_getN (ci := 1) (C := RX2) (T := TX2) (N := 8) (v := .ref (gC g (sCo S))) hx hb hts in_X2 hown hG h_b rfl 4 (by decide) q91 rfl rfl dX1_counted_100 ?_
    have hc5 : sCo S < 5 := hok.2.2.2.2.1
    rcases (show sCo S = 0 ∨ sCo S = 1 ∨ sCo S = 2 ∨ sCo S = 3 ∨ sCo S = 4 by omega) with hco | hco | hco | hco | hco
    · rw [hco]
      refine vp_callSi (va_Run.run (va_runU (As := []) (rest := []) ⟨hx, hb, hml, hown, hts⟩ (met_J0_ordinalC l g 0 (by decide)) (va_cwU 0 hts (lw_U q177 q178 q180 q185 q16 q186) rfl rfl rfl rfl (by decide +kernel) ⟨Nat.le_of_ble_eq_true rfl, Nat.le_of_ble_eq_true rfl⟩) (gg_preV hG (Kp.rf hG) (gg_recvC hG (Kp.rf hG) (by decide : 0 < 5)) trivial) rfl rfl hl.1 rfl (lv_room (Nat.le_of_ble_eq_true rfl)) dX1_counted_103 ⟨Nat.le_of_ble_eq_true rfl, Nat.le_of_ble_eq_true rfl⟩)) (fun r_o hr_o => ?_)
      exact W.iret (v := r_o) hx hb hr (fun t9 h9 hW9 => ⟨_, rfl, (by rw [hr_o]; show _ = nI (sCo S); rw [hco]), h9⟩) (fun _ h => absurd h List.not_mem_nil) dX1_counted_106
    · rw [hco]
      refine vp_callSi (va_Run.run (va_runU (As := []) (rest := []) ⟨hx, hb, hml, hown, hts⟩ (met_J0_ordinalC l g 1 (by decide)) (va_cwU 0 hts (lw_U q177 q178 q181 q185 q16 q186) rfl rfl rfl rfl (by decide +kernel) ⟨Nat.le_of_ble_eq_true rfl, Nat.le_of_ble_eq_true rfl⟩) (gg_preV hG (Kp.rf hG) (gg_recvC hG (Kp.rf hG) (by decide : 1 < 5)) trivial) rfl rfl hl.1 rfl (lv_room (Nat.le_of_ble_eq_true rfl)) dX1_counted_103 ⟨Nat.le_of_ble_eq_true rfl, Nat.le_of_ble_eq_true rfl⟩)) (fun r_o hr_o => ?_)
      exact W.iret (v := r_o) hx hb hr (fun t9 h9 hW9 => ⟨_, rfl, (by rw [hr_o]; show _ = nI (sCo S); rw [hco]), h9⟩) (fun _ h => absurd h List.not_mem_nil) dX1_counted_106
    · rw [hco]
      refine vp_callSi (va_Run.run (va_runU (As := []) (rest := []) ⟨hx, hb, hml, hown, hts⟩ (met_J0_ordinalC l g 2 (by decide)) (va_cwU 0 hts (lw_U q177 q178 q182 q185 q16 q186) rfl rfl rfl rfl (by decide +kernel) ⟨Nat.le_of_ble_eq_true rfl, Nat.le_of_ble_eq_true rfl⟩) (gg_preV hG (Kp.rf hG) (gg_recvC hG (Kp.rf hG) (by decide : 2 < 5)) trivial) rfl rfl hl.1 rfl (lv_room (Nat.le_of_ble_eq_true rfl)) dX1_counted_103 ⟨Nat.le_of_ble_eq_true rfl, Nat.le_of_ble_eq_true rfl⟩)) (fun r_o hr_o => ?_)
      exact W.iret (v := r_o) hx hb hr (fun t9 h9 hW9 => ⟨_, rfl, (by rw [hr_o]; show _ = nI (sCo S); rw [hco]), h9⟩) (fun _ h => absurd h List.not_mem_nil) dX1_counted_106
    · rw [hco]
      refine vp_callSi (va_Run.run (va_runU (As := []) (rest := []) ⟨hx, hb, hml, hown, hts⟩ (met_J0_ordinalC l g 3 (by decide)) (va_cwU 0 hts (lw_U q177 q178 q183 q185 q16 q186) rfl rfl rfl rfl (by decide +kernel) ⟨Nat.le_of_ble_eq_true rfl, Nat.le_of_ble_eq_true rfl⟩) (gg_preV hG (Kp.rf hG) (gg_recvC hG (Kp.rf hG) (by decide : 3 < 5)) trivial) rfl rfl hl.1 rfl (lv_room (Nat.le_of_ble_eq_true rfl)) dX1_counted_103 ⟨Nat.le_of_ble_eq_true rfl, Nat.le_of_ble_eq_true rfl⟩)) (fun r_o hr_o => ?_)
      exact W.iret (v := r_o) hx hb hr (fun t9 h9 hW9 => ⟨_, rfl, (by rw [hr_o]; show _ = nI (sCo S); rw [hco]), h9⟩) (fun _ h => absurd h List.not_mem_nil) dX1_counted_106
    · rw [hco]
      refine vp_callSi (va_Run.run (va_runU (As := []) (rest := []) ⟨hx, hb, hml, hown, hts⟩ (met_J0_ordinalC l g 4 (by decide)) (va_cwU 0 hts (lw_U q177 q178 q184 q185 q16 q186) rfl rfl rfl rfl (by decide +kernel) ⟨Nat.le_of_ble_eq_true rfl, Nat.le_of_ble_eq_true rfl⟩) (gg_preV hG (Kp.rf hG) (gg_recvC hG (Kp.rf hG) (by decide : 4 < 5)) trivial) rfl rfl hl.1 rfl (lv_room (Nat.le_of_ble_eq_true rfl)) dX1_counted_103 ⟨Nat.le_of_ble_eq_true rfl, Nat.le_of_ble_eq_true rfl⟩)) (fun r_o hr_o => ?_)
      exact W.iret (v := r_o) hx hb hr (fun t9 h9 hW9 => ⟨_, rfl, (by rw [hr_o]; show _ = nI (sCo S); rw [hco]), h9⟩) (fun _ h => absurd h List.not_mem_nil) dX1_counted_106
  · refine lv_tableIn (tgt := 107) hx hb dX1_counted_1 (by decide) (by decide) rfl (by decide) ?_
    refine lv_aload_n hx hb dX1_counted_107 rfl (lv_at hl 0 rfl) ?_
    refine gg_get (ci := 0) (C := RX1) (T := TX1) (N := 1) (v := .ref b) hx hb hts in_X1 hown hG h_x rfl 0 (by decide) q115 rfl rfl dX1_counted_108 ?_
    refine gg_getN (ci := 1) (C := RX2) (T := TX2) (N := 8) (v := .ref al) hx hb hts in_X2 hown hG h_b rfl 7 (by decide) q97 rfl rfl dX1_counted_111 ?_
    refine vp_callSi (va_Run.run (va_runV (As := []) (rest := []) ⟨hx, hb, hml, hown, hts⟩ (met_J3_size l g al el (sN S) mc) (cwV 0 hts (lw_V q166 q148 q149 q20 q150) rfl rfl rfl (by decide +kernel) ⟨Nat.le_of_ble_eq_true rfl, Nat.le_of_ble_eq_true rfl⟩) (gg_preV hG (Kp.rf hG) (gg_recv hG h_al rfl) h_al) rfl rfl hl.1 rfl (lv_room (Nat.le_of_ble_eq_true rfl)) dX1_counted_114 ⟨Nat.le_of_ble_eq_true rfl, Nat.le_of_ble_eq_true rfl⟩)) (fun r_1 hr_1 => ?_)
    exact W.iret (v := r_1) hx hb hr (fun t9 h9 hW9 => ⟨_, rfl, hr_1, h9⟩) (fun _ h => absurd h List.not_mem_nil) dX1_counted_117
  · refine lv_tableIn (tgt := 150) hx hb dX1_counted_1 (by decide) (by decide) rfl (by decide) ?_
    refine lv_aload_n hx hb dX1_counted_150 rfl (lv_at hl 0 rfl) ?_
    refine gg_get (ci := 0) (C := RX1) (T := TX1) (N := 1) (v := .ref b) hx hb hts in_X1 hown hG h_x rfl 0 (by decide) q115 rfl rfl dX1_counted_151 ?_
    refine lv_iload_n hx hb dX1_counted_154 rfl (lv_at hl 1 rfl) ?_
    refine lv_bipush (v := 6) hx hb dX1_counted_155 (by decide) ?_
    refine lv_icmp_ne (tgt := 164) hx hb dX1_counted_157 (by decide) (fun c_157 => absurd (show nI 6 = 6 from rfl) c_157) (fun c_157 => ?_)
    refine lv_iconst (v := 1) hx hb dX1_counted_160 (by decide) ?_
    refine lv_goto (tgt := 165) hx hb dX1_counted_161 (by decide) ?_
    refine vp_callSi (va_Run.run (va_runV (As := [.int 1]) (rest := []) ⟨hx, hb, hml, hown, hts⟩ (met_X2_waiting l g T b S 1) (cwV 1 hts (lw_V q246 q247 q248 q15 q249) rfl rfl rfl (by decide +kernel) ⟨Nat.le_of_ble_eq_true rfl, Nat.le_of_ble_eq_true rfl⟩) (gg_preV hG (Kp.rf hG) (gg_recv hG h_b rfl) hB) rfl rfl hl.1 rfl (lv_room (Nat.le_of_ble_eq_true rfl)) dX1_counted_165 ⟨Nat.le_of_ble_eq_true rfl, Nat.le_of_ble_eq_true rfl⟩)) (fun r_1 hr_1 => ?_)
    exact W.iret (v := r_1) hx hb hr (fun t9 h9 hW9 => ⟨_, rfl, hr_1, h9⟩) (fun _ h => absurd h List.not_mem_nil) dX1_counted_168
  · refine lv_tableIn (tgt := 150) hx hb dX1_counted_1 (by decide) (by decide) rfl (by decide) ?_
    refine lv_aload_n hx hb dX1_counted_150 rfl (lv_at hl 0 rfl) ?_
    refine gg_get (ci := 0) (C := RX1) (T := TX1) (N := 1) (v := .ref b) hx hb hts in_X1 hown hG h_x rfl 0 (by decide) q115 rfl rfl dX1_counted_151 ?_
    refine lv_iload_n hx hb dX1_counted_154 rfl (lv_at hl 1 rfl) ?_
    refine lv_bipush (v := 6) hx hb dX1_counted_155 (by decide) ?_
    refine lv_icmp_ne (tgt := 164) hx hb dX1_counted_157 (by decide) (fun c_157 => ?_) (fun c_157 => absurd c_157 (show ¬ nI 7 = 6 by decide))
    refine lv_iconst (v := 0) hx hb dX1_counted_164 (by decide) ?_
    refine vp_callSi (va_Run.run (va_runV (As := [.int 0]) (rest := []) ⟨hx, hb, hml, hown, hts⟩ (met_X2_waiting l g T b S 0) (cwV 1 hts (lw_V q246 q247 q248 q15 q249) rfl rfl rfl (by decide +kernel) ⟨Nat.le_of_ble_eq_true rfl, Nat.le_of_ble_eq_true rfl⟩) (gg_preV hG (Kp.rf hG) (gg_recv hG h_b rfl) hB) rfl rfl hl.1 rfl (lv_room (Nat.le_of_ble_eq_true rfl)) dX1_counted_165 ⟨Nat.le_of_ble_eq_true rfl, Nat.le_of_ble_eq_true rfl⟩)) (fun r_1 hr_1 => ?_)
    exact W.iret (v := r_1) hx hb hr (fun t9 h9 hW9 => ⟨_, rfl, hr_1, h9⟩) (fun _ h => absurd h List.not_mem_nil) dX1_counted_168
  · refine lv_tableIn (tgt := 118) hx hb dX1_counted_1 (by decide) (by decide) rfl (by decide) ?_
    refine lv_aload_n hx hb dX1_counted_118 rfl (lv_at hl 0 rfl) ?_
    refine gg_get (ci := 0) (C := RX1) (T := TX1) (N := 1) (v := .ref b) hx hb hts in_X1 hown hG h_x rfl 0 (by decide) q115 rfl rfl dX1_counted_119 ?_
    refine vp_callSi (va_Run.run (va_runV (As := []) (rest := []) ⟨hx, hb, hml, hown, hts⟩ (met_X2_passed l g T b S) (cwV 0 hts (lw_V q187 q188 q189 q15 q190) rfl rfl rfl (by decide +kernel) ⟨Nat.le_of_ble_eq_true rfl, Nat.le_of_ble_eq_true rfl⟩) (gg_preV hG (Kp.rf hG) (gg_recv hG h_b rfl) hB) rfl rfl hl.1 rfl (lv_room (Nat.le_of_ble_eq_true rfl)) dX1_counted_122 ⟨Nat.le_of_ble_eq_true rfl, Nat.le_of_ble_eq_true rfl⟩)) (fun r_1 hr_1 => ?_)
    exact W.iret (v := r_1) hx hb hr (fun t9 h9 hW9 => ⟨_, rfl, hr_1, h9⟩) (fun _ h => absurd h List.not_mem_nil) dX1_counted_125
  · refine lv_tableIn (tgt := 126) hx hb dX1_counted_1 (by decide) (by decide) rfl (by decide) ?_
    refine lv_aload_n hx hb dX1_counted_126 rfl (lv_at hl 0 rfl) ?_
    refine gg_get (ci := 0) (C := RX1) (T := TX1) (N := 1) (v := .ref b) hx hb hts in_X1 hown hG h_x rfl 0 (by decide) q115 rfl rfl dX1_counted_127 ?_
    refine vp_callSi (va_Run.run (va_runV (As := []) (rest := []) ⟨hx, hb, hml, hown, hts⟩ (met_X2_waited l g T b S) (cwV 0 hts (lw_V q143 q144 q145 q15 q146) rfl rfl rfl (by decide +kernel) ⟨Nat.le_of_ble_eq_true rfl, Nat.le_of_ble_eq_true rfl⟩) (gg_preV hG (Kp.rf hG) (gg_recv hG h_b rfl) hB) rfl rfl hl.1 rfl (lv_room (Nat.le_of_ble_eq_true rfl)) dX1_counted_130 ⟨Nat.le_of_ble_eq_true rfl, Nat.le_of_ble_eq_true rfl⟩)) (fun r_1 hr_1 => ?_)
    exact W.iret (v := r_1) hx hb hr (fun t9 h9 hW9 => ⟨_, rfl, hr_1, h9⟩) (fun _ h => absurd h List.not_mem_nil) dX1_counted_133
  · refine lv_tableIn (tgt := 134) hx hb dX1_counted_1 (by decide) (by decide) rfl (by decide) ?_
    refine lv_aload_n hx hb dX1_counted_134 rfl (lv_at hl 0 rfl) ?_
    refine gg_get (ci := 0) (C := RX1) (T := TX1) (N := 1) (v := .ref b) hx hb hts in_X1 hown hG h_x rfl 0 (by decide) q115 rfl rfl dX1_counted_135 ?_
    refine vp_callSi (va_Run.run (va_runV (As := []) (rest := []) ⟨hx, hb, hml, hown, hts⟩ (met_X2_passing l g T b S) (cwV 0 hts (lw_V q197 q198 q199 q15 q200) rfl rfl rfl (by decide +kernel) ⟨Nat.le_of_ble_eq_true rfl, Nat.le_of_ble_eq_true rfl⟩) (gg_preV hG (Kp.rf hG) (gg_recv hG h_b rfl) hB) rfl rfl hl.1 rfl (lv_room (Nat.le_of_ble_eq_true rfl)) dX1_counted_138 ⟨Nat.le_of_ble_eq_true rfl, Nat.le_of_ble_eq_true rfl⟩)) (fun r_1 hr_1 => ?_)
    exact W.iret (v := r_1) hx hb hr (fun t9 h9 hW9 => ⟨_, rfl, hr_1, h9⟩) (fun _ h => absurd h List.not_mem_nil) dX1_counted_141
  · refine lv_tableIn (tgt := 142) hx hb dX1_counted_1 (by decide) (by decide) rfl (by decide) ?_
    refine lv_aload_n hx hb dX1_counted_142 rfl (lv_at hl 0 rfl) ?_
    refine gg_get (ci := 0) (C := RX1) (T := TX1) (N := 1) (v := .ref b) hx hb hts in_X1 hown hG h_x rfl 0 (by decide) q115 rfl rfl dX1_counted_143 ?_
    refine vp_callSi (va_Run.run (va_runV (As := []) (rest := []) ⟨hx, hb, hml, hown, hts⟩ (met_X2_next l g T b S) (cwV 0 hts (lw_V q203 q204 q205 q15 q206) rfl rfl rfl (by decide +kernel) ⟨Nat.le_of_ble_eq_true rfl, Nat.le_of_ble_eq_true rfl⟩) (gg_preV hG (Kp.rf hG) (gg_recv hG h_b rfl) hB) rfl rfl hl.1 rfl (lv_room (Nat.le_of_ble_eq_true rfl)) dX1_counted_146 ⟨Nat.le_of_ble_eq_true rfl, Nat.le_of_ble_eq_true rfl⟩)) (fun r_1 hr_1 => ?_)
    exact W.iret (v := r_1) hx hb hr (fun t9 h9 hW9 => ⟨_, rfl, hr_1, h9⟩) (fun _ h => absurd h List.not_mem_nil) dX1_counted_149
