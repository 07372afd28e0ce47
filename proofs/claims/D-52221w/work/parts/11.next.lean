/-! WHO IS SERVED NEXT, and how fast the bridge moves: readers too. -/
set_option maxRecDepth 100000
/-- what a call of an inherited or overriding method asks -/
theorem lw_U {own : String} {idx : Nat} {C owner : String} {x y : MethodName} {b : ByteArray} {L : Nat} {r : Option FieldType} (h1 : Cond.methodLink own idx x ∈ lw_all) (h2 : Cond.sameMethod x.cls owner x.name x.desc ∈ lw_all) (h3 : Cond.selects C x y ∈ lw_all) (h4 : Cond.instanceMethod y ∈ lw_all) (h5 : Cond.initialized y.cls ∈ lw_all) (h6 : Cond.code y b L r ∈ lw_all) : GoodIn lw_all (va_wsU own idx C owner x y (ws_ y b L r)) := by
  refine lw_app ?_ (lw_meth h6)
  intro w hw
  simp only [List.mem_cons, List.not_mem_nil, or_false] at hw
  rcases hw with e | e | e | e | e
  · rw [e]; exact h1
  · rw [e]; exact h2
  · rw [e]; exact h3
  · rw [e]; exact h4
  · rw [e]; exact h5
theorem gg_recvC {g : GT} {s : State} {H : Heap} (hG : GG g s) (hq : Kp g s H) {i : Nat} (hi : i < 5) : ∃ cell : Cell, H[gC g i]? = some cell ∧ cell.vm.isStatics = false ∧ s.vm.findClass (gCx.getD i "") = some cell.cls := by
  obtain ⟨cell, h1, h2, h3, -⟩ := ((hG.co hi).2.1).kept hq.2
  exact ⟨cell, h1, h2, h3⟩
theorem gg_recvS {g : GT} {s : State} {H : Heap} (hG : GG g s) (hq : Kp g s H) {i : Nat} (hi : i < 4) : ∃ cell : Cell, H[gS g i]? = some cell ∧ cell.vm.isStatics = false ∧ s.vm.findClass "BridgeBells$State" = some cell.cls := by
  obtain ⟨cell, h1, h2, h3, -⟩ := ((hG.st.1 i hi).2.1).kept hq.2
  exact ⟨cell, h1, h2, h3⟩

set_option maxHeartbeats 4000000 in
theorem met_X2_eitherOf (l : Launch) (g : GT) (b : Nat) (x y : Int32) : Met l yX2_eitherOf (ws_ yX2_eitherOf cX2_eitherOf 3 (Option.some Jvm.ClassFile.FieldType.int)) ({ frames := 1, cells := 0, slots := 0, locals := 21 } : Room) (PcG g [.ref b, .int x, .int y] (fun _ => True)) (vp_Si (fun r => r = bEither x y)) 0 0 (fun _ => False) := by
  refine gg_met (cc := cX2_eitherOf) (maxL := 3) (ret := (Option.some Jvm.ClassFile.FieldType.int)) (by decide) (Nat.le_of_ble_eq_true rfl) ?_
  intro p e s m below meth c hx hb hr hlk hin hml hown hts hG hB ls hl
  have hown : s.vm.findClass RX2 = some m.cls := hown
  have hl : lv_has ls 3 [(0, .ref b), (1, .int x), (2, .int y)] := hl
  refine lv_iload_n hx hb dX2_eitherOf_0 rfl (lv_at hl 1 rfl) ?_
  refine lv_iconst (v := (-1)) hx hb dX2_eitherOf_1 (by decide) ?_
  refine lv_icmp_ne (tgt := 9) hx hb dX2_eitherOf_2 (by decide) (fun c_2 => ?_) (fun c_2 => ?_)
  · refine lv_iload_n hx hb dX2_eitherOf_9 rfl (lv_at hl 2 rfl) ?_
    refine lv_iconst (v := (-1)) hx hb dX2_eitherOf_10 (by decide) ?_
    refine lv_icmp_ne (tgt := 18) hx hb dX2_eitherOf_11 (by decide) (fun c_11 => ?_) (fun c_11 => ?_)
    · refine lv_iload_n hx hb dX2_eitherOf_18 rfl (lv_at hl 1 rfl) ?_
      refine lv_iload_n hx hb dX2_eitherOf_19 rfl (lv_at hl 2 rfl) ?_
      refine va_mmin hx hb (by rw [hml]; exact hl.1.symm) hown (hts _ q224) (hts _ q225) (hts _ q31) (hts _ q226) (Nat.le_of_ble_eq_true rfl) (Nat.le_of_ble_eq_true rfl) (Nat.zero_le _) (Nat.zero_le _) dX2_eitherOf_20 ?_
      exact W.iret (v := (if y < x then y else x)) hx hb hr (fun t9 h9 hW9 => ⟨_, rfl, (by simp [bEither, c_2, c_11]), h9⟩) (fun _ h => absurd h List.not_mem_nil) dX2_eitherOf_23
    · refine lv_iload_n hx hb dX2_eitherOf_14 rfl (lv_at hl 1 rfl) ?_
      refine lv_goto (tgt := 23) hx hb dX2_eitherOf_15 (by decide) ?_
      exact W.iret (v := x) hx hb hr (fun t9 h9 hW9 => ⟨_, rfl, (by simp [bEither, c_2, c_11]), h9⟩) (fun _ h => absurd h List.not_mem_nil) dX2_eitherOf_23
  · refine lv_iload_n hx hb dX2_eitherOf_5 rfl (lv_at hl 2 rfl) ?_
    refine lv_goto (tgt := 23) hx hb dX2_eitherOf_6 (by decide) ?_
    exact W.iret (v := y) hx hb hr (fun t9 h9 hW9 => ⟨_, rfl, (by simp [bEither, c_2]), h9⟩) (fun _ h => absurd h List.not_mem_nil) dX2_eitherOf_23

set_option maxHeartbeats 4000000 in
theorem met_X2_kindFirst (l : Launch) (g : GT) (T b : Nat) (S : BS) (x : Int32) : Met l yX2_kindFirst (ws_ yX2_kindFirst cX2_kindFirst 3 (Option.some Jvm.ClassFile.FieldType.int)) ({ frames := 4, cells := 0, slots := 0, locals := 86 } : Room) (PcG g [.ref b, .int x] (fun H => RB g T b S H)) (vp_Si (fun r => r = bKind S x)) 0 0 (fun _ => False) := by
  refine gg_met (cc := cX2_kindFirst) (maxL := 3) (ret := (Option.some Jvm.ClassFile.FieldType.int)) (by decide) (Nat.le_of_ble_eq_true rfl) ?_
  intro p e s m below meth c hx hb hr hlk hin hml hown hts hG hB ls hl
  have hown : s.vm.findClass RX2 = some m.cls := hown
  have hl : lv_has ls 3 [(0, .ref b), (1, .int x)] := hl
  obtain ⟨cd, al, el, cap, mc, arr, ad, h_b, h_cd, h_al, h_el, hT, hcap, hc60, hok⟩ := hB
  have hn40 : sN S ≤ 40 := hok.2.2.2.2.2.2.2.1
  have hB : RB g T b S s.heap := ⟨cd, al, el, cap, mc, arr, ad, h_b, h_cd, h_al, h_el, hT, hcap, hc60, hok⟩
  have hn31 : sN S < 2 ^ 31 := by omega
  refine lv_aload_n hx hb dX2_kindFirst_0 rfl (lv_at hl 0 rfl) ?_
  refine lv_iload_n hx hb dX2_kindFirst_1 rfl (lv_at hl 1 rfl) ?_
  refine vp_callSi (va_Run.run (va_runV (As := [.int x]) (rest := []) ⟨hx, hb, hml, hown, hts⟩ (met_X2_first l g T b S x) (cwV 1 hts (lw_V q234 q215 q216 q15 q217) rfl rfl rfl (by decide +kernel) ⟨Nat.le_of_ble_eq_true rfl, Nat.le_of_ble_eq_true rfl⟩) (gg_preV hG (Kp.rf hG) (gg_recv hG h_b rfl) hB) rfl rfl hl.1 rfl (lv_room (Nat.le_of_ble_eq_true rfl)) dX2_kindFirst_2 ⟨Nat.le_of_ble_eq_true rfl, Nat.le_of_ble_eq_true rfl⟩)) (fun r_1 hr_1 => ?_)
  refine lv_istore_n (lv' := [(2, .int r_1), (0, .ref b), (1, .int x)]) hx hb dX2_kindFirst_5 rfl hl (by decide) rfl (fun ls hl => ?_)
  refine lv_iload_n hx hb dX2_kindFirst_6 rfl (lv_at hl 0 rfl) ?_
  refine lv_iconst (v := (-1)) hx hb dX2_kindFirst_7 (by decide) ?_
  refine lv_icmp_ne (tgt := 27) hx hb dX2_kindFirst_8 (by decide) (fun c_8 => ?_) (fun c_8 => ?_)
  · refine lv_iload_n hx hb dX2_kindFirst_27 rfl (lv_at hl 0 rfl) ?_
    exact W.iret (v := r_1) hx hb hr (fun t9 h9 hW9 => ⟨_, rfl, (by rw [bKind, if_neg (by rw [← hr_1]; exact c_8)]; exact hr_1), h9⟩) (fun _ h => absurd h List.not_mem_nil) dX2_kindFirst_28
  · refine lv_aload_n hx hb dX2_kindFirst_11 rfl (lv_at hl 1 rfl) ?_
    refine lv_iload_n hx hb dX2_kindFirst_12 rfl (lv_at hl 2 rfl) ?_
    refine lv_if_ne (tgt := 20) hx hb dX2_kindFirst_13 (by decide) (fun c_13 => ?_) (fun c_13 => ?_)
    · refine lv_iconst (v := 0) hx hb dX2_kindFirst_20 (by decide) ?_
      refine vp_callSi (va_Run.run (va_runV (As := [.int 0]) (rest := []) ⟨hx, hb, hml, hown, hts⟩ (met_X2_first l g T b S 0) (cwV 1 hts (lw_V q234 q215 q216 q15 q217) rfl rfl rfl (by decide +kernel) ⟨Nat.le_of_ble_eq_true rfl, Nat.le_of_ble_eq_true rfl⟩) (gg_preV hG (Kp.rf hG) (gg_recv hG h_b rfl) hB) rfl rfl hl.1 rfl (lv_room (Nat.le_of_ble_eq_true rfl)) dX2_kindFirst_21 ⟨Nat.le_of_ble_eq_true rfl, Nat.le_of_ble_eq_true rfl⟩)) (fun r_2 hr_2 => ?_)
      refine lv_goto (tgt := 28) hx hb dX2_kindFirst_24 (by decide) ?_
      exact W.iret (v := r_2) hx hb hr (fun t9 h9 hW9 => ⟨_, rfl, (by rw [bKind, if_pos (by rw [← hr_1]; exact c_8), bNot, if_neg c_13]; exact hr_2), h9⟩) (fun _ h => absurd h List.not_mem_nil) dX2_kindFirst_28
    · refine lv_iconst (v := 1) hx hb dX2_kindFirst_16 (by decide) ?_
      refine lv_goto (tgt := 21) hx hb dX2_kindFirst_17 (by decide) ?_
      refine vp_callSi (va_Run.run (va_runV (As := [.int 1]) (rest := []) ⟨hx, hb, hml, hown, hts⟩ (met_X2_first l g T b S 1) (cwV 1 hts (lw_V q234 q215 q216 q15 q217) rfl rfl rfl (by decide +kernel) ⟨Nat.le_of_ble_eq_true rfl, Nat.le_of_ble_eq_true rfl⟩) (gg_preV hG (Kp.rf hG) (gg_recv hG h_b rfl) hB) rfl rfl hl.1 rfl (lv_room (Nat.le_of_ble_eq_true rfl)) dX2_kindFirst_21 ⟨Nat.le_of_ble_eq_true rfl, Nat.le_of_ble_eq_true rfl⟩)) (fun r_2 hr_2 => ?_)
      refine lv_goto (tgt := 28) hx hb dX2_kindFirst_24 (by decide) ?_
      exact W.iret (v := r_2) hx hb hr (fun t9 h9 hW9 => ⟨_, rfl, (by rw [bKind, if_pos (by rw [← hr_1]; exact c_8), bNot, if_pos c_13]; exact hr_2), h9⟩) (fun _ h => absurd h List.not_mem_nil) dX2_kindFirst_28

set_option maxHeartbeats 4000000 in
theorem met_X8_next (l : Launch) (g : GT) (T b : Nat) (S : BS) : un_Met l yX8_next (ws_ yX8_next cX8_next 2 (Option.some Jvm.ClassFile.FieldType.int)) ({ frames := 4, cells := 0, slots := 0, locals := 86 } : Room) (PcG g [.ref (gC g 0), .ref b] (fun H => RB g T b S H)) (vp_Si (fun r => r = bEither (bFirst S 1) (bFirst S 0))) 0 0 (fun _ => False) := by
  refine gg_metU (cc := cX8_next) (maxL := 2) (ret := (Option.some Jvm.ClassFile.FieldType.int)) (by decide) (Nat.le_of_ble_eq_true rfl) ?_
  intro p e s m below meth c hx hb hr hlk hin hml hown hts hG hB ls hl
  have hown : s.vm.findClass RX8 = some m.cls := hown
  have hl : lv_has ls 2 [(0, .ref (gC g 0)), (1, .ref b)] := hl
  obtain ⟨cd, al, el, cap, mc, arr, ad, h_b, h_cd, h_al, h_el, hT, hcap, hc60, hok⟩ := hB
  have hn40 : sN S ≤ 40 := hok.2.2.2.2.2.2.2.1
  have hB : RB g T b S s.heap := ⟨cd, al, el, cap, mc, arr, ad, h_b, h_cd, h_al, h_el, hT, hcap, hc60, hok⟩
  have hn31 : sN S < 2 ^ 31 := by omega
  refine lv_aload_n hx hb dX8_next_0 rfl (lv_at hl 1 rfl) ?_
  refine lv_aload_n hx hb dX8_next_1 rfl (lv_at hl 1 rfl) ?_
  refine lv_iconst (v := 1) hx hb dX8_next_2 (by decide) ?_
  refine vp_callSi (va_Run.run (va_runV (As := [.int 1]) (rest := [.ref b]) ⟨hx, hb, hml, hown, hts⟩ (met_X2_first l g T b S 1) (cwV 1 hts (lw_V q214 q215 q216 q15 q217) rfl rfl rfl (by decide +kernel) ⟨Nat.le_of_ble_eq_true rfl, Nat.le_of_ble_eq_true rfl⟩) (gg_preV hG (Kp.rf hG) (gg_recv hG h_b rfl) hB) rfl rfl hl.1 rfl (lv_room (Nat.le_of_ble_eq_true rfl)) dX8_next_3 ⟨Nat.le_of_ble_eq_true rfl, Nat.le_of_ble_eq_true rfl⟩)) (fun r_1 hr_1 => ?_)
  refine lv_aload_n hx hb dX8_next_6 rfl (lv_at hl 1 rfl) ?_
  refine lv_iconst (v := 0) hx hb dX8_next_7 (by decide) ?_
  refine vp_callSi (va_Run.run (va_runV (As := [.int 0]) (rest := [.int r_1, .ref b]) ⟨hx, hb, hml, hown, hts⟩ (met_X2_first l g T b S 0) (cwV 1 hts (lw_V q214 q215 q216 q15 q217) rfl rfl rfl (by decide +kernel) ⟨Nat.le_of_ble_eq_true rfl, Nat.le_of_ble_eq_true rfl⟩) (gg_preV hG (Kp.rf hG) (gg_recv hG h_b rfl) hB) rfl rfl hl.1 rfl (lv_room (Nat.le_of_ble_eq_true rfl)) dX8_next_8 ⟨Nat.le_of_ble_eq_true rfl, Nat.le_of_ble_eq_true rfl⟩)) (fun r_2 hr_2 => ?_)
  refine vp_callSi (va_Run.run (va_runV (As := [.int r_1, .int r_2]) (rest := []) ⟨hx, hb, hml, hown, hts⟩ (met_X2_eitherOf l g b r_1 r_2) (cwV 2 hts (lw_V q220 q221 q222 q15 q223) rfl rfl rfl (by decide +kernel) ⟨Nat.le_of_ble_eq_true rfl, Nat.le_of_ble_eq_true rfl⟩) (gg_preV hG (Kp.rf hG) (gg_recv hG h_b rfl) trivial) rfl rfl hl.1 rfl (lv_room (Nat.le_of_ble_eq_true rfl)) dX8_next_11 ⟨Nat.le_of_ble_eq_true rfl, Nat.le_of_ble_eq_true rfl⟩)) (fun r_3 hr_3 => ?_)
  exact W.iret (v := r_3) hx hb hr (fun t9 h9 hW9 => ⟨_, rfl, (by rw [hr_3, hr_1, hr_2]), h9⟩) (fun _ h => absurd h List.not_mem_nil) dX8_next_14

set_option maxHeartbeats 4000000 in
theorem met_X9_next (l : Launch) (g : GT) (T b : Nat) (S : BS) : un_Met l yX9_next (ws_ yX9_next cX9_next 2 (Option.some Jvm.ClassFile.FieldType.int)) ({ frames := 5, cells := 0, slots := 0, locals := 108 } : Room) (PcG g [.ref (gC g 1), .ref b] (fun H => RB g T b S H)) (vp_Si (fun r => r = bKind S 1)) 0 0 (fun _ => False) := by
  refine gg_metU (cc := cX9_next) (maxL := 2) (ret := (Option.some Jvm.ClassFile.FieldType.int)) (by decide) (Nat.le_of_ble_eq_true rfl) ?_
  intro p e s m below meth c hx hb hr hlk hin hml hown hts hG hB ls hl
  have hown : s.vm.findClass RX9 = some m.cls := hown
  have hl : lv_has ls 2 [(0, .ref (gC g 1)), (1, .ref b)] := hl
  obtain ⟨cd, al, el, cap, mc, arr, ad, h_b, h_cd, h_al, h_el, hT, hcap, hc60, hok⟩ := hB
  have hn40 : sN S ≤ 40 := hok.2.2.2.2.2.2.2.1
  have hB : RB g T b S s.heap := ⟨cd, al, el, cap, mc, arr, ad, h_b, h_cd, h_al, h_el, hT, hcap, hc60, hok⟩
  have hn31 : sN S < 2 ^ 31 := by omega
  refine lv_aload_n hx hb dX9_next_0 rfl (lv_at hl 1 rfl) ?_
  refine lv_iconst (v := 1) hx hb dX9_next_1 (by decide) ?_
  refine vp_callSi (va_Run.run (va_runV (As := [.int 1]) (rest := []) ⟨hx, hb, hml, hown, hts⟩ (met_X2_kindFirst l g T b S 1) (cwV 1 hts (lw_V q230 q231 q232 q15 q233) rfl rfl rfl (by decide +kernel) ⟨Nat.le_of_ble_eq_true rfl, Nat.le_of_ble_eq_true rfl⟩) (gg_preV hG (Kp.rf hG) (gg_recv hG h_b rfl) hB) rfl rfl hl.1 rfl (lv_room (Nat.le_of_ble_eq_true rfl)) dX9_next_2 ⟨Nat.le_of_ble_eq_true rfl, Nat.le_of_ble_eq_true rfl⟩)) (fun r_1 hr_1 => ?_)
  exact W.iret (v := r_1) hx hb hr (fun t9 h9 hW9 => ⟨_, rfl, hr_1, h9⟩) (fun _ h => absurd h List.not_mem_nil) dX9_next_5

set_option maxHeartbeats 4000000 in
theorem met_X10_next (l : Launch) (g : GT) (T b : Nat) (S : BS) : un_Met l yX10_next (ws_ yX10_next cX10_next 2 (Option.some Jvm.ClassFile.FieldType.int)) ({ frames := 5, cells := 0, slots := 0, locals := 108 } : Room) (PcG g [.ref (gC g 2), .ref b] (fun H => RB g T b S H)) (vp_Si (fun r => r = bKind S 0)) 0 0 (fun _ => False) := by
  refine gg_metU (cc := cX10_next) (maxL := 2) (ret := (Option.some Jvm.ClassFile.FieldType.int)) (by decide) (Nat.le_of_ble_eq_true rfl) ?_
  intro p e s m below meth c hx hb hr hlk hin hml hown hts hG hB ls hl
  have hown : s.vm.findClass RX10 = some m.cls := hown
  have hl : lv_has ls 2 [(0, .ref (gC g 2)), (1, .ref b)] := hl
  obtain ⟨cd, al, el, cap, mc, arr, ad, h_b, h_cd, h_al, h_el, hT, hcap, hc60, hok⟩ := hB
  have hn40 : sN S ≤ 40 := hok.2.2.2.2.2.2.2.1
  have hB : RB g T b S s.heap := ⟨cd, al, el, cap, mc, arr, ad, h_b, h_cd, h_al, h_el, hT, hcap, hc60, hok⟩
  have hn31 : sN S < 2 ^ 31 := by omega
  refine lv_aload_n hx hb dX10_next_0 rfl (lv_at hl 1 rfl) ?_
  refine lv_iconst (v := 0) hx hb dX10_next_1 (by decide) ?_
  refine vp_callSi (va_Run.run (va_runV (As := [.int 0]) (rest := []) ⟨hx, hb, hml, hown, hts⟩ (met_X2_kindFirst l g T b S 0) (cwV 1 hts (lw_V q238 q231 q232 q15 q233) rfl rfl rfl (by decide +kernel) ⟨Nat.le_of_ble_eq_true rfl, Nat.le_of_ble_eq_true rfl⟩) (gg_preV hG (Kp.rf hG) (gg_recv hG h_b rfl) hB) rfl rfl hl.1 rfl (lv_room (Nat.le_of_ble_eq_true rfl)) dX10_next_2 ⟨Nat.le_of_ble_eq_true rfl, Nat.le_of_ble_eq_true rfl⟩)) (fun r_1 hr_1 => ?_)
  exact W.iret (v := r_1) hx hb hr (fun t9 h9 hW9 => ⟨_, rfl, hr_1, h9⟩) (fun _ h => absurd h List.not_mem_nil) dX10_next_5

set_option maxHeartbeats 4000000 in
theorem met_X7_next (l : Launch) (g : GT) (T b : Nat) (S : BS) : un_Met l yX7_next (ws_ yX7_next cX7_next 2 (Option.some Jvm.ClassFile.FieldType.int)) ({ frames := 5, cells := 0, slots := 0, locals := 108 } : Room) (PcG g [.ref (gC g 3), .ref b] (fun H => RB g T b S H)) (vp_Si (fun r => r = bKind S (bNot (sLa S)))) 0 0 (fun _ => False) := by
  refine gg_metU (cc := cX7_next) (maxL := 2) (ret := (Option.some Jvm.ClassFile.FieldType.int)) (by decide) (Nat.le_of_ble_eq_true rfl) ?_
  intro p e s m below meth c hx hb hr hlk hin hml hown hts hG hB ls hl
  have hown : s.vm.findClass RX7 = some m.cls := hown
  have hl : lv_has ls 2 [(0, .ref (gC g 3)), (1, .ref b)] := hl
  obtain ⟨cd, al, el, cap, mc, arr, ad, h_b, h_cd, h_al, h_el, hT, hcap, hc60, hok⟩ := hB
  have hn40 : sN S ≤ 40 := hok.2.2.2.2.2.2.2.1
  have hB : RB g T b S s.heap := ⟨cd, al, el, cap, mc, arr, ad, h_b, h_cd, h_al, h_el, hT, hcap, hc60, hok⟩
  have hn31 : sN S < 2 ^ 31 := by omega
  refine lv_aload_n hx hb dX7_next_0 rfl (lv_at hl 1 rfl) ?_
  refine lv_aload_n hx hb dX7_next_1 rfl (lv_at hl 1 rfl) ?_
  refine gg_getN (ci := 1) (C := RX2) (T := TX2) (N := 8) (v := .int (sLa S)) hx hb hts in_X2 hown hG h_b rfl 5 (by decide) q92 rfl rfl dX7_next_2 ?_
  refine lv_if_ne (tgt := 12) hx hb dX7_next_5 (by decide) (fun c_5 => ?_) (fun c_5 => ?_)
  · refine lv_iconst (v := 0) hx hb dX7_next_12 (by decide) ?_
    refine vp_callSi (va_Run.run (va_runV (As := [.int 0]) (rest := []) ⟨hx, hb, hml, hown, hts⟩ (met_X2_kindFirst l g T b S 0) (cwV 1 hts (lw_V q242 q231 q232 q15 q233) rfl rfl rfl (by decide +kernel) ⟨Nat.le_of_ble_eq_true rfl, Nat.le_of_ble_eq_true rfl⟩) (gg_preV hG (Kp.rf hG) (gg_recv hG h_b rfl) hB) rfl rfl hl.1 rfl (lv_room (Nat.le_of_ble_eq_true rfl)) dX7_next_13 ⟨Nat.le_of_ble_eq_true rfl, Nat.le_of_ble_eq_true rfl⟩)) (fun r_1 hr_1 => ?_)
    exact W.iret (v := r_1) hx hb hr (fun t9 h9 hW9 => ⟨_, rfl, (by rw [bNot, if_neg c_5]; exact hr_1), h9⟩) (fun _ h => absurd h List.not_mem_nil) dX7_next_16
  · refine lv_iconst (v := 1) hx hb dX7_next_8 (by decide) ?_
    refine lv_goto (tgt := 13) hx hb dX7_next_9 (by decide) ?_
    refine vp_callSi (va_Run.run (va_runV (As := [.int 1]) (rest := []) ⟨hx, hb, hml, hown, hts⟩ (met_X2_kindFirst l g T b S 1) (cwV 1 hts (lw_V q242 q231 q232 q15 q233) rfl rfl rfl (by decide +kernel) ⟨Nat.le_of_ble_eq_true rfl, Nat.le_of_ble_eq_true rfl⟩) (gg_preV hG (Kp.rf hG) (gg_recv hG h_b rfl) hB) rfl rfl hl.1 rfl (lv_room (Nat.le_of_ble_eq_true rfl)) dX7_next_13 ⟨Nat.le_of_ble_eq_true rfl, Nat.le_of_ble_eq_true rfl⟩)) (fun r_1 hr_1 => ?_)
    exact W.iret (v := r_1) hx hb hr (fun t9 h9 hW9 => ⟨_, rfl, (by rw [bNot, if_pos c_5]; exact hr_1), h9⟩) (fun _ h => absurd h List.not_mem_nil) dX7_next_16

set_option maxHeartbeats 4000000 in
theorem met_X11_next (l : Launch) (g : GT) (T b : Nat) (S : BS) : un_Met l yX11_next (ws_ yX11_next cX11_next 2 (Option.some Jvm.ClassFile.FieldType.int)) ({ frames := 0, cells := 0, slots := 0, locals := 0 } : Room) (PcG g [.ref (gC g 4), .ref b] (fun H => RB g T b S H)) (vp_Si (fun r => r = -1)) 0 0 (fun _ => False) := by
  refine gg_metU (cc := cX11_next) (maxL := 2) (ret := (Option.some Jvm.ClassFile.FieldType.int)) (by decide) (Nat.le_of_ble_eq_true rfl) ?_
  intro p e s m below meth c hx hb hr hlk hin hml hown hts hG hB ls hl
  have hown : s.vm.findClass RX11 = some m.cls := hown
  have hl : lv_has ls 2 [(0, .ref (gC g 4)), (1, .ref b)] := hl
  obtain ⟨cd, al, el, cap, mc, arr, ad, h_b, h_cd, h_al, h_el, hT, hcap, hc60, hok⟩ := hB
  have hn40 : sN S ≤ 40 := hok.2.2.2.2.2.2.2.1
  have hB : RB g T b S s.heap := ⟨cd, al, el, cap, mc, arr, ad, h_b, h_cd, h_al, h_el, hT, hcap, hc60, hok⟩
  have hn31 : sN S < 2 ^ 31 := by omega
  refine lv_iconst (v := (-1)) hx hb dX11_next_0 (by decide) ?_
  exact W.iret (v := (-1)) hx hb hr (fun t9 h9 hW9 => ⟨_, rfl, rfl, h9⟩) (fun _ h => absurd h List.not_mem_nil) dX11_next_1

set_option maxHeartbeats 4000000 in
theorem met_X2_next (l : Launch) (g : GT) (T b : Nat) (S : BS) : Met l yX2_next (ws_ yX2_next cX2_next 1 (Option.some Jvm.ClassFile.FieldType.int)) ({ frames := 6, cells := 0, slots := 0, locals := 129 } : Room) (PcG g [.ref b] (fun H => RB g T b S H)) (vp_Si (fun r => r = bNext S)) 0 0 (fun _ => False) := by
  refine gg_met (cc := cX2_next) (maxL := 1) (ret := (Option.some Jvm.ClassFile.FieldType.int)) (by decide) (Nat.le_of_ble_eq_true rfl) ?_
  intro p e s m below meth c hx hb hr hlk hin hml hown hts hG hB ls hl
  have hown : s.vm.findClass RX2 = some m.cls := hown
  have hl : lv_has ls 1 [(0, .ref b)] := hl
  obtain ⟨cd, al, el, cap, mc, arr, ad, h_b, h_cd, h_al, h_el, hT, hcap, hc60, hok⟩ := hB
  have hn40 : sN S ≤ 40 := hok.2.2.2.2.2.2.2.1
  have hB : RB g T b S s.heap := ⟨cd, al, el, cap, mc, arr, ad, h_b, h_cd, h_al, h_el, hT, hcap, hc60, hok⟩
  have hn31 : sN S < 2 ^ 31 := by omega
  refine lv_aload_n hx hb dX2_next_0 rfl (lv_at hl 0 rfl) ?_
  refine vp_callSi (va_Run.run (va_runV (As := []) (rest := []) ⟨hx, hb, hml, hown, hts⟩ (met_X2_passing l g T b S) (cwV 0 hts (lw_V q207 q198 q199 q15 q200) rfl rfl rfl (by decide +kernel) ⟨Nat.le_of_ble_eq_true rfl, Nat.le_of_ble_eq_true rfl⟩) (gg_preV hG (Kp.rf hG) (gg_recv hG h_b rfl) hB) rfl rfl hl.1 rfl (lv_room (Nat.le_of_ble_eq_true rfl)) dX2_next_1 ⟨Nat.le_of_ble_eq_true rfl, Nat.le_of_ble_eq_true rfl⟩)) (fun r_1 hr_1 => ?_)
  refine lv_iconst (v := (-1)) hx hb dX2_next_4 (by decide) ?_
  refine lv_icmp_ne (tgt := 19) hx hb dX2_next_5 (by decide) (fun c_5 => ?_) (fun c_5 => ?_)
  · refine lv_iconst (v := (-1)) hx hb dX2_next_19 (by decide) ?_
    exact W.iret (v := (-1)) hx hb hr (fun t9 h9 hW9 => ⟨_, rfl, (by rw [bNext, if_neg (by rw [← hr_1]; exact c_5)]), h9⟩) (fun _ h => absurd h List.not_mem_nil) dX2_next_20
  · refine lv_aload_n hx hb dX2_next_8 rfl (lv_at hl 0 rfl) ?_
    refine gg_get (ci := 1) (C := RX2) (T := TX2) (N := 8) (v := .ref (gC g (sCo S))) hx hb hts in_X2 hown hG h_b rfl 4 (by decide) q90 rfl rfl dX2_next_9 ?_
    refine lv_aload_n hx hb dX2_next_12 rfl (lv_at hl 0 rfl) ?_
    have hc5 : sCo S < 5 := hok.2.2.2.2.1
    rcases (show sCo S = 0 ∨ sCo S = 1 ∨ sCo S = 2 ∨ sCo S = 3 ∨ sCo S = 4 by omega) with hco | hco | hco | hco | hco
    · rw [hco]
      refine vp_callSi (va_Run.run (un_runU (n := 1) (As := [.ref b]) (rest := []) ⟨hx, hb, hml, hown, hts⟩ (met_X8_next l g T b S) (lw_meth q213) rfl rfl rfl q208 q210 q211 q212 (hG.nw q209 rfl) (by decide +kernel) ⟨Nat.le_of_ble_eq_true rfl, Nat.le_of_ble_eq_true rfl⟩ (gg_preV hG (Kp.rf hG) (gg_recvC hG (Kp.rf hG) (by decide : 0 < 5)) hB) rfl rfl hl.1 rfl (lv_room (Nat.le_of_ble_eq_true rfl)) dX2_next_13 ⟨Nat.le_of_ble_eq_true rfl, Nat.le_of_ble_eq_true rfl⟩)) (fun r_2 hr_2 => ?_)
      refine lv_goto (tgt := 20) hx hb dX2_next_16 (by decide) ?_
      exact W.iret (v := r_2) hx hb hr (fun t9 h9 hW9 => ⟨_, rfl, (by rw [bNext, if_pos (by rw [← hr_1]; exact c_5), hr_2]; simp [bCode, hco]), h9⟩) (fun _ h => absurd h List.not_mem_nil) dX2_next_20
    · rw [hco]
      refine vp_callSi (va_Run.run (un_runU (n := 1) (As := [.ref b]) (rest := []) ⟨hx, hb, hml, hown, hts⟩ (met_X9_next l g T b S) (lw_meth q229) rfl rfl rfl q208 q210 q227 q228 (hG.nw q209 rfl) (by decide +kernel) ⟨Nat.le_of_ble_eq_true rfl, Nat.le_of_ble_eq_true rfl⟩ (gg_preV hG (Kp.rf hG) (gg_recvC hG (Kp.rf hG) (by decide : 1 < 5)) hB) rfl rfl hl.1 rfl (lv_room (Nat.le_of_ble_eq_true rfl)) dX2_next_13 ⟨Nat.le_of_ble_eq_true rfl, Nat.le_of_ble_eq_true rfl⟩)) (fun r_2 hr_2 => ?_)
      refine lv_goto (tgt := 20) hx hb dX2_next_16 (by decide) ?_
      exact W.iret (v := r_2) hx hb hr (fun t9 h9 hW9 => ⟨_, rfl, (by rw [bNext, if_pos (by rw [← hr_1]; exact c_5), hr_2]; simp [bCode, hco]), h9⟩) (fun _ h => absurd h List.not_mem_nil) dX2_next_20
    · rw [hco]
      refine vp_callSi (va_Run.run (un_runU (n := 1) (As := [.ref b]) (rest := []) ⟨hx, hb, hml, hown, hts⟩ (met_X10_next l g T b S) (lw_meth q237) rfl rfl rfl q208 q210 q235 q236 (hG.nw q209 rfl) (by decide +kernel) ⟨Nat.le_of_ble_eq_true rfl, Nat.le_of_ble_eq_true rfl⟩ (gg_preV hG (Kp.rf hG) (gg_recvC hG (Kp.rf hG) (by decide : 2 < 5)) hB) rfl rfl hl.1 rfl (lv_room (Nat.le_of_ble_eq_true rfl)) dX2_next_13 ⟨Nat.le_of_ble_eq_true rfl, Nat.le_of_ble_eq_true rfl⟩)) (fun r_2 hr_2 => ?_)
      refine lv_goto (tgt := 20) hx hb dX2_next_16 (by decide) ?_
      exact W.iret (v := r_2) hx hb hr (fun t9 h9 hW9 => ⟨_, rfl, (by rw [bNext, if_pos (by rw [← hr_1]; exact c_5), hr_2]; simp [bCode, hco]), h9⟩) (fun _ h => absurd h List.not_mem_nil) dX2_next_20
    · rw [hco]
      refine vp_callSi (va_Run.run (un_runU (n := 1) (As := [.ref b]) (rest := []) ⟨hx, hb, hml, hown, hts⟩ (met_X7_next l g T b S) (lw_meth q241) rfl rfl rfl q208 q210 q239 q240 (hG.nw q209 rfl) (by decide +kernel) ⟨Nat.le_of_ble_eq_true rfl, Nat.le_of_ble_eq_true rfl⟩ (gg_preV hG (Kp.rf hG) (gg_recvC hG (Kp.rf hG) (by decide : 3 < 5)) hB) rfl rfl hl.1 rfl (lv_room (Nat.le_of_ble_eq_true rfl)) dX2_next_13 ⟨Nat.le_of_ble_eq_true rfl, Nat.le_of_ble_eq_true rfl⟩)) (fun r_2 hr_2 => ?_)
      refine lv_goto (tgt := 20) hx hb dX2_next_16 (by decide) ?_
      exact W.iret (v := r_2) hx hb hr (fun t9 h9 hW9 => ⟨_, rfl, (by rw [bNext, if_pos (by rw [← hr_1]; exact c_5), hr_2]; simp [bCode, hco]), h9⟩) (fun _ h => absurd h List.not_mem_nil) dX2_next_20
    · rw [hco]
      refine vp_callSi (va_Run.run (un_runU (n := 1) (As := [.ref b]) (rest := []) ⟨hx, hb, hml, hown, hts⟩ (met_X11_next l g T b S) (lw_meth q245) rfl rfl rfl q208 q210 q243 q244 (hG.nw q209 rfl) (by decide +kernel) ⟨Nat.le_of_ble_eq_true rfl, Nat.le_of_ble_eq_true rfl⟩ (gg_preV hG (Kp.rf hG) (gg_recvC hG (Kp.rf hG) (by decide : 4 < 5)) hB) rfl rfl hl.1 rfl (lv_room (Nat.le_of_ble_eq_true rfl)) dX2_next_13 ⟨Nat.le_of_ble_eq_true rfl, Nat.le_of_ble_eq_true rfl⟩)) (fun r_2 hr_2 => ?_)
      refine lv_goto (tgt := 20) hx hb dX2_next_16 (by decide) ?_
      exact W.iret (v := r_2) hx hb hr (fun t9 h9 hW9 => ⟨_, rfl, (by rw [bNext, if_pos (by rw [← hr_1]; exact c_5), hr_2]; simp [bCode, hco]), h9⟩) (fun _ h => absurd h List.not_mem_nil) dX2_next_20

set_option maxHeartbeats 4000000 in
theorem met_X2_speed (l : Launch) (g : GT) (T b : Nat) (S : BS) (x : Int32) : Met l yX2_speed (ws_ yX2_speed cX2_speed 3 (Option.some Jvm.ClassFile.FieldType.int)) ({ frames := 1, cells := 0, slots := 0, locals := 21 } : Room) (PcG g [.ref b, .int x] (fun H => RB g T b S H)) (vp_Si (fun r => r = bSpeed S x)) 0 0 (fun _ => False) := by
  refine gg_met (cc := cX2_speed) (maxL := 3) (ret := (Option.some Jvm.ClassFile.FieldType.int)) (by decide) (Nat.le_of_ble_eq_true rfl) ?_
  intro p e s m below meth c hx hb hr hlk hin hml hown hts hG hB ls hl
  have hown : s.vm.findClass RX2 = some m.cls := hown
  have hl : lv_has ls 3 [(0, .ref b), (1, .int x)] := hl
  obtain ⟨cd, al, el, cap, mc, arr, ad, h_b, h_cd, h_al, h_el, hT, hcap, hc60, hok⟩ := hB
  have hn40 : sN S ≤ 40 := hok.2.2.2.2.2.2.2.1
  have hB : RB g T b S s.heap := ⟨cd, al, el, cap, mc, arr, ad, h_b, h_cd, h_al, h_el, hT, hcap, hc60, hok⟩
  have hn31 : sN S < 2 ^ 31 := by omega
  refine lv_iload_n hx hb dX2_speed_0 rfl (lv_at hl 1 rfl) ?_
  refine lv_if_eq (tgt := 16) hx hb dX2_speed_1 (by decide) (fun c_1 => ?_) (fun c_1 => ?_)
  · refine lv_bipush (v := 6) hx hb dX2_speed_16 (by decide) ?_
    refine lv_aload_n hx hb dX2_speed_18 rfl (lv_at hl 0 rfl) ?_
    refine gg_get (ci := 1) (C := RX2) (T := TX2) (N := 8) (v := .int (sPo S)) hx hb hts in_X2 hown hG h_b rfl 2 (by decide) q86 rfl rfl dX2_speed_19 ?_
    refine lv_bipush (v := 6) hx hb dX2_speed_22 (by decide) ?_
    refine lv_idiv hx hb dX2_speed_24 (by decide) ?_
    refine lv_isub hx hb dX2_speed_25 ?_
    refine lv_istore_n (lv' := [(2, .int (6 - (sPo S / 6))), (0, .ref b), (1, .int x)]) hx hb dX2_speed_26 rfl hl (by decide) rfl (fun ls hl => ?_)
    refine lv_aload_n hx hb dX2_speed_27 rfl (lv_at hl 1 rfl) ?_
    refine gg_get (ci := 1) (C := RX2) (T := TX2) (N := 8) (v := .int (sIc S)) hx hb hts in_X2 hown hG h_b rfl 3 (by decide) q88 rfl rfl dX2_speed_28 ?_
    refine lv_iconst (v := 5) hx hb dX2_speed_31 (by decide) ?_
    refine lv_icmp_lt (tgt := 45) hx hb dX2_speed_32 (by decide) (fun c_32 => ?_) (fun c_32 => ?_)
    · refine lv_iload_n hx hb dX2_speed_45 rfl (lv_at hl 0 rfl) ?_
      exact W.iret (v := (6 - (sPo S / 6))) hx hb hr (fun t9 h9 hW9 => ⟨_, rfl, (by simp only [bSpeed, bSp0, c_1, c_32, if_true, if_false]), h9⟩) (fun _ h => absurd h List.not_mem_nil) dX2_speed_46
    · refine lv_iconst (v := 1) hx hb dX2_speed_35 (by decide) ?_
      refine lv_iload_n hx hb dX2_speed_36 rfl (lv_at hl 0 rfl) ?_
      refine lv_iconst (v := 2) hx hb dX2_speed_37 (by decide) ?_
      refine lv_idiv hx hb dX2_speed_38 (by decide) ?_
      refine va_mmax hx hb (by rw [hml]; exact hl.1.symm) hown (hts _ q134) (hts _ q124) (hts _ q31) (hts _ q125) (Nat.le_of_ble_eq_true rfl) (Nat.le_of_ble_eq_true rfl) (Nat.zero_le _) (Nat.zero_le _) dX2_speed_39 ?_
      refine lv_goto (tgt := 46) hx hb dX2_speed_42 (by decide) ?_
      exact W.iret (v := (if 1 < ((6 - (sPo S / 6)) / 2) then ((6 - (sPo S / 6)) / 2) else 1)) hx hb hr (fun t9 h9 hW9 => ⟨_, rfl, (by simp only [bSpeed, bSp0, c_1, c_32, if_true, if_false]), h9⟩) (fun _ h => absurd h List.not_mem_nil) dX2_speed_46
  · refine lv_iconst (v := 1) hx hb dX2_speed_4 (by decide) ?_
    refine lv_aload_n hx hb dX2_speed_5 rfl (lv_at hl 0 rfl) ?_
    refine gg_get (ci := 1) (C := RX2) (T := TX2) (N := 8) (v := .int (sPo S)) hx hb hts in_X2 hown hG h_b rfl 2 (by decide) q86 rfl rfl dX2_speed_6 ?_
    refine lv_bipush (v := 6) hx hb dX2_speed_9 (by decide) ?_
    refine lv_idiv hx hb dX2_speed_11 (by decide) ?_
    refine lv_iadd hx hb dX2_speed_12 ?_
    refine lv_goto (tgt := 26) hx hb dX2_speed_13 (by decide) ?_
    refine lv_istore_n (lv' := [(2, .int (1 + (sPo S / 6))), (0, .ref b), (1, .int x)]) hx hb dX2_speed_26 rfl hl (by decide) rfl (fun ls hl => ?_)
    refine lv_aload_n hx hb dX2_speed_27 rfl (lv_at hl 1 rfl) ?_
    refine gg_get (ci := 1) (C := RX2) (T := TX2) (N := 8) (v := .int (sIc S)) hx hb hts in_X2 hown hG h_b rfl 3 (by decide) q88 rfl rfl dX2_speed_28 ?_
    refine lv_iconst (v := 5) hx hb dX2_speed_31 (by decide) ?_
    refine lv_icmp_lt (tgt := 45) hx hb dX2_speed_32 (by decide) (fun c_32 => ?_) (fun c_32 => ?_)
    · refine lv_iload_n hx hb dX2_speed_45 rfl (lv_at hl 0 rfl) ?_
      exact W.iret (v := (1 + (sPo S / 6))) hx hb hr (fun t9 h9 hW9 => ⟨_, rfl, (by simp only [bSpeed, bSp0, c_1, c_32, if_true, if_false]), h9⟩) (fun _ h => absurd h List.not_mem_nil) dX2_speed_46
    · refine lv_iconst (v := 1) hx hb dX2_speed_35 (by decide) ?_
      refine lv_iload_n hx hb dX2_speed_36 rfl (lv_at hl 0 rfl) ?_
      refine lv_iconst (v := 2) hx hb dX2_speed_37 (by decide) ?_
      refine lv_idiv hx hb dX2_speed_38 (by decide) ?_
      refine va_mmax hx hb (by rw [hml]; exact hl.1.symm) hown (hts _ q134) (hts _ q124) (hts _ q31) (hts _ q125) (Nat.le_of_ble_eq_true rfl) (Nat.le_of_ble_eq_true rfl) (Nat.zero_le _) (Nat.zero_le _) dX2_speed_39 ?_
      refine lv_goto (tgt := 46) hx hb dX2_speed_42 (by decide) ?_
      exact W.iret (v := (if 1 < ((1 + (sPo S / 6)) / 2) then ((1 + (sPo S / 6)) / 2) else 1)) hx hb hr (fun t9 h9 hW9 => ⟨_, rfl, (by simp only [bSpeed, bSp0, c_1, c_32, if_true, if_false]), h9⟩) (fun _ h => absurd h List.not_mem_nil) dX2_speed_46
