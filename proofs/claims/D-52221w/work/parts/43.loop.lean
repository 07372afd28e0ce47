/-! THE LAW'S LOOP, the calls that refuse nothing; the loop. -/
set_option maxRecDepth 100000
section LX
variable {p : Program} {e : Env} {s : State} {m : MethodId} {below : List Frame} {meth : Method} {c : Code}

set_option maxHeartbeats 4000000 in
theorem law_crack (l : Launch) (hl0 : l.stackTraces = false) (g : GT) {b L x o : Nat} {xs : Nat → Int32} {M B C : Nat → Nat} (hx : p.tables.exec = Jvm.exec) (hb : c.code = code) (hml : c.maxLocals = 9) (hown : s.vm.findClass "BridgeBellsLaw" = some m.cls) (hts : ∀ w ∈ lw_all, w.before #[Value.ref b] s = true) (hG : GG g s) (hXs : va_X b L xs s s.heap) (hbl : b < s.heap.size) (hbA : ¬ gA g b) (hL : L ≤ 192) (hD : MD g M B C) (hNo : gA g o) (j : Nat) (hj : 3 * j + 3 ≤ L) (ih : LWh p l e s m below meth c g b x o M B C (j + 1)) {F : Nat → Prop} {b0 : Nat} {th : Int32} {S : BS} {f : Nat → Int64} {H : Heap} {locs : List Loc} {cl9 sl9 : Nat} {ls : Array Slot} (hLI : LI g x o M B C F b0 th S S f H) (hok : OKS (240 * j) S) (hcl9 : cl9 ≤ 9000 * j + 20) (hsl9 : sl9 ≤ 110000 * j + 600) (hS : va_S (gA g) s.heap H locs) (hl : lv_has ls 9 [(4, .int (nI (3 * j))), (3, .ref o), (2, .ref (M 0)), (1, .ref x), (0, .ref b)]) : W p l e room_1 s m #[Value.ref b] below meth c H locs cl9 sl9 (lw_Z below #[Value.ref b] s) (F0 m 436 ls []) := by
  refine lv_aload_n hx hb dL_law_436 rfl (lv_at hl 3 rfl) ?_
  refine va_calli (va_runV (As := []) (rest := []) ⟨hx, hb, hml, hown, hts⟩ (met_X1_crack l g (240 * j) x b0 S F hok) (cwV 0 hts (lw_V q119 q120 q121 q14 q122) rfl rfl rfl (by decide +kernel) ⟨Nat.le_of_ble_eq_true rfl, Nat.le_of_ble_eq_true rfl⟩) (gg_preV hG (hS.kp hG (fun _ h => h)) (gg_recv hG hLI.1.1 rfl) hLI.1) rfl rfl hl.1 rfl (lv_room (Nat.le_of_ble_eq_true rfl)) dL_law_437 ⟨by show cl9 + 0 ≤ 600576; omega, by show sl9 + 0 ≤ 7279018; omega⟩) hS (fun q _ e => hLI.fg q e) (fun q e => hLI.fg q e) (fun r9 u t9 H1 locs ht hvm hr9 hQ hz9 hk9 hS => ?_)
  rw [ht] at hQ
  have hLJ := hLI.comp0 hz9 hQ hk9
  subst hr9
  clear hQ hk9 hLI ht hz9
  generalize H1 = H at hLJ hS ⊢
  refine lv_aload_n hx hb dL_law_440 rfl (lv_at hl 2 rfl) ?_
  refine va_calli (va_runV (As := []) (rest := [.int ((aCrack S).2.1)]) ⟨hx, hb, hml, hown, hts⟩ (met_X4_crack l g (240 * j) M B C th S hok hD) (cwV 0 hts (lw_V q780 q781 q782 q21 q783) rfl rfl rfl (by decide +kernel) ⟨Nat.le_of_ble_eq_true rfl, Nat.le_of_ble_eq_true rfl⟩) (gg_preV hG (hS.kp hG (fun _ h => h)) (gg_recv hG hLJ.2.1.1.m0 rfl) hLJ.2.1) rfl rfl hl.1 rfl (lv_room (Nat.le_of_ble_eq_true rfl)) dL_law_441 ⟨by show cl9 + 0 + 0 ≤ 600576; omega, by show sl9 + 0 + 0 ≤ 7279018; omega⟩) hS (fun q _ e => hD.an q e) (fun q  e => hD.an q e) (fun r8 u t9 H1 locs ht hvm hr8 hQ hz9 hk9 hS => ?_)
  rw [ht] at hQ
  have hLK := hLJ.model hz9 hQ (fun q h8 h9 => hk9 q h8 (fun e => h9 (Or.inl e)))
  subst hr8
  clear hQ hk9 hLJ ht hz9
  generalize H1 = H at hLK hS ⊢
  refine lv_icmp_eq (tgt := 961) hx hb dL_law_444 (by decide) (fun c_444 => ?_) (fun c_444 => absurd rfl c_444)
  refine lv_iinc (v := nI (3 * (j + 1))) (lv' := [(4, .int (nI (3 * (j + 1)))), (3, .ref o), (2, .ref (M 0)), (1, .ref x), (0, .ref b)]) hx hb dL_law_961 hl (k := 0) rfl (nI_add _ 3) (by decide) rfl (fun ls hl => ?_)
  refine lv_goto (tgt := 23) hx hb dL_law_964 (by decide) ?_
  exact ih _ _ _ _ _ _ _ _ _ _ hLK (by rw [Nat.mul_succ]; exact (ok_crack hok)) (by omega) (by omega) hS (lv_sub hl [0, 1, 2, 3, 4] rfl)

set_option maxHeartbeats 4000000 in
theorem law_speed (l : Launch) (hl0 : l.stackTraces = false) (g : GT) {b L x o : Nat} {xs : Nat → Int32} {M B C : Nat → Nat} (hx : p.tables.exec = Jvm.exec) (hb : c.code = code) (hml : c.maxLocals = 9) (hown : s.vm.findClass "BridgeBellsLaw" = some m.cls) (hts : ∀ w ∈ lw_all, w.before #[Value.ref b] s = true) (hG : GG g s) (hXs : va_X b L xs s s.heap) (hbl : b < s.heap.size) (hbA : ¬ gA g b) (hL : L ≤ 192) (hD : MD g M B C) (hNo : gA g o) (j : Nat) (hj : 3 * j + 3 ≤ L) (ih : LWh p l e s m below meth c g b x o M B C (j + 1)) {F : Nat → Prop} {b0 : Nat} {th : Int32} {S : BS} {f : Nat → Int64} {H : Heap} {locs : List Loc} {cl9 sl9 : Nat} {ls : Array Slot} (hLI : LI g x o M B C F b0 th S S f H) (hok : OKS (240 * j) S) (hcl9 : cl9 ≤ 9000 * j + 20) (hsl9 : sl9 ≤ 110000 * j + 600) (hS : va_S (gA g) s.heap H locs) (hl : lv_has ls 9 [(4, .int (nI (3 * j))), (3, .ref o), (2, .ref (M 0)), (1, .ref x), (0, .ref b)]) : W p l e room_1 s m #[Value.ref b] below meth c H locs cl9 sl9 (lw_Z below #[Value.ref b] s) (F0 m 573 ls []) := by
  refine lv_aload_n hx hb dL_law_573 rfl (lv_at hl 3 rfl) ?_
  refine lv_aload_n hx hb dL_law_574 rfl (lv_at hl 4 rfl) ?_
  refine lv_iload hx hb dL_law_575 (lv_at hl 0 rfl) ?_
  refine lv_iconst (v := 1) hx hb dL_law_577 (by decide) ?_
  refine lv_iadd hx hb dL_law_578 ?_
  refine gg_sld hx hb hXs hbl hbA hS (3 * j + 1) (by omega) hL (nI_add _ 1) dL_law_579 ?_
  refine lv_if_eq (tgt := 587) hx hb dL_law_580 (by decide) (fun c_580 => ?_) (fun c_580 => ?_)
  · refine lv_iconst (v := 0) hx hb dL_law_587 (by decide) ?_
    refine vp_callSi (va_Run.run (va_runV (As := [.int 0]) (rest := []) ⟨hx, hb, hml, hown, hts⟩ (met_X1_speed l g (240 * j) x b0 S F hok 0) (cwV 1 hts (lw_V q126 q127 q128 q14 q129) rfl rfl rfl (by decide +kernel) ⟨Nat.le_of_ble_eq_true rfl, Nat.le_of_ble_eq_true rfl⟩) (gg_preV hG (hS.kp hG (fun _ h => h)) (gg_recv hG hLI.1.1 rfl) hLI.1) rfl rfl hl.1 rfl (lv_room (Nat.le_of_ble_eq_true rfl)) dL_law_588 ⟨by show cl9 + 0 ≤ 600576; omega, by show sl9 + 0 ≤ 7279018; omega⟩)) (fun r9 hr9 => ?_)
    subst hr9
    have hLJ := hLI
    refine lv_aload_n hx hb dL_law_591 rfl (lv_at hl 2 rfl) ?_
    refine lv_aload_n hx hb dL_law_592 rfl (lv_at hl 4 rfl) ?_
    refine lv_iload hx hb dL_law_593 (lv_at hl 0 rfl) ?_
    refine lv_iconst (v := 1) hx hb dL_law_595 (by decide) ?_
    refine lv_iadd hx hb dL_law_596 ?_
    refine gg_sld hx hb hXs hbl hbA hS (3 * j + 1) (by omega) hL (nI_add _ 1) dL_law_597 ?_
    refine lv_if_eq (tgt := 605) hx hb dL_law_598 (by decide) (fun c_598 => ?_) (fun c_598 => absurd c_580 c_598)
    refine lv_iconst (v := 0) hx hb dL_law_605 (by decide) ?_
    refine va_calli (va_runV (As := [.int 0]) (rest := [.int ((aSpeed S 0).2.1)]) ⟨hx, hb, hml, hown, hts⟩ (met_X4_speed l g (240 * j) M B C th S hok hD 0) (cwV 1 hts (lw_V q817 q818 q819 q21 q820) rfl rfl rfl (by decide +kernel) ⟨Nat.le_of_ble_eq_true rfl, Nat.le_of_ble_eq_true rfl⟩) (gg_preV hG (hS.kp hG (fun _ h => h)) (gg_recv hG hLJ.2.1.1.m0 rfl) hLJ.2.1) rfl rfl hl.1 rfl (lv_room (Nat.le_of_ble_eq_true rfl)) dL_law_606 ⟨by show cl9 + 0 ≤ 600576; omega, by show sl9 + 0 ≤ 7279018; omega⟩) hS (fun q _ e => hD.an q e) (fun q  e => hD.an q e) (fun r8 u t9 H1 locs ht hvm hr8 hQ hz9 hk9 hS => ?_)
    rw [ht] at hQ
    have hLK := hLJ.model hz9 hQ (fun q h8 h9 => hk9 q h8 (fun e => h9 (Or.inl e)))
    subst hr8
    clear hQ hk9 hLJ ht hz9
    generalize H1 = H at hLK hS ⊢
    refine lv_icmp_eq (tgt := 961) hx hb dL_law_609 (by decide) (fun c_609 => ?_) (fun c_609 => absurd rfl c_609)
    refine lv_iinc (v := nI (3 * (j + 1))) (lv' := [(4, .int (nI (3 * (j + 1)))), (3, .ref o), (2, .ref (M 0)), (1, .ref x), (0, .ref b)]) hx hb dL_law_961 hl (k := 0) rfl (nI_add _ 3) (by decide) rfl (fun ls hl => ?_)
    refine lv_goto (tgt := 23) hx hb dL_law_964 (by decide) ?_
    exact ih _ _ _ _ _ _ _ _ _ _ hLK (by rw [Nat.mul_succ]; exact (ok_up hok)) (by omega) (by omega) hS (lv_sub hl [0, 1, 2, 3, 4] rfl)
  · refine lv_iconst (v := 1) hx hb dL_law_583 (by decide) ?_
    refine lv_goto (tgt := 588) hx hb dL_law_584 (by decide) ?_
    refine vp_callSi (va_Run.run (va_runV (As := [.int 1]) (rest := []) ⟨hx, hb, hml, hown, hts⟩ (met_X1_speed l g (240 * j) x b0 S F hok 1) (cwV 1 hts (lw_V q126 q127 q128 q14 q129) rfl rfl rfl (by decide +kernel) ⟨Nat.le_of_ble_eq_true rfl, Nat.le_of_ble_eq_true rfl⟩) (gg_preV hG (hS.kp hG (fun _ h => h)) (gg_recv hG hLI.1.1 rfl) hLI.1) rfl rfl hl.1 rfl (lv_room (Nat.le_of_ble_eq_true rfl)) dL_law_588 ⟨by show cl9 + 0 ≤ 600576; omega, by show sl9 + 0 ≤ 7279018; omega⟩)) (fun r9 hr9 => ?_)
    subst hr9
    have hLJ := hLI
    refine lv_aload_n hx hb dL_law_591 rfl (lv_at hl 2 rfl) ?_
    refine lv_aload_n hx hb dL_law_592 rfl (lv_at hl 4 rfl) ?_
    refine lv_iload hx hb dL_law_593 (lv_at hl 0 rfl) ?_
    refine lv_iconst (v := 1) hx hb dL_law_595 (by decide) ?_
    refine lv_iadd hx hb dL_law_596 ?_
    refine gg_sld hx hb hXs hbl hbA hS (3 * j + 1) (by omega) hL (nI_add _ 1) dL_law_597 ?_
    refine lv_if_eq (tgt := 605) hx hb dL_law_598 (by decide) (fun c_598 => absurd c_598 c_580) (fun c_598 => ?_)
    refine lv_iconst (v := 1) hx hb dL_law_601 (by decide) ?_
    refine lv_goto (tgt := 606) hx hb dL_law_602 (by decide) ?_
    refine va_calli (va_runV (As := [.int 1]) (rest := [.int ((aSpeed S 1).2.1)]) ⟨hx, hb, hml, hown, hts⟩ (met_X4_speed l g (240 * j) M B C th S hok hD 1) (cwV 1 hts (lw_V q817 q818 q819 q21 q820) rfl rfl rfl (by decide +kernel) ⟨Nat.le_of_ble_eq_true rfl, Nat.le_of_ble_eq_true rfl⟩) (gg_preV hG (hS.kp hG (fun _ h => h)) (gg_recv hG hLJ.2.1.1.m0 rfl) hLJ.2.1) rfl rfl hl.1 rfl (lv_room (Nat.le_of_ble_eq_true rfl)) dL_law_606 ⟨by show cl9 + 0 ≤ 600576; omega, by show sl9 + 0 ≤ 7279018; omega⟩) hS (fun q _ e => hD.an q e) (fun q  e => hD.an q e) (fun r8 u t9 H1 locs ht hvm hr8 hQ hz9 hk9 hS => ?_)
    rw [ht] at hQ
    have hLK := hLJ.model hz9 hQ (fun q h8 h9 => hk9 q h8 (fun e => h9 (Or.inl e)))
    subst hr8
    clear hQ hk9 hLJ ht hz9
    generalize H1 = H at hLK hS ⊢
    refine lv_icmp_eq (tgt := 961) hx hb dL_law_609 (by decide) (fun c_609 => ?_) (fun c_609 => absurd rfl c_609)
    refine lv_iinc (v := nI (3 * (j + 1))) (lv' := [(4, .int (nI (3 * (j + 1)))), (3, .ref o), (2, .ref (M 0)), (1, .ref x), (0, .ref b)]) hx hb dL_law_961 hl (k := 0) rfl (nI_add _ 3) (by decide) rfl (fun ls hl => ?_)
    refine lv_goto (tgt := 23) hx hb dL_law_964 (by decide) ?_
    exact ih _ _ _ _ _ _ _ _ _ _ hLK (by rw [Nat.mul_succ]; exact (ok_up hok)) (by omega) (by omega) hS (lv_sub hl [0, 1, 2, 3, 4] rfl)

set_option maxHeartbeats 4000000 in
theorem law_mean (l : Launch) (hl0 : l.stackTraces = false) (g : GT) {b L x o : Nat} {xs : Nat → Int32} {M B C : Nat → Nat} (hx : p.tables.exec = Jvm.exec) (hb : c.code = code) (hml : c.maxLocals = 9) (hown : s.vm.findClass "BridgeBellsLaw" = some m.cls) (hts : ∀ w ∈ lw_all, w.before #[Value.ref b] s = true) (hG : GG g s) (hXs : va_X b L xs s s.heap) (hbl : b < s.heap.size) (hbA : ¬ gA g b) (hL : L ≤ 192) (hD : MD g M B C) (hNo : gA g o) (j : Nat) (hj : 3 * j + 3 ≤ L) (ih : LWh p l e s m below meth c g b x o M B C (j + 1)) {F : Nat → Prop} {b0 : Nat} {th : Int32} {S : BS} {f : Nat → Int64} {H : Heap} {locs : List Loc} {cl9 sl9 : Nat} {ls : Array Slot} (hLI : LI g x o M B C F b0 th S S f H) (hok : OKS (240 * j) S) (hcl9 : cl9 ≤ 9000 * j + 20) (hsl9 : sl9 ≤ 110000 * j + 600) (hS : va_S (gA g) s.heap H locs) (hl : lv_has ls 9 [(4, .int (nI (3 * j))), (3, .ref o), (2, .ref (M 0)), (1, .ref x), (0, .ref b)]) : W p l e room_1 s m #[Value.ref b] below meth c H locs cl9 sl9 (lw_Z below #[Value.ref b] s) (F0 m 906 ls []) := by
  refine lv_aload_n hx hb dL_law_906 rfl (lv_at hl 3 rfl) ?_
  refine vp_callSd (va_Run.run (va_runV (As := []) (rest := []) ⟨hx, hb, hml, hown, hts⟩ (met_X1_mean l g (240 * j) x b0 S F hok) (cwV 0 hts (lw_V q135 q136 q137 q14 q138) rfl rfl rfl (by decide +kernel) ⟨Nat.le_of_ble_eq_true rfl, Nat.le_of_ble_eq_true rfl⟩) (gg_preV hG (hS.kp hG (fun _ h => h)) (gg_recv hG hLI.1.1 rfl) hLI.1) rfl rfl hl.1 rfl (lv_room (Nat.le_of_ble_eq_true rfl)) dL_law_907 ⟨by show cl9 + 0 ≤ 600576; omega, by show sl9 + 0 ≤ 7279018; omega⟩)) (fun r9 hr9 => ?_)
  subst hr9
  refine lv_dstore (lv' := [(5, .double (bMean S)), (4, .int (nI (3 * j))), (3, .ref o), (2, .ref (M 0)), (1, .ref x), (0, .ref b)]) hx hb dL_law_910 hl (by decide) rfl (fun ls hl => ?_)
  refine lv_aload_n hx hb dL_law_912 rfl (lv_at hl 3 rfl) ?_
  refine va_calld (va_runV (As := []) (rest := []) ⟨hx, hb, hml, hown, hts⟩ (met_X4_mean l g (240 * j) M B C th S hok hD) (cwV 0 hts (lw_V q876 q877 q878 q21 q879) rfl rfl rfl (by decide +kernel) ⟨Nat.le_of_ble_eq_true rfl, Nat.le_of_ble_eq_true rfl⟩) (gg_preV hG (hS.kp hG (fun _ h => h)) (gg_recv hG hLI.2.1.1.m0 rfl) hLI.2.1) rfl rfl hl.1 rfl (lv_room (Nat.le_of_ble_eq_true rfl)) dL_law_913 ⟨by show cl9 + 0 ≤ 600576; omega, by show sl9 + 0 ≤ 7279018; omega⟩) hS (fun q _ e => hD.an q e) (fun q e => hD.an q e) (fun r8 u t9 H1 locs ht hvm hr8 hQ hz9 hk9 hS => ?_)
  rw [ht] at hQ
  have hLK := hLI.model hz9 hQ (fun q h8 h9 => hk9 q h8 (fun e => h9 (Or.inl e)))
  subst hr8
  clear hQ hk9 hLI ht hz9
  generalize H1 = H at hLK hS ⊢
  refine lv_dstore (lv' := [(7, .double (bMean S)), (5, .double (bMean S)), (4, .int (nI (3 * j))), (3, .ref o), (2, .ref (M 0)), (1, .ref x), (0, .ref b)]) hx hb dL_law_916 hl (by decide) rfl (fun ls hl => ?_)
  refine lv_dload hx hb dL_law_918 (lv_at hl 1 rfl) ?_
  refine lv_dload hx hb dL_law_920 (lv_at hl 0 rfl) ?_
  refine lv_dcmp hx hb dL_law_922 ?_
  refine lv_if_eq (tgt := 944) hx hb dL_law_923 (by decide) (fun c_923 => ?_) (fun c_923 => ?_)
  · refine lv_goto (tgt := 961) hx hb dL_law_944 (by decide) ?_
    refine lv_iinc (v := nI (3 * (j + 1))) (lv' := [(4, .int (nI (3 * (j + 1)))), (7, .double (bMean S)), (5, .double (bMean S)), (3, .ref o), (2, .ref (M 0)), (1, .ref x), (0, .ref b)]) hx hb dL_law_961 hl (k := 2) rfl (nI_add _ 3) (by decide) rfl (fun ls hl => ?_)
    refine lv_goto (tgt := 23) hx hb dL_law_964 (by decide) ?_
    exact ih _ _ _ _ _ _ _ _ _ _ hLK (by rw [Nat.mul_succ]; exact (ok_up hok)) (by omega) (by omega) hS (lv_sub hl [0, 3, 4, 5, 6] rfl)
  · refine lv_dload hx hb dL_law_926 (lv_at hl 1 rfl) ?_
    refine lv_dload hx hb dL_law_928 (lv_at hl 1 rfl) ?_
    refine lv_dcmp hx hb dL_law_930 ?_
    refine lv_if_eq (tgt := 942) hx hb dL_law_931 (by decide) (fun c_931 => absurd c_931 c_923) (fun c_931 => ?_)
    refine lv_dload hx hb dL_law_934 (lv_at hl 0 rfl) ?_
    refine lv_dload hx hb dL_law_936 (lv_at hl 0 rfl) ?_
    refine lv_dcmp hx hb dL_law_938 ?_
    refine lv_if_ne (tgt := 944) hx hb dL_law_939 (by decide) (fun c_939 => ?_) (fun c_939 => absurd c_939 c_923)
    refine lv_goto (tgt := 961) hx hb dL_law_944 (by decide) ?_
    refine lv_iinc (v := nI (3 * (j + 1))) (lv' := [(4, .int (nI (3 * (j + 1)))), (7, .double (bMean S)), (5, .double (bMean S)), (3, .ref o), (2, .ref (M 0)), (1, .ref x), (0, .ref b)]) hx hb dL_law_961 hl (k := 2) rfl (nI_add _ 3) (by decide) rfl (fun ls hl => ?_)
    refine lv_goto (tgt := 23) hx hb dL_law_964 (by decide) ?_
    exact ih _ _ _ _ _ _ _ _ _ _ hLK (by rw [Nat.mul_succ]; exact (ok_up hok)) (by omega) (by omega) hS (lv_sub hl [0, 3, 4, 5, 6] rfl)

set_option maxHeartbeats 4000000 in
theorem law_digest (l : Launch) (hl0 : l.stackTraces = false) (g : GT) {b L x o : Nat} {xs : Nat → Int32} {M B C : Nat → Nat} (hx : p.tables.exec = Jvm.exec) (hb : c.code = code) (hml : c.maxLocals = 9) (hown : s.vm.findClass "BridgeBellsLaw" = some m.cls) (hts : ∀ w ∈ lw_all, w.before #[Value.ref b] s = true) (hG : GG g s) (hXs : va_X b L xs s s.heap) (hbl : b < s.heap.size) (hbA : ¬ gA g b) (hL : L ≤ 192) (hD : MD g M B C) (hNo : gA g o) (j : Nat) (hj : 3 * j + 3 ≤ L) (ih : LWh p l e s m below meth c g b x o M B C (j + 1)) {F : Nat → Prop} {b0 : Nat} {th : Int32} {S : BS} {f : Nat → Int64} {H : Heap} {locs : List Loc} {cl9 sl9 : Nat} {ls : Array Slot} (hLI : LI g x o M B C F b0 th S S f H) (hok : OKS (240 * j) S) (hcl9 : cl9 ≤ 9000 * j + 20) (hsl9 : sl9 ≤ 110000 * j + 600) (hS : va_S (gA g) s.heap H locs) (hl : lv_has ls 9 [(4, .int (nI (3 * j))), (3, .ref o), (2, .ref (M 0)), (1, .ref x), (0, .ref b)]) : W p l e room_1 s m #[Value.ref b] below meth c H locs cl9 sl9 (lw_Z below #[Value.ref b] s) (F0 m 947 ls []) := by
  refine lv_aload_n hx hb dL_law_947 rfl (lv_at hl 3 rfl) ?_
  refine vp_callSl (va_Run.run (va_runV (As := []) (rest := []) ⟨hx, hb, hml, hown, hts⟩ (met_X1_digest l g (240 * j) x b0 S F hok) (cwV 0 hts (lw_V q167 q168 q169 q14 q170) rfl rfl rfl (by decide +kernel) ⟨Nat.le_of_ble_eq_true rfl, Nat.le_of_ble_eq_true rfl⟩) (gg_preV hG (hS.kp hG (fun _ h => h)) (gg_recv hG hLI.1.1 rfl) hLI.1) rfl rfl hl.1 rfl (lv_room (Nat.le_of_ble_eq_true rfl)) dL_law_948 ⟨by show cl9 + 0 ≤ 600576; omega, by show sl9 + 0 ≤ 7279018; omega⟩)) (fun r9 hr9 => ?_)
  subst hr9
  refine lv_aload_n hx hb dL_law_951 rfl (lv_at hl 2 rfl) ?_
  refine va_calll (va_runV (As := []) (rest := [.long (bDig S)]) ⟨hx, hb, hml, hown, hts⟩ (met_X4_digest l g (240 * j) H.size M B C th S hok hD) (cwV 0 hts (lw_V q880 q881 q882 q21 q883) rfl rfl rfl (by decide +kernel) ⟨Nat.le_of_ble_eq_true rfl, Nat.le_of_ble_eq_true rfl⟩) (gg_preV hG (hS.kp hG (fun _ h => h)) (gg_recv hG hLI.2.1.1.m0 rfl) ⟨rfl, hLI.2.1⟩) rfl rfl hl.1 rfl (lv_room (Nat.le_of_ble_eq_true rfl)) dL_law_952 ⟨by show cl9 + 280 ≤ 600576; omega, by show sl9 + 1960 ≤ 7279018; omega⟩) hS (fun q _ e => by rcases e with e | e; exact hD.an q e; exact Nat.le_trans (hS.kp hG (fun _ h => h)).1 e) (fun q  e => by rcases e with e | e; exact hD.an q e; exact Nat.le_trans (hS.kp hG (fun _ h => h)).1 e) (fun r8 u t9 H1 locs ht hvm hr8 hQ hz9 hk9 hS => ?_)
  rw [ht] at hQ
  have hLK := hLI.model hz9 hQ (fun q h8 h9 => hk9 q h8 h9)
  subst hr8
  clear hQ hk9 hLI ht hz9
  generalize H1 = H at hLK hS ⊢
  refine gg_lcmp hx hb dL_law_955 ?_
  refine lv_if_eq (tgt := 961) hx hb dL_law_956 (by decide) (fun c_956 => ?_) (fun c_956 => absurd rfl c_956)
  refine lv_iinc (v := nI (3 * (j + 1))) (lv' := [(4, .int (nI (3 * (j + 1)))), (3, .ref o), (2, .ref (M 0)), (1, .ref x), (0, .ref b)]) hx hb dL_law_961 hl (k := 0) rfl (nI_add _ 3) (by decide) rfl (fun ls hl => ?_)
  refine lv_goto (tgt := 23) hx hb dL_law_964 (by decide) ?_
  exact ih _ _ _ _ _ _ _ _ _ _ hLK (by rw [Nat.mul_succ]; exact (ok_up hok)) (by omega) (by omega) hS (lv_sub hl [0, 1, 2, 3, 4] rfl)

set_option maxHeartbeats 4000000 in
theorem law_loop (l : Launch) (hl0 : l.stackTraces = false) (g : GT) {b L x o : Nat} {xs : Nat → Int32} {M B C : Nat → Nat} (hx : p.tables.exec = Jvm.exec) (hb : c.code = code) (hr : meth.sig.returnType = ret) (hlk : meth.locks = false) (hml : c.maxLocals = 9) (hown : s.vm.findClass "BridgeBellsLaw" = some m.cls) (hts : ∀ w ∈ lw_all, w.before #[Value.ref b] s = true) (hG : GG g s) (hgN : gN g = s.heap.size) (hXs : va_X b L xs s s.heap) (hbl : b < s.heap.size) (hL : L ≤ 192) (hD : MD g M B C) (hNo : gA g o) : ∀ (d j : Nat), 3 * j ≤ L → L + 1 ≤ 3 * j + d → LWh p l e s m below meth c g b x o M B C j := by
  have hbA : ¬ gA g b := fun h => absurd (show gN g ≤ b from h) (by rw [hgN]; exact Nat.not_le.mpr hbl)
  intro d
  induction d with
  | zero => intro j h1 h2; exact absurd h2 (by omega)
  | succ d ihd =>
    intro j hj0 hjd F b0 th S f H locs cl9 sl9 ls hLI hok hcl9 hsl9 hS hl
    refine lv_iload hx hb dL_law_23 (lv_at hl 0 rfl) ?_
    refine lv_aload_n hx hb dL_law_25 rfl (lv_at hl 4 rfl) ?_
    refine gg_slen hx hb hXs hbl hbA hS dL_law_26 ?_
    refine lv_iconst (v := 3) hx hb dL_law_27 (by decide) ?_
    refine lv_isub hx hb dL_law_28 ?_
    refine lv_icmp_gt (tgt := 967) hx hb dL_law_29 (by decide) (fun _ => ?_) (fun c_29 => ?_)
    · refine lv_iconst (v := 1) hx hb dL_law_967 (by decide) ?_
      refine va_forget (fun q hq => by have := hS.2.2 q hq; rw [← hgN]; exact this) ?_
      refine W.widen (k := 600576) (n := 7279018) (by omega) (by omega) ?_
      exact lw_ret hx hb hr hlk dL_law_968
    · have hj : 3 * j + 3 ≤ L := by
        rcases Nat.lt_or_ge L (3 * j + 3) with q | q
        · exact absurd ((sub3 hL (by omega)).mpr q) c_29
        · exact q
      have ih := ihd (j + 1) (by omega) (by omega)
      refine lv_aload_n hx hb dL_law_32 rfl (lv_at hl 4 rfl) ?_
      refine lv_iload hx hb dL_law_33 (lv_at hl 0 rfl) ?_
      refine gg_sld hx hb hXs hbl hbA hS (3 * j) (by omega) hL rfl dL_law_35 ?_
      refine lv_bipush (v := 15) hx hb dL_law_36 (by decide) ?_
      refine lv_iand hx hb dL_law_38 ?_
      obtain ⟨w, hw, ew⟩ := pk_andE (xs (3 * j)) (m := 15) 4 (by decide)
      rw [ew]
      have hw : w < 16 := hw
      rcases (show w = 0 ∨ w = 1 ∨ w = 2 ∨ w = 3 ∨ w = 4 ∨ w = 5 ∨ w = 6 ∨ w = 7 ∨ w = 8 ∨ w = 9 ∨ w = 10 ∨ w = 11 ∨ w = 12 ∨ w = 13 ∨ w = 14 ∨ w = 15 by omega) with rfl | rfl | rfl | rfl | rfl | rfl | rfl | rfl | rfl | rfl | rfl | rfl | rfl | rfl | rfl | rfl
      · refine lv_tableIn (tgt := 116) hx hb dL_law_39 (by decide) (by decide) rfl (by decide) ?_
        exact law_come l hl0 g hx hb hml hown hts hG hXs hbl hbA hL hD hNo j hj ih hLI hok hcl9 hsl9 hS hl
      · refine lv_tableIn (tgt := 200) hx hb dL_law_39 (by decide) (by decide) rfl (by decide) ?_
        exact law_leave l hl0 g hx hb hml hown hts hG hXs hbl hbA hL hD hNo j hj ih hLI hok hcl9 hsl9 hS hl
      · refine lv_tableIn (tgt := 256) hx hb dL_law_39 (by decide) (by decide) rfl (by decide) ?_
        exact law_ring l hl0 g hx hb hml hown hts hG hXs hbl hbA hL hD hNo j hj ih hLI hok hcl9 hsl9 hS hl
      · refine lv_tableIn (tgt := 312) hx hb dL_law_39 (by decide) (by decide) rfl (by decide) ?_
        exact law_poise l hl0 g hx hb hml hown hts hG hXs hbl hbA hL hD hNo j hj ih hLI hok hcl9 hsl9 hS hl
      · refine lv_tableIn (tgt := 368) hx hb dL_law_39 (by decide) (by decide) rfl (by decide) ?_
        exact law_setCold l hl0 g hx hb hml hown hts hG hXs hbl hbA hL hD hNo j hj ih hLI hok hcl9 hsl9 hS hl
      · refine lv_tableIn (tgt := 436) hx hb dL_law_39 (by decide) (by decide) rfl (by decide) ?_
        exact law_crack l hl0 g hx hb hml hown hts hG hXs hbl hbA hL hD hNo j hj ih hLI hok hcl9 hsl9 hS hl
      · refine lv_tableIn (tgt := 449) hx hb dL_law_39 (by decide) (by decide) rfl (by decide) ?_
        exact law_traveller l hl0 g hx hb hml hown hts hG hXs hbl hbA hL hD hNo j hj ih hLI hok hcl9 hsl9 hS hl
      · refine lv_tableIn (tgt := 517) hx hb dL_law_39 (by decide) (by decide) rfl (by decide) ?_
        exact law_count l hl0 g hx hb hml hown hts hG hXs hbl hbA hL hD hNo j hj ih hLI hok hcl9 hsl9 hS hl
      · refine lv_tableIn (tgt := 573) hx hb dL_law_39 (by decide) (by decide) rfl (by decide) ?_
        exact law_speed l hl0 g hx hb hml hown hts hG hXs hbl hbA hL hD hNo j hj ih hLI hok hcl9 hsl9 hS hl
      · refine lv_tableIn (tgt := 614) hx hb dL_law_39 (by decide) (by decide) rfl (by decide) ?_
        exact law_pass l hl0 g hx hb hml hown hts hG hXs hbl hbA hL hD hNo j hj ih hLI hok hcl9 hsl9 hS hl
      · refine lv_tableIn (tgt := 670) hx hb dL_law_39 (by decide) (by decide) rfl (by decide) ?_
        exact law_when l hl0 g hx hb hml hown hts hG hXs hbl hbA hL hD hNo j hj ih hLI hok hcl9 hsl9 hS hl
      · refine lv_tableIn (tgt := 726) hx hb dL_law_39 (by decide) (by decide) rfl (by decide) ?_
        exact law_foresee l hl0 g hx hb hml hown hts hG hXs hbl hbA hL hD hNo j hj ih hLI hok hcl9 hsl9 hS hl
      · refine lv_tableIn (tgt := 794) hx hb dL_law_39 (by decide) (by decide) rfl (by decide) ?_
        exact law_bestCode l hl0 g hx hb hml hown hts hG hXs hbl hbA hL hD hNo j hj ih hLI hok hcl9 hsl9 hS hl
      · refine lv_tableIn (tgt := 850) hx hb dL_law_39 (by decide) (by decide) rfl (by decide) ?_
        exact law_bestPoise l hl0 g hx hb hml hown hts hG hXs hbl hbA hL hD hNo j hj ih hLI hok hcl9 hsl9 hS hl
      · refine lv_tableIn (tgt := 906) hx hb dL_law_39 (by decide) (by decide) rfl (by decide) ?_
        exact law_mean l hl0 g hx hb hml hown hts hG hXs hbl hbA hL hD hNo j hj ih hLI hok hcl9 hsl9 hS hl
      · refine lv_tableIn (tgt := 947) hx hb dL_law_39 (by decide) (by decide) rfl (by decide) ?_
        exact law_digest l hl0 g hx hb hml hown hts hG hXs hbl hbA hL hD hNo j hj ih hLI hok hcl9 hsl9 hS hl
end LX
