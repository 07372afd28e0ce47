/-! THE LAW'S LOOP: call by call both sides answer the same. -/
set_option maxRecDepth 100000
theorem LI.comp0 {g : GT} {x o : Nat} {M B C : Nat → Nat} {F : Nat → Prop} {b : Nat} {th : Int32} {S S1 : BS} {f : Nat → Int64} {H H1 : Heap} (h : LI g x o M B C F b th S S f H) (hz : H.size ≤ H1.size) (hX : XB g F x b S1 H1) (hk : ∀ q : Nat, q < H.size → ¬ F q → H1[q]? = H[q]?) : LI g x o M B C F b th S1 S f H1 := by
  obtain ⟨h1, h2, h3, h4, h5, h6⟩ := h
  refine ⟨hX, h2.kept (fun q hq hF => hk q hq (fun e => (h4 q e).2.1 hF)), h3.kept (hk _ h3.lt (fun e => (h4 o e).2.2 rfl)), fun q hq => ⟨Nat.lt_of_lt_of_le (h4 q hq).1 hz, (h4 q hq).2⟩, fun q hq => ⟨Nat.lt_of_lt_of_le (h5 q hq).1 hz, (h5 q hq).2⟩, h6⟩
theorem LI.fg {g : GT} {x o : Nat} {M B C : Nat → Nat} {F : Nat → Prop} {b : Nat} {th : Int32} {S1 S2 : BS} {f : Nat → Int64} {H : Heap} (h : LI g x o M B C F b th S1 S2 f H) : ∀ q, F q → gA g q := by
  obtain ⟨-, ⟨_, _, _, _, _, _, _, hX⟩, -⟩ := h.1
  exact hX.2.2.2.2.2.2.2.2.1
/-- the law from its loop's head on, with j calls behind it -/
def LWh (p : Program) (l : Launch) (e : Env) (s : State) (m : MethodId) (below : List Frame) (meth : Method) (c : Code) (g : GT) (b x o : Nat) (M B C : Nat → Nat) (j : Nat) : Prop :=
  ∀ (F : Nat → Prop) (b0 : Nat) (th : Int32) (S : BS) (f : Nat → Int64) (H : Heap) (locs : List Loc) (cl9 sl9 : Nat) (ls : Array Slot), LI g x o M B C F b0 th S S f H → OKS (240 * j) S → cl9 ≤ 9000 * j + 20 → sl9 ≤ 110000 * j + 600 → va_S (gA g) s.heap H locs → lv_has ls 9 [(4, .int (nI (3 * j))), (3, .ref o), (2, .ref (M 0)), (1, .ref x), (0, .ref b)] →
    W p l e room_1 s m #[Value.ref b] below meth c H locs cl9 sl9 (lw_Z below #[Value.ref b] s) (F0 m 23 ls [])
section LW
variable {p : Program} {e : Env} {s : State} {m : MethodId} {below : List Frame} {meth : Method} {c : Code}

set_option maxHeartbeats 4000000 in
theorem law_come (l : Launch) (hl0 : l.stackTraces = false) (g : GT) {b L x o : Nat} {xs : Nat → Int32} {M B C : Nat → Nat} (hx : p.tables.exec = Jvm.exec) (hb : c.code = code) (hml : c.maxLocals = 9) (hown : s.vm.findClass "BridgeBellsLaw" = some m.cls) (hts : ∀ w ∈ lw_all, w.before #[Value.ref b] s = true) (hG : GG g s) (hXs : va_X b L xs s s.heap) (hbl : b < s.heap.size) (hbA : ¬ gA g b) (hL : L ≤ 192) (hD : MD g M B C) (hNo : gA g o) (j : Nat) (hj : 3 * j + 3 ≤ L) (ih : LWh p l e s m below meth c g b x o M B C (j + 1)) {F : Nat → Prop} {b0 : Nat} {th : Int32} {S : BS} {f : Nat → Int64} {H : Heap} {locs : List Loc} {cl9 sl9 : Nat} {ls : Array Slot} (hLI : LI g x o M B C F b0 th S S f H) (hok : OKS (240 * j) S) (hcl9 : cl9 ≤ 9000 * j + 20) (hsl9 : sl9 ≤ 110000 * j + 600) (hS : va_S (gA g) s.heap H locs) (hl : lv_has ls 9 [(4, .int (nI (3 * j))), (3, .ref o), (2, .ref (M 0)), (1, .ref x), (0, .ref b)]) : W p l e room_1 s m #[Value.ref b] below meth c H locs cl9 sl9 (lw_Z below #[Value.ref b] s) (F0 m 116 ls []) := by
  have hT : 240 * j < 2 ^ 29 := by omega
  refine lv_aload_n hx hb dL_law_116 rfl (lv_at hl 3 rfl) ?_
  refine lv_aload_n hx hb dL_law_117 rfl (lv_at hl 4 rfl) ?_
  refine lv_iload hx hb dL_law_118 (lv_at hl 0 rfl) ?_
  refine lv_iconst (v := 1) hx hb dL_law_120 (by decide) ?_
  refine lv_iadd hx hb dL_law_121 ?_
  refine gg_sld hx hb hXs hbl hbA hS (3 * j + 1) (by omega) hL (nI_add _ 1) dL_law_122 ?_
  refine lv_if_eq (tgt := 130) hx hb dL_law_123 (by decide) (fun c_123 => ?_) (fun c_123 => ?_)
  · refine lv_iconst (v := 0) hx hb dL_law_130 (by decide) ?_
    refine lv_aload_n hx hb dL_law_131 rfl (lv_at hl 4 rfl) ?_
    refine lv_iload hx hb dL_law_132 (lv_at hl 0 rfl) ?_
    refine lv_iconst (v := 2) hx hb dL_law_134 (by decide) ?_
    refine lv_iadd hx hb dL_law_135 ?_
    refine gg_sld hx hb hXs hbl hbA hS (3 * j + 2) (by omega) hL (nI_add _ 2) dL_law_136 ?_
    refine lv_aload_n hx hb dL_law_137 rfl (lv_at hl 1 rfl) ?_
    refine va_calli (vx_runSW (As := [.ref x, .int 0, .int (xs (3 * j + 2)), .ref o]) (rest := []) ⟨hx, hb, hml, hown, hts⟩ (met_X0_come l hl0 g (240 * j) x b0 H.size o S F f hok (fun q h => (hLI.2.2.2.1 q h).1) (fun h => (hLI.2.2.2.1 o h).2.2 rfl) hLI.2.2.2.2.2 hNo 0 (xs (3 * j + 2)) (by decide)) (vx_cwSW 4 hts (lw_SW q258 q259 q13 q260) rfl rfl rfl (by decide +kernel) ⟨Nat.le_of_ble_eq_true rfl, Nat.le_of_ble_eq_true rfl⟩) (gg_preS hG (hS.kp hG (fun _ h => h)) ⟨rfl, hLI.1, hLI.2.2.1⟩) rfl rfl hl.1 rfl (lv_room (Nat.le_of_ble_eq_true rfl)) dL_law_138 ⟨by show cl9 + 2 ≤ 600576; omega, by show sl9 + 67 ≤ 7279018; omega⟩) hS (fun q _ e => by rcases e with e | e | e; exact hLI.fg q e; rw [show q = o from e]; exact hNo; exact Nat.le_trans (hS.kp hG (fun _ h => h)).1 e) (fun q  e => by rcases e with e | e | e; exact hLI.fg q e; rw [show q = o from e]; exact hNo; exact Nat.le_trans (hS.kp hG (fun _ h => h)).1 e) (fun r9 u t9 H1 locs ht hvm hr9 hQ hz9 hk9 hS => ?_)
    rw [ht] at hQ
    obtain ⟨hXB1, f1, h_o1, hf1⟩ := hQ
    have hLJ := hLI.comp hz9 hXB1 h_o1 hk9
    subst hr9
    generalize (fun q => F q ∨ (H.size ≤ q ∧ q < H1.size)) = F1 at hLJ
    clear hXB1 h_o1 hk9 hLI ht hz9
    generalize H1 = H at hLJ hS ⊢
    refine lv_istore (lv' := [(5, .int ((aCome S 0 (xs (3 * j + 2))).1)), (4, .int (nI (3 * j))), (3, .ref o), (2, .ref (M 0)), (1, .ref x), (0, .ref b)]) hx hb dL_law_141 hl (by decide) rfl (fun ls hl => ?_)
    refine lv_aload_n hx hb dL_law_143 rfl (lv_at hl 3 rfl) ?_
    refine lv_aload_n hx hb dL_law_144 rfl (lv_at hl 5 rfl) ?_
    refine lv_iload hx hb dL_law_145 (lv_at hl 1 rfl) ?_
    refine lv_iconst (v := 1) hx hb dL_law_147 (by decide) ?_
    refine lv_iadd hx hb dL_law_148 ?_
    refine gg_sld hx hb hXs hbl hbA hS (3 * j + 1) (by omega) hL (nI_add _ 1) dL_law_149 ?_
    refine lv_if_eq (tgt := 157) hx hb dL_law_150 (by decide) (fun c_150 => ?_) (fun c_150 => absurd c_123 c_150)
    refine lv_iconst (v := 0) hx hb dL_law_157 (by decide) ?_
    refine lv_aload_n hx hb dL_law_158 rfl (lv_at hl 5 rfl) ?_
    refine lv_iload hx hb dL_law_159 (lv_at hl 1 rfl) ?_
    refine lv_iconst (v := 2) hx hb dL_law_161 (by decide) ?_
    refine lv_iadd hx hb dL_law_162 ?_
    refine gg_sld hx hb hXs hbl hbA hS (3 * j + 2) (by omega) hL (nI_add _ 2) dL_law_163 ?_
    refine va_calli (va_runV (As := [.int 0, .int (xs (3 * j + 2))]) (rest := []) ⟨hx, hb, hml, hown, hts⟩ (met_X4_come l g (240 * j) M B C th S hok hD 0 (xs (3 * j + 2)) (by decide)) (cwV 2 hts (lw_V q749 q750 q751 q21 q752) rfl rfl rfl (by decide +kernel) ⟨Nat.le_of_ble_eq_true rfl, Nat.le_of_ble_eq_true rfl⟩) (gg_preV hG (hS.kp hG (fun _ h => h)) (gg_recv hG hLJ.2.1.1.m0 rfl) hLJ.2.1) rfl rfl hl.1 rfl (lv_room (Nat.le_of_ble_eq_true rfl)) dL_law_164 ⟨by show cl9 + 2 + 0 ≤ 600576; omega, by show sl9 + 67 + 0 ≤ 7279018; omega⟩) hS (fun q _ e => hD.an q e) (fun q  e => hD.an q e) (fun r8 u t9 H1 locs ht hvm hr8 hQ hz9 hk9 hS => ?_)
    rw [ht] at hQ
    have hLK := hLJ.model hz9 hQ (fun q h8 h9 => hk9 q h8 (fun e => h9 (Or.inl e)))
    subst hr8
    clear hQ hk9 hLJ ht hz9
    generalize H1 = H at hLK hS ⊢
    refine lv_istore (lv' := [(6, .int ((aCome S 0 (xs (3 * j + 2))).2.1)), (5, .int ((aCome S 0 (xs (3 * j + 2))).1)), (4, .int (nI (3 * j))), (3, .ref o), (2, .ref (M 0)), (1, .ref x), (0, .ref b)]) hx hb dL_law_167 hl (by decide) rfl (fun ls hl => ?_)
    refine lv_aload_n hx hb dL_law_169 rfl (lv_at hl 4 rfl) ?_
    refine vp_callSi (va_Run.run (va_runV (As := []) (rest := []) ⟨hx, hb, hml, hown, hts⟩ (met_X4_thrown l g (M 0) (sN (aCome S 0 (xs (3 * j + 2))).2.2) (M 1) (M 2) (M 3) (M 4) (B 0) (C 0) (aCome S 0 (xs (3 * j + 2))).1) (cwV 0 hts (lw_V q745 q746 q747 q21 q748) rfl rfl rfl (by decide +kernel) ⟨Nat.le_of_ble_eq_true rfl, Nat.le_of_ble_eq_true rfl⟩) (gg_preV hG (hS.kp hG (fun _ h => h)) (gg_recv hG hLK.2.1.1.m0 rfl) hLK.2.1.1.m0) rfl rfl hl.1 rfl (lv_room (Nat.le_of_ble_eq_true rfl)) dL_law_170 ⟨by show cl9 + 2 + 0 + 0 ≤ 600576; omega, by show sl9 + 67 + 0 + 0 ≤ 7279018; omega⟩)) (fun r7 hr7 => ?_)
    subst hr7
    refine lv_iload hx hb dL_law_173 (lv_at hl 1 rfl) ?_
    refine lv_icmp_eq (tgt := 180) hx hb dL_law_175 (by decide) (fun c_175 => ?_) (fun c_175 => absurd rfl c_175)
    refine lv_iload hx hb dL_law_180 (lv_at hl 1 rfl) ?_
    refine lv_if_ne (tgt := 197) hx hb dL_law_182 (by decide) (fun c_182 => ?_) (fun c_182 => ?_)
    · refine lv_goto (tgt := 961) hx hb dL_law_197 (by decide) ?_
      refine lv_iinc (v := nI (3 * (j + 1))) (lv' := [(4, .int (nI (3 * (j + 1)))), (6, .int ((aCome S 0 (xs (3 * j + 2))).2.1)), (5, .int ((aCome S 0 (xs (3 * j + 2))).1)), (3, .ref o), (2, .ref (M 0)), (1, .ref x), (0, .ref b)]) hx hb dL_law_961 hl (k := 2) rfl (nI_add _ 3) (by decide) rfl (fun ls hl => ?_)
      refine lv_goto (tgt := 23) hx hb dL_law_964 (by decide) ?_
      exact ih _ _ _ _ _ _ _ _ _ _ hLK (by rw [Nat.mul_succ]; exact (ok_come hok (by decide))) (by omega) (by omega) hS (lv_sub hl [0, 3, 4, 5, 6] rfl)
    · refine lv_aload_n hx hb dL_law_185 rfl (lv_at hl 3 rfl) ?_
      refine lv_iconst (v := 0) hx hb dL_law_186 (by decide) ?_
      refine gg_lald hx hb hG hLK.2.2.1 dL_law_187 ?_
      refine lv_iload hx hb dL_law_188 (lv_at hl 0 rfl) ?_
      refine lv_i2l hx hb dL_law_190 rfl ?_
      rw [hf1 c_182]
      refine gg_lcmp hx hb dL_law_191 ?_
      refine lv_if_eq (tgt := 197) hx hb dL_law_192 (by decide) (fun c_192 => ?_) (fun c_192 => absurd rfl c_192)
      refine lv_goto (tgt := 961) hx hb dL_law_197 (by decide) ?_
      refine lv_iinc (v := nI (3 * (j + 1))) (lv' := [(4, .int (nI (3 * (j + 1)))), (6, .int ((aCome S 0 (xs (3 * j + 2))).2.1)), (5, .int ((aCome S 0 (xs (3 * j + 2))).1)), (3, .ref o), (2, .ref (M 0)), (1, .ref x), (0, .ref b)]) hx hb dL_law_961 hl (k := 2) rfl (nI_add _ 3) (by decide) rfl (fun ls hl => ?_)
      refine lv_goto (tgt := 23) hx hb dL_law_964 (by decide) ?_
      exact ih _ _ _ _ _ _ _ _ _ _ hLK (by rw [Nat.mul_succ]; exact (ok_come hok (by decide))) (by omega) (by omega) hS (lv_sub hl [0, 3, 4, 5, 6] rfl)
  · refine lv_iconst (v := 1) hx hb dL_law_126 (by decide) ?_
    refine lv_goto (tgt := 131) hx hb dL_law_127 (by decide) ?_
    refine lv_aload_n hx hb dL_law_131 rfl (lv_at hl 4 rfl) ?_
    refine lv_iload hx hb dL_law_132 (lv_at hl 0 rfl) ?_
    refine lv_iconst (v := 2) hx hb dL_law_134 (by decide) ?_
    refine lv_iadd hx hb dL_law_135 ?_
    refine gg_sld hx hb hXs hbl hbA hS (3 * j + 2) (by omega) hL (nI_add _ 2) dL_law_136 ?_
    refine lv_aload_n hx hb dL_law_137 rfl (lv_at hl 1 rfl) ?_
    refine va_calli (vx_runSW (As := [.ref x, .int 1, .int (xs (3 * j + 2)), .ref o]) (rest := []) ⟨hx, hb, hml, hown, hts⟩ (met_X0_come l hl0 g (240 * j) x b0 H.size o S F f hok (fun q h => (hLI.2.2.2.1 q h).1) (fun h => (hLI.2.2.2.1 o h).2.2 rfl) hLI.2.2.2.2.2 hNo 1 (xs (3 * j + 2)) (by decide)) (vx_cwSW 4 hts (lw_SW q258 q259 q13 q260) rfl rfl rfl (by decide +kernel) ⟨Nat.le_of_ble_eq_true rfl, Nat.le_of_ble_eq_true rfl⟩) (gg_preS hG (hS.kp hG (fun _ h => h)) ⟨rfl, hLI.1, hLI.2.2.1⟩) rfl rfl hl.1 rfl (lv_room (Nat.le_of_ble_eq_true rfl)) dL_law_138 ⟨by show cl9 + 2 ≤ 600576; omega, by show sl9 + 67 ≤ 7279018; omega⟩) hS (fun q _ e => by rcases e with e | e | e; exact hLI.fg q e; rw [show q = o from e]; exact hNo; exact Nat.le_trans (hS.kp hG (fun _ h => h)).1 e) (fun q  e => by rcases e with e | e | e; exact hLI.fg q e; rw [show q = o from e]; exact hNo; exact Nat.le_trans (hS.kp hG (fun _ h => h)).1 e) (fun r9 u t9 H1 locs ht hvm hr9 hQ hz9 hk9 hS => ?_)
    rw [ht] at hQ
    obtain ⟨hXB1, f1, h_o1, hf1⟩ := hQ
    have hLJ := hLI.comp hz9 hXB1 h_o1 hk9
    subst hr9
    generalize (fun q => F q ∨ (H.size ≤ q ∧ q < H1.size)) = F1 at hLJ
    clear hXB1 h_o1 hk9 hLI ht hz9
    generalize H1 = H at hLJ hS ⊢
    refine lv_istore (lv' := [(5, .int ((aCome S 1 (xs (3 * j + 2))).1)), (4, .int (nI (3 * j))), (3, .ref o), (2, .ref (M 0)), (1, .ref x), (0, .ref b)]) hx hb dL_law_141 hl (by decide) rfl (fun ls hl => ?_)
    refine lv_aload_n hx hb dL_law_143 rfl (lv_at hl 3 rfl) ?_
    refine lv_aload_n hx hb dL_law_144 rfl (lv_at hl 5 rfl) ?_
    refine lv_iload hx hb dL_law_145 (lv_at hl 1 rfl) ?_
    refine lv_iconst (v := 1) hx hb dL_law_147 (by decide) ?_
    refine lv_iadd hx hb dL_law_148 ?_
    refine gg_sld hx hb hXs hbl hbA hS (3 * j + 1) (by omega) hL (nI_add _ 1) dL_law_149 ?_
    refine lv_if_eq (tgt := 157) hx hb dL_law_150 (by decide) (fun c_150 => absurd c_150 c_123) (fun c_150 => ?_)
    refine lv_iconst (v := 1) hx hb dL_law_153 (by decide) ?_
    refine lv_goto (tgt := 158) hx hb dL_law_154 (by decide) ?_
    refine lv_aload_n hx hb dL_law_158 rfl (lv_at hl 5 rfl) ?_
    refine lv_iload hx hb dL_law_159 (lv_at hl 1 rfl) ?_
    refine lv_iconst (v := 2) hx hb dL_law_161 (by decide) ?_
    refine lv_iadd hx hb dL_law_162 ?_
    refine gg_sld hx hb hXs hbl hbA hS (3 * j + 2) (by omega) hL (nI_add _ 2) dL_law_163 ?_
    refine va_calli (va_runV (As := [.int 1, .int (xs (3 * j + 2))]) (rest := []) ⟨hx, hb, hml, hown, hts⟩ (met_X4_come l g (240 * j) M B C th S hok hD 1 (xs (3 * j + 2)) (by decide)) (cwV 2 hts (lw_V q749 q750 q751 q21 q752) rfl rfl rfl (by decide +kernel) ⟨Nat.le_of_ble_eq_true rfl, Nat.le_of_ble_eq_true rfl⟩) (gg_preV hG (hS.kp hG (fun _ h => h)) (gg_recv hG hLJ.2.1.1.m0 rfl) hLJ.2.1) rfl rfl hl.1 rfl (lv_room (Nat.le_of_ble_eq_true rfl)) dL_law_164 ⟨by show cl9 + 2 + 0 ≤ 600576; omega, by show sl9 + 67 + 0 ≤ 7279018; omega⟩) hS (fun q _ e => hD.an q e) (fun q  e => hD.an q e) (fun r8 u t9 H1 locs ht hvm hr8 hQ hz9 hk9 hS => ?_)
    rw [ht] at hQ
    have hLK := hLJ.model hz9 hQ (fun q h8 h9 => hk9 q h8 (fun e => h9 (Or.inl e)))
    subst hr8
    clear hQ hk9 hLJ ht hz9
    generalize H1 = H at hLK hS ⊢
    refine lv_istore (lv' := [(6, .int ((aCome S 1 (xs (3 * j + 2))).2.1)), (5, .int ((aCome S 1 (xs (3 * j + 2))).1)), (4, .int (nI (3 * j))), (3, .ref o), (2, .ref (M 0)), (1, .ref x), (0, .ref b)]) hx hb dL_law_167 hl (by decide) rfl (fun ls hl => ?_)
    refine lv_aload_n hx hb dL_law_169 rfl (lv_at hl 4 rfl) ?_
    refine vp_callSi (va_Run.run (va_runV (As := []) (rest := []) ⟨hx, hb, hml, hown, hts⟩ (met_X4_thrown l g (M 0) (sN (aCome S 1 (xs (3 * j + 2))).2.2) (M 1) (M 2) (M 3) (M 4) (B 0) (C 0) (aCome S 1 (xs (3 * j + 2))).1) (cwV 0 hts (lw_V q745 q746 q747 q21 q748) rfl rfl rfl (by decide +kernel) ⟨Nat.le_of_ble_eq_true rfl, Nat.le_of_ble_eq_true rfl⟩) (gg_preV hG (hS.kp hG (fun _ h => h)) (gg_recv hG hLK.2.1.1.m0 rfl) hLK.2.1.1.m0) rfl rfl hl.1 rfl (lv_room (Nat.le_of_ble_eq_true rfl)) dL_law_170 ⟨by show cl9 + 2 + 0 + 0 ≤ 600576; omega, by show sl9 + 67 + 0 + 0 ≤ 7279018; omega⟩)) (fun r7 hr7 => ?_)
    subst hr7
    refine lv_iload hx hb dL_law_173 (lv_at hl 1 rfl) ?_
    refine lv_icmp_eq (tgt := 180) hx hb dL_law_175 (by decide) (fun c_175 => ?_) (fun c_175 => absurd rfl c_175)
    refine lv_iload hx hb dL_law_180 (lv_at hl 1 rfl) ?_
    refine lv_if_ne (tgt := 197) hx hb dL_law_182 (by decide) (fun c_182 => ?_) (fun c_182 => ?_)
    · refine lv_goto (tgt := 961) hx hb dL_law_197 (by decide) ?_
      refine lv_iinc (v := nI (3 * (j + 1))) (lv' := [(4, .int (nI (3 * (j + 1)))), (6, .int ((aCome S 1 (xs (3 * j + 2))).2.1)), (5, .int ((aCome S 1 (xs (3 * j + 2))).1)), (3, .ref o), (2, .ref (M 0)), (1, .ref x), (0, .ref b)]) hx hb dL_law_961 hl (k := 2) rfl (nI_add _ 3) (by decide) rfl (fun ls hl => ?_)
      refine lv_goto (tgt := 23) hx hb dL_law_964 (by decide) ?_
      exact ih _ _ _ _ _ _ _ _ _ _ hLK (by rw [Nat.mul_succ]; exact (ok_come hok (by decide))) (by omega) (by omega) hS (lv_sub hl [0, 3, 4, 5, 6] rfl)
    · refine lv_aload_n hx hb dL_law_185 rfl (lv_at hl 3 rfl) ?_
      refine lv_iconst (v := 0) hx hb dL_law_186 (by decide) ?_
      refine gg_lald hx hb hG hLK.2.2.1 dL_law_187 ?_
      refine lv_iload hx hb dL_law_188 (lv_at hl 0 rfl) ?_
      refine lv_i2l hx hb dL_law_190 rfl ?_
      rw [hf1 c_182]
      refine gg_lcmp hx hb dL_law_191 ?_
      refine lv_if_eq (tgt := 197) hx hb dL_law_192 (by decide) (fun c_192 => ?_) (fun c_192 => absurd rfl c_192)
      refine lv_goto (tgt := 961) hx hb dL_law_197 (by decide) ?_
      refine lv_iinc (v := nI (3 * (j + 1))) (lv' := [(4, .int (nI (3 * (j + 1)))), (6, .int ((aCome S 1 (xs (3 * j + 2))).2.1)), (5, .int ((aCome S 1 (xs (3 * j + 2))).1)), (3, .ref o), (2, .ref (M 0)), (1, .ref x), (0, .ref b)]) hx hb dL_law_961 hl (k := 2) rfl (nI_add _ 3) (by decide) rfl (fun ls hl => ?_)
      refine lv_goto (tgt := 23) hx hb dL_law_964 (by decide) ?_
      exact ih _ _ _ _ _ _ _ _ _ _ hLK (by rw [Nat.mul_succ]; exact (ok_come hok (by decide))) (by omega) (by omega) hS (lv_sub hl [0, 3, 4, 5, 6] rfl)

set_option maxHeartbeats 4000000 in
theorem law_leave (l : Launch) (hl0 : l.stackTraces = false) (g : GT) {b L x o : Nat} {xs : Nat → Int32} {M B C : Nat → Nat} (hx : p.tables.exec = Jvm.exec) (hb : c.code = code) (hml : c.maxLocals = 9) (hown : s.vm.findClass "BridgeBellsLaw" = some m.cls) (hts : ∀ w ∈ lw_all, w.before #[Value.ref b] s = true) (hG : GG g s) (hXs : va_X b L xs s s.heap) (hbl : b < s.heap.size) (hbA : ¬ gA g b) (hL : L ≤ 192) (hD : MD g M B C) (hNo : gA g o) (j : Nat) (hj : 3 * j + 3 ≤ L) (ih : LWh p l e s m below meth c g b x o M B C (j + 1)) {F : Nat → Prop} {b0 : Nat} {th : Int32} {S : BS} {f : Nat → Int64} {H : Heap} {locs : List Loc} {cl9 sl9 : Nat} {ls : Array Slot} (hLI : LI g x o M B C F b0 th S S f H) (hok : OKS (240 * j) S) (hcl9 : cl9 ≤ 9000 * j + 20) (hsl9 : sl9 ≤ 110000 * j + 600) (hS : va_S (gA g) s.heap H locs) (hl : lv_has ls 9 [(4, .int (nI (3 * j))), (3, .ref o), (2, .ref (M 0)), (1, .ref x), (0, .ref b)]) : W p l e room_1 s m #[Value.ref b] below meth c H locs cl9 sl9 (lw_Z below #[Value.ref b] s) (F0 m 200 ls []) := by
  have hT : 240 * j < 2 ^ 29 := by omega
  refine lv_aload_n hx hb dL_law_200 rfl (lv_at hl 3 rfl) ?_
  refine lv_aload_n hx hb dL_law_201 rfl (lv_at hl 4 rfl) ?_
  refine lv_iload hx hb dL_law_202 (lv_at hl 0 rfl) ?_
  refine lv_iconst (v := 1) hx hb dL_law_204 (by decide) ?_
  refine lv_iadd hx hb dL_law_205 ?_
  refine gg_sld hx hb hXs hbl hbA hS (3 * j + 1) (by omega) hL (nI_add _ 1) dL_law_206 ?_
  refine lv_aload_n hx hb dL_law_207 rfl (lv_at hl 1 rfl) ?_
  refine va_calli (vx_runSW (As := [.ref x, .int (xs (3 * j + 1)), .ref o]) (rest := []) ⟨hx, hb, hml, hown, hts⟩ (met_X0_leave l hl0 g (240 * j) x b0 H.size o S F f hok (fun q h => (hLI.2.2.2.1 q h).1) (fun h => (hLI.2.2.2.1 o h).2.2 rfl) hLI.2.2.2.2.2 hNo (xs (3 * j + 1))) (vx_cwSW 3 hts (lw_SW q452 q453 q13 q454) rfl rfl rfl (by decide +kernel) ⟨Nat.le_of_ble_eq_true rfl, Nat.le_of_ble_eq_true rfl⟩) (gg_preS hG (hS.kp hG (fun _ h => h)) ⟨rfl, hLI.1, hLI.2.2.1⟩) rfl rfl hl.1 rfl (lv_room (Nat.le_of_ble_eq_true rfl)) dL_law_208 ⟨by show cl9 + 1 ≤ 600576; omega, by show sl9 + 6 ≤ 7279018; omega⟩) hS (fun q _ e => by rcases e with e | e | e; exact hLI.fg q e; rw [show q = o from e]; exact hNo; exact Nat.le_trans (hS.kp hG (fun _ h => h)).1 e) (fun q  e => by rcases e with e | e | e; exact hLI.fg q e; rw [show q = o from e]; exact hNo; exact Nat.le_trans (hS.kp hG (fun _ h => h)).1 e) (fun r9 u t9 H1 locs ht hvm hr9 hQ hz9 hk9 hS => ?_)
  rw [ht] at hQ
  obtain ⟨hXB1, f1, h_o1, hf1⟩ := hQ
  have hLJ := hLI.comp hz9 hXB1 h_o1 hk9
  subst hr9
  generalize (fun q => F q ∨ (H.size ≤ q ∧ q < H1.size)) = F1 at hLJ
  clear hXB1 h_o1 hk9 hLI ht hz9
  generalize H1 = H at hLJ hS ⊢
  refine lv_istore (lv' := [(5, .int ((aLeave S (xs (3 * j + 1))).1)), (4, .int (nI (3 * j))), (3, .ref o), (2, .ref (M 0)), (1, .ref x), (0, .ref b)]) hx hb dL_law_211 hl (by decide) rfl (fun ls hl => ?_)
  refine lv_aload_n hx hb dL_law_213 rfl (lv_at hl 3 rfl) ?_
  refine lv_aload_n hx hb dL_law_214 rfl (lv_at hl 5 rfl) ?_
  refine lv_iload hx hb dL_law_215 (lv_at hl 1 rfl) ?_
  refine lv_iconst (v := 1) hx hb dL_law_217 (by decide) ?_
  refine lv_iadd hx hb dL_law_218 ?_
  refine gg_sld hx hb hXs hbl hbA hS (3 * j + 1) (by omega) hL (nI_add _ 1) dL_law_219 ?_
  refine va_calli (va_runV (As := [.int (xs (3 * j + 1))]) (rest := []) ⟨hx, hb, hml, hown, hts⟩ (met_X4_leave l g (240 * j) M B C th S hok hD (xs (3 * j + 1))) (cwV 1 hts (lw_V q760 q761 q762 q21 q763) rfl rfl rfl (by decide +kernel) ⟨Nat.le_of_ble_eq_true rfl, Nat.le_of_ble_eq_true rfl⟩) (gg_preV hG (hS.kp hG (fun _ h => h)) (gg_recv hG hLJ.2.1.1.m0 rfl) hLJ.2.1) rfl rfl hl.1 rfl (lv_room (Nat.le_of_ble_eq_true rfl)) dL_law_220 ⟨by show cl9 + 1 + 0 ≤ 600576; omega, by show sl9 + 6 + 0 ≤ 7279018; omega⟩) hS (fun q _ e => hD.an q e) (fun q  e => hD.an q e) (fun r8 u t9 H1 locs ht hvm hr8 hQ hz9 hk9 hS => ?_)
  rw [ht] at hQ
  have hLK := hLJ.model hz9 hQ (fun q h8 h9 => hk9 q h8 (fun e => h9 (Or.inl e)))
  subst hr8
  clear hQ hk9 hLJ ht hz9
  generalize H1 = H at hLK hS ⊢
  refine lv_istore (lv' := [(6, .int ((aLeave S (xs (3 * j + 1))).2.1)), (5, .int ((aLeave S (xs (3 * j + 1))).1)), (4, .int (nI (3 * j))), (3, .ref o), (2, .ref (M 0)), (1, .ref x), (0, .ref b)]) hx hb dL_law_223 hl (by decide) rfl (fun ls hl => ?_)
  refine lv_aload_n hx hb dL_law_225 rfl (lv_at hl 4 rfl) ?_
  refine vp_callSi (va_Run.run (va_runV (As := []) (rest := []) ⟨hx, hb, hml, hown, hts⟩ (met_X4_thrown l g (M 0) (sN (aLeave S (xs (3 * j + 1))).2.2) (M 1) (M 2) (M 3) (M 4) (B 0) (C 0) (aLeave S (xs (3 * j + 1))).1) (cwV 0 hts (lw_V q745 q746 q747 q21 q748) rfl rfl rfl (by decide +kernel) ⟨Nat.le_of_ble_eq_true rfl, Nat.le_of_ble_eq_true rfl⟩) (gg_preV hG (hS.kp hG (fun _ h => h)) (gg_recv hG hLK.2.1.1.m0 rfl) hLK.2.1.1.m0) rfl rfl hl.1 rfl (lv_room (Nat.le_of_ble_eq_true rfl)) dL_law_226 ⟨by show cl9 + 1 + 0 + 0 ≤ 600576; omega, by show sl9 + 6 + 0 + 0 ≤ 7279018; omega⟩)) (fun r7 hr7 => ?_)
  subst hr7
  refine lv_iload hx hb dL_law_229 (lv_at hl 1 rfl) ?_
  refine lv_icmp_eq (tgt := 236) hx hb dL_law_231 (by decide) (fun c_231 => ?_) (fun c_231 => absurd rfl c_231)
  refine lv_iload hx hb dL_law_236 (lv_at hl 1 rfl) ?_
  refine lv_if_ne (tgt := 253) hx hb dL_law_238 (by decide) (fun c_238 => ?_) (fun c_238 => ?_)
  · refine lv_goto (tgt := 961) hx hb dL_law_253 (by decide) ?_
    refine lv_iinc (v := nI (3 * (j + 1))) (lv' := [(4, .int (nI (3 * (j + 1)))), (6, .int ((aLeave S (xs (3 * j + 1))).2.1)), (5, .int ((aLeave S (xs (3 * j + 1))).1)), (3, .ref o), (2, .ref (M 0)), (1, .ref x), (0, .ref b)]) hx hb dL_law_961 hl (k := 2) rfl (nI_add _ 3) (by decide) rfl (fun ls hl => ?_)
    refine lv_goto (tgt := 23) hx hb dL_law_964 (by decide) ?_
    exact ih _ _ _ _ _ _ _ _ _ _ hLK (by rw [Nat.mul_succ]; exact (ok_leave hok)) (by omega) (by omega) hS (lv_sub hl [0, 3, 4, 5, 6] rfl)
  · refine lv_aload_n hx hb dL_law_241 rfl (lv_at hl 3 rfl) ?_
    refine lv_iconst (v := 0) hx hb dL_law_242 (by decide) ?_
    refine gg_lald hx hb hG hLK.2.2.1 dL_law_243 ?_
    refine lv_iload hx hb dL_law_244 (lv_at hl 0 rfl) ?_
    refine lv_i2l hx hb dL_law_246 rfl ?_
    rw [hf1 c_238]
    refine gg_lcmp hx hb dL_law_247 ?_
    refine lv_if_eq (tgt := 253) hx hb dL_law_248 (by decide) (fun c_248 => ?_) (fun c_248 => absurd rfl c_248)
    refine lv_goto (tgt := 961) hx hb dL_law_253 (by decide) ?_
    refine lv_iinc (v := nI (3 * (j + 1))) (lv' := [(4, .int (nI (3 * (j + 1)))), (6, .int ((aLeave S (xs (3 * j + 1))).2.1)), (5, .int ((aLeave S (xs (3 * j + 1))).1)), (3, .ref o), (2, .ref (M 0)), (1, .ref x), (0, .ref b)]) hx hb dL_law_961 hl (k := 2) rfl (nI_add _ 3) (by decide) rfl (fun ls hl => ?_)
    refine lv_goto (tgt := 23) hx hb dL_law_964 (by decide) ?_
    exact ih _ _ _ _ _ _ _ _ _ _ hLK (by rw [Nat.mul_succ]; exact (ok_leave hok)) (by omega) (by omega) hS (lv_sub hl [0, 3, 4, 5, 6] rfl)

set_option maxHeartbeats 4000000 in
theorem law_ring (l : Launch) (hl0 : l.stackTraces = false) (g : GT) {b L x o : Nat} {xs : Nat → Int32} {M B C : Nat → Nat} (hx : p.tables.exec = Jvm.exec) (hb : c.code = code) (hml : c.maxLocals = 9) (hown : s.vm.findClass "BridgeBellsLaw" = some m.cls) (hts : ∀ w ∈ lw_all, w.before #[Value.ref b] s = true) (hG : GG g s) (hXs : va_X b L xs s s.heap) (hbl : b < s.heap.size) (hbA : ¬ gA g b) (hL : L ≤ 192) (hD : MD g M B C) (hNo : gA g o) (j : Nat) (hj : 3 * j + 3 ≤ L) (ih : LWh p l e s m below meth c g b x o M B C (j + 1)) {F : Nat → Prop} {b0 : Nat} {th : Int32} {S : BS} {f : Nat → Int64} {H : Heap} {locs : List Loc} {cl9 sl9 : Nat} {ls : Array Slot} (hLI : LI g x o M B C F b0 th S S f H) (hok : OKS (240 * j) S) (hcl9 : cl9 ≤ 9000 * j + 20) (hsl9 : sl9 ≤ 110000 * j + 600) (hS : va_S (gA g) s.heap H locs) (hl : lv_has ls 9 [(4, .int (nI (3 * j))), (3, .ref o), (2, .ref (M 0)), (1, .ref x), (0, .ref b)]) : W p l e room_1 s m #[Value.ref b] below meth c H locs cl9 sl9 (lw_Z below #[Value.ref b] s) (F0 m 256 ls []) := by
  have hT : 240 * j < 2 ^ 29 := by omega
  refine lv_aload_n hx hb dL_law_256 rfl (lv_at hl 3 rfl) ?_
  refine lv_aload_n hx hb dL_law_257 rfl (lv_at hl 4 rfl) ?_
  refine lv_iload hx hb dL_law_258 (lv_at hl 0 rfl) ?_
  refine lv_iconst (v := 1) hx hb dL_law_260 (by decide) ?_
  refine lv_iadd hx hb dL_law_261 ?_
  refine gg_sld hx hb hXs hbl hbA hS (3 * j + 1) (by omega) hL (nI_add _ 1) dL_law_262 ?_
  refine lv_aload_n hx hb dL_law_263 rfl (lv_at hl 1 rfl) ?_
  refine va_calli (vx_runSW (As := [.ref x, .int (xs (3 * j + 1)), .ref o]) (rest := []) ⟨hx, hb, hml, hown, hts⟩ (met_X0_ring l hl0 g (240 * j) x b0 H.size o S F f hok (fun q h => (hLI.2.2.2.1 q h).1) (fun h => (hLI.2.2.2.1 o h).2.2 rfl) hLI.2.2.2.2.2 hNo (xs (3 * j + 1))) (vx_cwSW 3 hts (lw_SW q532 q533 q13 q534) rfl rfl rfl (by decide +kernel) ⟨Nat.le_of_ble_eq_true rfl, Nat.le_of_ble_eq_true rfl⟩) (gg_preS hG (hS.kp hG (fun _ h => h)) ⟨rfl, hLI.1, hLI.2.2.1⟩) rfl rfl hl.1 rfl (lv_room (Nat.le_of_ble_eq_true rfl)) dL_law_264 ⟨by show cl9 + 1 ≤ 600576; omega, by show sl9 + 6 ≤ 7279018; omega⟩) hS (fun q _ e => by rcases e with e | e | e; exact hLI.fg q e; rw [show q = o from e]; exact hNo; exact Nat.le_trans (hS.kp hG (fun _ h => h)).1 e) (fun q  e => by rcases e with e | e | e; exact hLI.fg q e; rw [show q = o from e]; exact hNo; exact Nat.le_trans (hS.kp hG (fun _ h => h)).1 e) (fun r9 u t9 H1 locs ht hvm hr9 hQ hz9 hk9 hS => ?_)
  rw [ht] at hQ
  obtain ⟨hXB1, f1, h_o1, hf1⟩ := hQ
  have hLJ := hLI.comp hz9 hXB1 h_o1 hk9
  subst hr9
  generalize (fun q => F q ∨ (H.size ≤ q ∧ q < H1.size)) = F1 at hLJ
  clear hXB1 h_o1 hk9 hLI ht hz9
  generalize H1 = H at hLJ hS ⊢
  refine lv_istore (lv' := [(5, .int ((aRing S (xs (3 * j + 1))).1)), (4, .int (nI (3 * j))), (3, .ref o), (2, .ref (M 0)), (1, .ref x), (0, .ref b)]) hx hb dL_law_267 hl (by decide) rfl (fun ls hl => ?_)
  refine lv_aload_n hx hb dL_law_269 rfl (lv_at hl 3 rfl) ?_
  refine lv_aload_n hx hb dL_law_270 rfl (lv_at hl 5 rfl) ?_
  refine lv_iload hx hb dL_law_271 (lv_at hl 1 rfl) ?_
  refine lv_iconst (v := 1) hx hb dL_law_273 (by decide) ?_
  refine lv_iadd hx hb dL_law_274 ?_
  refine gg_sld hx hb hXs hbl hbA hS (3 * j + 1) (by omega) hL (nI_add _ 1) dL_law_275 ?_
  refine va_calli (va_runV (As := [.int (xs (3 * j + 1))]) (rest := []) ⟨hx, hb, hml, hown, hts⟩ (met_X4_ring l g (240 * j) M B C th S hok hD (xs (3 * j + 1))) (cwV 1 hts (lw_V q768 q769 q770 q21 q771) rfl rfl rfl (by decide +kernel) ⟨Nat.le_of_ble_eq_true rfl, Nat.le_of_ble_eq_true rfl⟩) (gg_preV hG (hS.kp hG (fun _ h => h)) (gg_recv hG hLJ.2.1.1.m0 rfl) hLJ.2.1) rfl rfl hl.1 rfl (lv_room (Nat.le_of_ble_eq_true rfl)) dL_law_276 ⟨by show cl9 + 1 + 0 ≤ 600576; omega, by show sl9 + 6 + 0 ≤ 7279018; omega⟩) hS (fun q _ e => hD.an q e) (fun q  e => hD.an q e) (fun r8 u t9 H1 locs ht hvm hr8 hQ hz9 hk9 hS => ?_)
  rw [ht] at hQ
  have hLK := hLJ.model hz9 hQ (fun q h8 h9 => hk9 q h8 (fun e => h9 (Or.inl e)))
  subst hr8
  clear hQ hk9 hLJ ht hz9
  generalize H1 = H at hLK hS ⊢
  refine lv_istore (lv' := [(6, .int ((aRing S (xs (3 * j + 1))).2.1)), (5, .int ((aRing S (xs (3 * j + 1))).1)), (4, .int (nI (3 * j))), (3, .ref o), (2, .ref (M 0)), (1, .ref x), (0, .ref b)]) hx hb dL_law_279 hl (by decide) rfl (fun ls hl => ?_)
  refine lv_aload_n hx hb dL_law_281 rfl (lv_at hl 4 rfl) ?_
  refine vp_callSi (va_Run.run (va_runV (As := []) (rest := []) ⟨hx, hb, hml, hown, hts⟩ (met_X4_thrown l g (M 0) (sN (aRing S (xs (3 * j + 1))).2.2) (M 1) (M 2) (M 3) (M 4) (B 0) (C 0) (aRing S (xs (3 * j + 1))).1) (cwV 0 hts (lw_V q745 q746 q747 q21 q748) rfl rfl rfl (by decide +kernel) ⟨Nat.le_of_ble_eq_true rfl, Nat.le_of_ble_eq_true rfl⟩) (gg_preV hG (hS.kp hG (fun _ h => h)) (gg_recv hG hLK.2.1.1.m0 rfl) hLK.2.1.1.m0) rfl rfl hl.1 rfl (lv_room (Nat.le_of_ble_eq_true rfl)) dL_law_282 ⟨by show cl9 + 1 + 0 + 0 ≤ 600576; omega, by show sl9 + 6 + 0 + 0 ≤ 7279018; omega⟩)) (fun r7 hr7 => ?_)
  subst hr7
  refine lv_iload hx hb dL_law_285 (lv_at hl 1 rfl) ?_
  refine lv_icmp_eq (tgt := 292) hx hb dL_law_287 (by decide) (fun c_287 => ?_) (fun c_287 => absurd rfl c_287)
  refine lv_iload hx hb dL_law_292 (lv_at hl 1 rfl) ?_
  refine lv_if_ne (tgt := 309) hx hb dL_law_294 (by decide) (fun c_294 => ?_) (fun c_294 => ?_)
  · refine lv_goto (tgt := 961) hx hb dL_law_309 (by decide) ?_
    refine lv_iinc (v := nI (3 * (j + 1))) (lv' := [(4, .int (nI (3 * (j + 1)))), (6, .int ((aRing S (xs (3 * j + 1))).2.1)), (5, .int ((aRing S (xs (3 * j + 1))).1)), (3, .ref o), (2, .ref (M 0)), (1, .ref x), (0, .ref b)]) hx hb dL_law_961 hl (k := 2) rfl (nI_add _ 3) (by decide) rfl (fun ls hl => ?_)
    refine lv_goto (tgt := 23) hx hb dL_law_964 (by decide) ?_
    exact ih _ _ _ _ _ _ _ _ _ _ hLK (by rw [Nat.mul_succ]; exact (ok_ring hok)) (by omega) (by omega) hS (lv_sub hl [0, 3, 4, 5, 6] rfl)
  · refine lv_aload_n hx hb dL_law_297 rfl (lv_at hl 3 rfl) ?_
    refine lv_iconst (v := 0) hx hb dL_law_298 (by decide) ?_
    refine gg_lald hx hb hG hLK.2.2.1 dL_law_299 ?_
    refine lv_iload hx hb dL_law_300 (lv_at hl 0 rfl) ?_
    refine lv_i2l hx hb dL_law_302 rfl ?_
    rw [hf1 c_294]
    refine gg_lcmp hx hb dL_law_303 ?_
    refine lv_if_eq (tgt := 309) hx hb dL_law_304 (by decide) (fun c_304 => ?_) (fun c_304 => absurd rfl c_304)
    refine lv_goto (tgt := 961) hx hb dL_law_309 (by decide) ?_
    refine lv_iinc (v := nI (3 * (j + 1))) (lv' := [(4, .int (nI (3 * (j + 1)))), (6, .int ((aRing S (xs (3 * j + 1))).2.1)), (5, .int ((aRing S (xs (3 * j + 1))).1)), (3, .ref o), (2, .ref (M 0)), (1, .ref x), (0, .ref b)]) hx hb dL_law_961 hl (k := 2) rfl (nI_add _ 3) (by decide) rfl (fun ls hl => ?_)
    refine lv_goto (tgt := 23) hx hb dL_law_964 (by decide) ?_
    exact ih _ _ _ _ _ _ _ _ _ _ hLK (by rw [Nat.mul_succ]; exact (ok_ring hok)) (by omega) (by omega) hS (lv_sub hl [0, 3, 4, 5, 6] rfl)

set_option maxHeartbeats 4000000 in
theorem law_poise (l : Launch) (hl0 : l.stackTraces = false) (g : GT) {b L x o : Nat} {xs : Nat → Int32} {M B C : Nat → Nat} (hx : p.tables.exec = Jvm.exec) (hb : c.code = code) (hml : c.maxLocals = 9) (hown : s.vm.findClass "BridgeBellsLaw" = some m.cls) (hts : ∀ w ∈ lw_all, w.before #[Value.ref b] s = true) (hG : GG g s) (hXs : va_X b L xs s s.heap) (hbl : b < s.heap.size) (hbA : ¬ gA g b) (hL : L ≤ 192) (hD : MD g M B C) (hNo : gA g o) (j : Nat) (hj : 3 * j + 3 ≤ L) (ih : LWh p l e s m below meth c g b x o M B C (j + 1)) {F : Nat → Prop} {b0 : Nat} {th : Int32} {S : BS} {f : Nat → Int64} {H : Heap} {locs : List Loc} {cl9 sl9 : Nat} {ls : Array Slot} (hLI : LI g x o M B C F b0 th S S f H) (hok : OKS (240 * j) S) (hcl9 : cl9 ≤ 9000 * j + 20) (hsl9 : sl9 ≤ 110000 * j + 600) (hS : va_S (gA g) s.heap H locs) (hl : lv_has ls 9 [(4, .int (nI (3 * j))), (3, .ref o), (2, .ref (M 0)), (1, .ref x), (0, .ref b)]) : W p l e room_1 s m #[Value.ref b] below meth c H locs cl9 sl9 (lw_Z below #[Value.ref b] s) (F0 m 312 ls []) := by
  have hT : 240 * j < 2 ^ 29 := by omega
  refine lv_aload_n hx hb dL_law_312 rfl (lv_at hl 3 rfl) ?_
  refine lv_aload_n hx hb dL_law_313 rfl (lv_at hl 4 rfl) ?_
  refine lv_iload hx hb dL_law_314 (lv_at hl 0 rfl) ?_
  refine lv_iconst (v := 1) hx hb dL_law_316 (by decide) ?_
  refine lv_iadd hx hb dL_law_317 ?_
  refine gg_sld hx hb hXs hbl hbA hS (3 * j + 1) (by omega) hL (nI_add _ 1) dL_law_318 ?_
  refine lv_aload_n hx hb dL_law_319 rfl (lv_at hl 1 rfl) ?_
  refine va_calli (vx_runSW (As := [.ref x, .int (xs (3 * j + 1)), .ref o]) (rest := []) ⟨hx, hb, hml, hown, hts⟩ (met_X0_poise l hl0 g (240 * j) x b0 H.size o S F f hok (fun q h => (hLI.2.2.2.1 q h).1) (fun h => (hLI.2.2.2.1 o h).2.2 rfl) hLI.2.2.2.2.2 hNo (xs (3 * j + 1))) (vx_cwSW 3 hts (lw_SW q552 q553 q13 q554) rfl rfl rfl (by decide +kernel) ⟨Nat.le_of_ble_eq_true rfl, Nat.le_of_ble_eq_true rfl⟩) (gg_preS hG (hS.kp hG (fun _ h => h)) ⟨rfl, hLI.1, hLI.2.2.1⟩) rfl rfl hl.1 rfl (lv_room (Nat.le_of_ble_eq_true rfl)) dL_law_320 ⟨by show cl9 + 1 ≤ 600576; omega, by show sl9 + 6 ≤ 7279018; omega⟩) hS (fun q _ e => by rcases e with e | e | e; exact hLI.fg q e; rw [show q = o from e]; exact hNo; exact Nat.le_trans (hS.kp hG (fun _ h => h)).1 e) (fun q  e => by rcases e with e | e | e; exact hLI.fg q e; rw [show q = o from e]; exact hNo; exact Nat.le_trans (hS.kp hG (fun _ h => h)).1 e) (fun r9 u t9 H1 locs ht hvm hr9 hQ hz9 hk9 hS => ?_)
  rw [ht] at hQ
  obtain ⟨hXB1, f1, h_o1, hf1⟩ := hQ
  have hLJ := hLI.comp hz9 hXB1 h_o1 hk9
  subst hr9
  generalize (fun q => F q ∨ (H.size ≤ q ∧ q < H1.size)) = F1 at hLJ
  clear hXB1 h_o1 hk9 hLI ht hz9
  generalize H1 = H at hLJ hS ⊢
  refine lv_istore (lv' := [(5, .int ((aPoise S (xs (3 * j + 1))).1)), (4, .int (nI (3 * j))), (3, .ref o), (2, .ref (M 0)), (1, .ref x), (0, .ref b)]) hx hb dL_law_323 hl (by decide) rfl (fun ls hl => ?_)
  refine lv_aload_n hx hb dL_law_325 rfl (lv_at hl 3 rfl) ?_
  refine lv_aload_n hx hb dL_law_326 rfl (lv_at hl 5 rfl) ?_
  refine lv_iload hx hb dL_law_327 (lv_at hl 1 rfl) ?_
  refine lv_iconst (v := 1) hx hb dL_law_329 (by decide) ?_
  refine lv_iadd hx hb dL_law_330 ?_
  refine gg_sld hx hb hXs hbl hbA hS (3 * j + 1) (by omega) hL (nI_add _ 1) dL_law_331 ?_
  refine va_calli (va_runV (As := [.int (xs (3 * j + 1))]) (rest := []) ⟨hx, hb, hml, hown, hts⟩ (met_X4_poise l g (240 * j) M B C th S hok hD (xs (3 * j + 1))) (cwV 1 hts (lw_V q772 q773 q774 q21 q775) rfl rfl rfl (by decide +kernel) ⟨Nat.le_of_ble_eq_true rfl, Nat.le_of_ble_eq_true rfl⟩) (gg_preV hG (hS.kp hG (fun _ h => h)) (gg_recv hG hLJ.2.1.1.m0 rfl) hLJ.2.1) rfl rfl hl.1 rfl (lv_room (Nat.le_of_ble_eq_true rfl)) dL_law_332 ⟨by show cl9 + 1 + 0 ≤ 600576; omega, by show sl9 + 6 + 0 ≤ 7279018; omega⟩) hS (fun q _ e => hD.an q e) (fun q  e => hD.an q e) (fun r8 u t9 H1 locs ht hvm hr8 hQ hz9 hk9 hS => ?_)
  rw [ht] at hQ
  have hLK := hLJ.model hz9 hQ (fun q h8 h9 => hk9 q h8 (fun e => h9 (Or.inl e)))
  subst hr8
  clear hQ hk9 hLJ ht hz9
  generalize H1 = H at hLK hS ⊢
  refine lv_istore (lv' := [(6, .int ((aPoise S (xs (3 * j + 1))).2.1)), (5, .int ((aPoise S (xs (3 * j + 1))).1)), (4, .int (nI (3 * j))), (3, .ref o), (2, .ref (M 0)), (1, .ref x), (0, .ref b)]) hx hb dL_law_335 hl (by decide) rfl (fun ls hl => ?_)
  refine lv_aload_n hx hb dL_law_337 rfl (lv_at hl 4 rfl) ?_
  refine vp_callSi (va_Run.run (va_runV (As := []) (rest := []) ⟨hx, hb, hml, hown, hts⟩ (met_X4_thrown l g (M 0) (sN (aPoise S (xs (3 * j + 1))).2.2) (M 1) (M 2) (M 3) (M 4) (B 0) (C 0) (aPoise S (xs (3 * j + 1))).1) (cwV 0 hts (lw_V q745 q746 q747 q21 q748) rfl rfl rfl (by decide +kernel) ⟨Nat.le_of_ble_eq_true rfl, Nat.le_of_ble_eq_true rfl⟩) (gg_preV hG (hS.kp hG (fun _ h => h)) (gg_recv hG hLK.2.1.1.m0 rfl) hLK.2.1.1.m0) rfl rfl hl.1 rfl (lv_room (Nat.le_of_ble_eq_true rfl)) dL_law_338 ⟨by show cl9 + 1 + 0 + 0 ≤ 600576; omega, by show sl9 + 6 + 0 + 0 ≤ 7279018; omega⟩)) (fun r7 hr7 => ?_)
  subst hr7
  refine lv_iload hx hb dL_law_341 (lv_at hl 1 rfl) ?_
  refine lv_icmp_eq (tgt := 348) hx hb dL_law_343 (by decide) (fun c_343 => ?_) (fun c_343 => absurd rfl c_343)
  refine lv_iload hx hb dL_law_348 (lv_at hl 1 rfl) ?_
  refine lv_if_ne (tgt := 365) hx hb dL_law_350 (by decide) (fun c_350 => ?_) (fun c_350 => ?_)
  · refine lv_goto (tgt := 961) hx hb dL_law_365 (by decide) ?_
    refine lv_iinc (v := nI (3 * (j + 1))) (lv' := [(4, .int (nI (3 * (j + 1)))), (6, .int ((aPoise S (xs (3 * j + 1))).2.1)), (5, .int ((aPoise S (xs (3 * j + 1))).1)), (3, .ref o), (2, .ref (M 0)), (1, .ref x), (0, .ref b)]) hx hb dL_law_961 hl (k := 2) rfl (nI_add _ 3) (by decide) rfl (fun ls hl => ?_)
    refine lv_goto (tgt := 23) hx hb dL_law_964 (by decide) ?_
    exact ih _ _ _ _ _ _ _ _ _ _ hLK (by rw [Nat.mul_succ]; exact (ok_poise hok)) (by omega) (by omega) hS (lv_sub hl [0, 3, 4, 5, 6] rfl)
  · refine lv_aload_n hx hb dL_law_353 rfl (lv_at hl 3 rfl) ?_
    refine lv_iconst (v := 0) hx hb dL_law_354 (by decide) ?_
    refine gg_lald hx hb hG hLK.2.2.1 dL_law_355 ?_
    refine lv_iload hx hb dL_law_356 (lv_at hl 0 rfl) ?_
    refine lv_i2l hx hb dL_law_358 rfl ?_
    rw [hf1 c_350]
    refine gg_lcmp hx hb dL_law_359 ?_
    refine lv_if_eq (tgt := 365) hx hb dL_law_360 (by decide) (fun c_360 => ?_) (fun c_360 => absurd rfl c_360)
    refine lv_goto (tgt := 961) hx hb dL_law_365 (by decide) ?_
    refine lv_iinc (v := nI (3 * (j + 1))) (lv' := [(4, .int (nI (3 * (j + 1)))), (6, .int ((aPoise S (xs (3 * j + 1))).2.1)), (5, .int ((aPoise S (xs (3 * j + 1))).1)), (3, .ref o), (2, .ref (M 0)), (1, .ref x), (0, .ref b)]) hx hb dL_law_961 hl (k := 2) rfl (nI_add _ 3) (by decide) rfl (fun ls hl => ?_)
    refine lv_goto (tgt := 23) hx hb dL_law_964 (by decide) ?_
    exact ih _ _ _ _ _ _ _ _ _ _ hLK (by rw [Nat.mul_succ]; exact (ok_poise hok)) (by omega) (by omega) hS (lv_sub hl [0, 3, 4, 5, 6] rfl)

set_option maxHeartbeats 4000000 in
theorem law_setCold (l : Launch) (hl0 : l.stackTraces = false) (g : GT) {b L x o : Nat} {xs : Nat → Int32} {M B C : Nat → Nat} (hx : p.tables.exec = Jvm.exec) (hb : c.code = code) (hml : c.maxLocals = 9) (hown : s.vm.findClass "BridgeBellsLaw" = some m.cls) (hts : ∀ w ∈ lw_all, w.before #[Value.ref b] s = true) (hG : GG g s) (hXs : va_X b L xs s s.heap) (hbl : b < s.heap.size) (hbA : ¬ gA g b) (hL : L ≤ 192) (hD : MD g M B C) (hNo : gA g o) (j : Nat) (hj : 3 * j + 3 ≤ L) (ih : LWh p l e s m below meth c g b x o M B C (j + 1)) {F : Nat → Prop} {b0 : Nat} {th : Int32} {S : BS} {f : Nat → Int64} {H : Heap} {locs : List Loc} {cl9 sl9 : Nat} {ls : Array Slot} (hLI : LI g x o M B C F b0 th S S f H) (hok : OKS (240 * j) S) (hcl9 : cl9 ≤ 9000 * j + 20) (hsl9 : sl9 ≤ 110000 * j + 600) (hS : va_S (gA g) s.heap H locs) (hl : lv_has ls 9 [(4, .int (nI (3 * j))), (3, .ref o), (2, .ref (M 0)), (1, .ref x), (0, .ref b)]) : W p l e room_1 s m #[Value.ref b] below meth c H locs cl9 sl9 (lw_Z below #[Value.ref b] s) (F0 m 368 ls []) := by
  have hT : 240 * j < 2 ^ 29 := by omega
  refine lv_aload_n hx hb dL_law_368 rfl (lv_at hl 3 rfl) ?_
  refine lv_aload_n hx hb dL_law_369 rfl (lv_at hl 4 rfl) ?_
  refine lv_iload hx hb dL_law_370 (lv_at hl 0 rfl) ?_
  refine lv_iconst (v := 1) hx hb dL_law_372 (by decide) ?_
  refine lv_iadd hx hb dL_law_373 ?_
  refine gg_sld hx hb hXs hbl hbA hS (3 * j + 1) (by omega) hL (nI_add _ 1) dL_law_374 ?_
  refine lv_aload_n hx hb dL_law_375 rfl (lv_at hl 4 rfl) ?_
  refine lv_iload hx hb dL_law_376 (lv_at hl 0 rfl) ?_
  refine lv_iconst (v := 2) hx hb dL_law_378 (by decide) ?_
  refine lv_iadd hx hb dL_law_379 ?_
  refine gg_sld hx hb hXs hbl hbA hS (3 * j + 2) (by omega) hL (nI_add _ 2) dL_law_380 ?_
  refine lv_aload_n hx hb dL_law_381 rfl (lv_at hl 1 rfl) ?_
  refine va_calli (vx_runSW (As := [.ref x, .int (xs (3 * j + 1)), .int (xs (3 * j + 2)), .ref o]) (rest := []) ⟨hx, hb, hml, hown, hts⟩ (met_X0_setCold l hl0 g (240 * j) x b0 H.size o S F f hok (fun q h => (hLI.2.2.2.1 q h).1) (fun h => (hLI.2.2.2.1 o h).2.2 rfl) hLI.2.2.2.2.2 hNo (xs (3 * j + 1)) (xs (3 * j + 2))) (vx_cwSW 4 hts (lw_SW q559 q560 q13 q561) rfl rfl rfl (by decide +kernel) ⟨Nat.le_of_ble_eq_true rfl, Nat.le_of_ble_eq_true rfl⟩) (gg_preS hG (hS.kp hG (fun _ h => h)) ⟨rfl, hLI.1, hLI.2.2.1⟩) rfl rfl hl.1 rfl (lv_room (Nat.le_of_ble_eq_true rfl)) dL_law_382 ⟨by show cl9 + 1 ≤ 600576; omega, by show sl9 + 6 ≤ 7279018; omega⟩) hS (fun q _ e => by rcases e with e | e | e; exact hLI.fg q e; rw [show q = o from e]; exact hNo; exact Nat.le_trans (hS.kp hG (fun _ h => h)).1 e) (fun q  e => by rcases e with e | e | e; exact hLI.fg q e; rw [show q = o from e]; exact hNo; exact Nat.le_trans (hS.kp hG (fun _ h => h)).1 e) (fun r9 u t9 H1 locs ht hvm hr9 hQ hz9 hk9 hS => ?_)
  rw [ht] at hQ
  obtain ⟨hXB1, f1, h_o1, hf1⟩ := hQ
  have hLJ := hLI.comp hz9 hXB1 h_o1 hk9
  subst hr9
  generalize (fun q => F q ∨ (H.size ≤ q ∧ q < H1.size)) = F1 at hLJ
  clear hXB1 h_o1 hk9 hLI ht hz9
  generalize H1 = H at hLJ hS ⊢
  refine lv_istore (lv' := [(5, .int ((aCold S (xs (3 * j + 1)) (xs (3 * j + 2))).1)), (4, .int (nI (3 * j))), (3, .ref o), (2, .ref (M 0)), (1, .ref x), (0, .ref b)]) hx hb dL_law_385 hl (by decide) rfl (fun ls hl => ?_)
  refine lv_aload_n hx hb dL_law_387 rfl (lv_at hl 3 rfl) ?_
  refine lv_aload_n hx hb dL_law_388 rfl (lv_at hl 5 rfl) ?_
  refine lv_iload hx hb dL_law_389 (lv_at hl 1 rfl) ?_
  refine lv_iconst (v := 1) hx hb dL_law_391 (by decide) ?_
  refine lv_iadd hx hb dL_law_392 ?_
  refine gg_sld hx hb hXs hbl hbA hS (3 * j + 1) (by omega) hL (nI_add _ 1) dL_law_393 ?_
  refine lv_aload_n hx hb dL_law_394 rfl (lv_at hl 5 rfl) ?_
  refine lv_iload hx hb dL_law_395 (lv_at hl 1 rfl) ?_
  refine lv_iconst (v := 2) hx hb dL_law_397 (by decide) ?_
  refine lv_iadd hx hb dL_law_398 ?_
  refine gg_sld hx hb hXs hbl hbA hS (3 * j + 2) (by omega) hL (nI_add _ 2) dL_law_399 ?_
  refine va_calli (va_runV (As := [.int (xs (3 * j + 1)), .int (xs (3 * j + 2))]) (rest := []) ⟨hx, hb, hml, hown, hts⟩ (met_X4_setCold l g (240 * j) M B C th S hok hD (xs (3 * j + 1)) (xs (3 * j + 2))) (cwV 2 hts (lw_V q776 q777 q778 q21 q779) rfl rfl rfl (by decide +kernel) ⟨Nat.le_of_ble_eq_true rfl, Nat.le_of_ble_eq_true rfl⟩) (gg_preV hG (hS.kp hG (fun _ h => h)) (gg_recv hG hLJ.2.1.1.m0 rfl) hLJ.2.1) rfl rfl hl.1 rfl (lv_room (Nat.le_of_ble_eq_true rfl)) dL_law_400 ⟨by show cl9 + 1 + 0 ≤ 600576; omega, by show sl9 + 6 + 0 ≤ 7279018; omega⟩) hS (fun q _ e => hD.an q e) (fun q  e => hD.an q e) (fun r8 u t9 H1 locs ht hvm hr8 hQ hz9 hk9 hS => ?_)
  rw [ht] at hQ
  have hLK := hLJ.model hz9 hQ (fun q h8 h9 => hk9 q h8 (fun e => h9 (Or.inl e)))
  subst hr8
  clear hQ hk9 hLJ ht hz9
  generalize H1 = H at hLK hS ⊢
  refine lv_istore (lv' := [(6, .int ((aCold S (xs (3 * j + 1)) (xs (3 * j + 2))).2.1)), (5, .int ((aCold S (xs (3 * j + 1)) (xs (3 * j + 2))).1)), (4, .int (nI (3 * j))), (3, .ref o), (2, .ref (M 0)), (1, .ref x), (0, .ref b)]) hx hb dL_law_403 hl (by decide) rfl (fun ls hl => ?_)
  refine lv_aload_n hx hb dL_law_405 rfl (lv_at hl 4 rfl) ?_
  refine vp_callSi (va_Run.run (va_runV (As := []) (rest := []) ⟨hx, hb, hml, hown, hts⟩ (met_X4_thrown l g (M 0) (sN (aCold S (xs (3 * j + 1)) (xs (3 * j + 2))).2.2) (M 1) (M 2) (M 3) (M 4) (B 0) (C 0) (aCold S (xs (3 * j + 1)) (xs (3 * j + 2))).1) (cwV 0 hts (lw_V q745 q746 q747 q21 q748) rfl rfl rfl (by decide +kernel) ⟨Nat.le_of_ble_eq_true rfl, Nat.le_of_ble_eq_true rfl⟩) (gg_preV hG (hS.kp hG (fun _ h => h)) (gg_recv hG hLK.2.1.1.m0 rfl) hLK.2.1.1.m0) rfl rfl hl.1 rfl (lv_room (Nat.le_of_ble_eq_true rfl)) dL_law_406 ⟨by show cl9 + 1 + 0 + 0 ≤ 600576; omega, by show sl9 + 6 + 0 + 0 ≤ 7279018; omega⟩)) (fun r7 hr7 => ?_)
  subst hr7
  refine lv_iload hx hb dL_law_409 (lv_at hl 1 rfl) ?_
  refine lv_icmp_eq (tgt := 416) hx hb dL_law_411 (by decide) (fun c_411 => ?_) (fun c_411 => absurd rfl c_411)
  refine lv_iload hx hb dL_law_416 (lv_at hl 1 rfl) ?_
  refine lv_if_ne (tgt := 433) hx hb dL_law_418 (by decide) (fun c_418 => ?_) (fun c_418 => ?_)
  · refine lv_goto (tgt := 961) hx hb dL_law_433 (by decide) ?_
    refine lv_iinc (v := nI (3 * (j + 1))) (lv' := [(4, .int (nI (3 * (j + 1)))), (6, .int ((aCold S (xs (3 * j + 1)) (xs (3 * j + 2))).2.1)), (5, .int ((aCold S (xs (3 * j + 1)) (xs (3 * j + 2))).1)), (3, .ref o), (2, .ref (M 0)), (1, .ref x), (0, .ref b)]) hx hb dL_law_961 hl (k := 2) rfl (nI_add _ 3) (by decide) rfl (fun ls hl => ?_)
    refine lv_goto (tgt := 23) hx hb dL_law_964 (by decide) ?_
    exact ih _ _ _ _ _ _ _ _ _ _ hLK (by rw [Nat.mul_succ]; exact (ok_setCold hok)) (by omega) (by omega) hS (lv_sub hl [0, 3, 4, 5, 6] rfl)
  · refine lv_aload_n hx hb dL_law_421 rfl (lv_at hl 3 rfl) ?_
    refine lv_iconst (v := 0) hx hb dL_law_422 (by decide) ?_
    refine gg_lald hx hb hG hLK.2.2.1 dL_law_423 ?_
    refine lv_iload hx hb dL_law_424 (lv_at hl 0 rfl) ?_
    refine lv_i2l hx hb dL_law_426 rfl ?_
    rw [hf1 c_418]
    refine gg_lcmp hx hb dL_law_427 ?_
    refine lv_if_eq (tgt := 433) hx hb dL_law_428 (by decide) (fun c_428 => ?_) (fun c_428 => absurd rfl c_428)
    refine lv_goto (tgt := 961) hx hb dL_law_433 (by decide) ?_
    refine lv_iinc (v := nI (3 * (j + 1))) (lv' := [(4, .int (nI (3 * (j + 1)))), (6, .int ((aCold S (xs (3 * j + 1)) (xs (3 * j + 2))).2.1)), (5, .int ((aCold S (xs (3 * j + 1)) (xs (3 * j + 2))).1)), (3, .ref o), (2, .ref (M 0)), (1, .ref x), (0, .ref b)]) hx hb dL_law_961 hl (k := 2) rfl (nI_add _ 3) (by decide) rfl (fun ls hl => ?_)
    refine lv_goto (tgt := 23) hx hb dL_law_964 (by decide) ?_
    exact ih _ _ _ _ _ _ _ _ _ _ hLK (by rw [Nat.mul_succ]; exact (ok_setCold hok)) (by omega) (by omega) hS (lv_sub hl [0, 3, 4, 5, 6] rfl)

set_option maxHeartbeats 4000000 in
theorem law_traveller (l : Launch) (hl0 : l.stackTraces = false) (g : GT) {b L x o : Nat} {xs : Nat → Int32} {M B C : Nat → Nat} (hx : p.tables.exec = Jvm.exec) (hb : c.code = code) (hml : c.maxLocals = 9) (hown : s.vm.findClass "BridgeBellsLaw" = some m.cls) (hts : ∀ w ∈ lw_all, w.before #[Value.ref b] s = true) (hG : GG g s) (hXs : va_X b L xs s s.heap) (hbl : b < s.heap.size) (hbA : ¬ gA g b) (hL : L ≤ 192) (hD : MD g M B C) (hNo : gA g o) (j : Nat) (hj : 3 * j + 3 ≤ L) (ih : LWh p l e s m below meth c g b x o M B C (j + 1)) {F : Nat → Prop} {b0 : Nat} {th : Int32} {S : BS} {f : Nat → Int64} {H : Heap} {locs : List Loc} {cl9 sl9 : Nat} {ls : Array Slot} (hLI : LI g x o M B C F b0 th S S f H) (hok : OKS (240 * j) S) (hcl9 : cl9 ≤ 9000 * j + 20) (hsl9 : sl9 ≤ 110000 * j + 600) (hS : va_S (gA g) s.heap H locs) (hl : lv_has ls 9 [(4, .int (nI (3 * j))), (3, .ref o), (2, .ref (M 0)), (1, .ref x), (0, .ref b)]) : W p l e room_1 s m #[Value.ref b] below meth c H locs cl9 sl9 (lw_Z below #[Value.ref b] s) (F0 m 449 ls []) := by
  have hT : 240 * j < 2 ^ 29 := by omega
  refine lv_aload_n hx hb dL_law_449 rfl (lv_at hl 3 rfl) ?_
  refine lv_aload_n hx hb dL_law_450 rfl (lv_at hl 4 rfl) ?_
  refine lv_iload hx hb dL_law_451 (lv_at hl 0 rfl) ?_
  refine lv_iconst (v := 1) hx hb dL_law_453 (by decide) ?_
  refine lv_iadd hx hb dL_law_454 ?_
  refine gg_sld hx hb hXs hbl hbA hS (3 * j + 1) (by omega) hL (nI_add _ 1) dL_law_455 ?_
  refine lv_aload_n hx hb dL_law_456 rfl (lv_at hl 4 rfl) ?_
  refine lv_iload hx hb dL_law_457 (lv_at hl 0 rfl) ?_
  refine lv_iconst (v := 2) hx hb dL_law_459 (by decide) ?_
  refine lv_iadd hx hb dL_law_460 ?_
  refine gg_sld hx hb hXs hbl hbA hS (3 * j + 2) (by omega) hL (nI_add _ 2) dL_law_461 ?_
  refine lv_aload_n hx hb dL_law_462 rfl (lv_at hl 1 rfl) ?_
  refine va_calli (vx_runSW (As := [.ref x, .int (xs (3 * j + 1)), .int (xs (3 * j + 2)), .ref o]) (rest := []) ⟨hx, hb, hml, hown, hts⟩ (met_X0_traveller l hl0 g (240 * j) x b0 H.size o S F f hok (fun q h => (hLI.2.2.2.1 q h).1) (fun h => (hLI.2.2.2.1 o h).2.2 rfl) hLI.2.2.2.2.2 hNo (xs (3 * j + 1)) (xs (3 * j + 2))) (vx_cwSW 4 hts (lw_SW q566 q567 q13 q568) rfl rfl rfl (by decide +kernel) ⟨Nat.le_of_ble_eq_true rfl, Nat.le_of_ble_eq_true rfl⟩) (gg_preS hG (hS.kp hG (fun _ h => h)) ⟨rfl, hLI.1, hLI.2.2.1⟩) rfl rfl hl.1 rfl (lv_room (Nat.le_of_ble_eq_true rfl)) dL_law_463 ⟨by show cl9 + 1 ≤ 600576; omega, by show sl9 + 6 ≤ 7279018; omega⟩) hS (fun q _ e => by rcases e with e | e | e; exact hLI.fg q e; rw [show q = o from e]; exact hNo; exact Nat.le_trans (hS.kp hG (fun _ h => h)).1 e) (fun q  e => by rcases e with e | e | e; exact hLI.fg q e; rw [show q = o from e]; exact hNo; exact Nat.le_trans (hS.kp hG (fun _ h => h)).1 e) (fun r9 u t9 H1 locs ht hvm hr9 hQ hz9 hk9 hS => ?_)
  rw [ht] at hQ
  obtain ⟨hXB1, f1, h_o1, hf1⟩ := hQ
  have hLJ := hLI.comp hz9 hXB1 h_o1 hk9
  subst hr9
  generalize (fun q => F q ∨ (H.size ≤ q ∧ q < H1.size)) = F1 at hLJ
  clear hXB1 h_o1 hk9 hLI ht hz9
  generalize H1 = H at hLJ hS ⊢
  refine lv_istore (lv' := [(5, .int ((aTrav S (xs (3 * j + 1)) (xs (3 * j + 2))).1)), (4, .int (nI (3 * j))), (3, .ref o), (2, .ref (M 0)), (1, .ref x), (0, .ref b)]) hx hb dL_law_466 hl (by decide) rfl (fun ls hl => ?_)
  refine lv_aload_n hx hb dL_law_468 rfl (lv_at hl 3 rfl) ?_
  refine lv_aload_n hx hb dL_law_469 rfl (lv_at hl 5 rfl) ?_
  refine lv_iload hx hb dL_law_470 (lv_at hl 1 rfl) ?_
  refine lv_iconst (v := 1) hx hb dL_law_472 (by decide) ?_
  refine lv_iadd hx hb dL_law_473 ?_
  refine gg_sld hx hb hXs hbl hbA hS (3 * j + 1) (by omega) hL (nI_add _ 1) dL_law_474 ?_
  refine lv_aload_n hx hb dL_law_475 rfl (lv_at hl 5 rfl) ?_
  refine lv_iload hx hb dL_law_476 (lv_at hl 1 rfl) ?_
  refine lv_iconst (v := 2) hx hb dL_law_478 (by decide) ?_
  refine lv_iadd hx hb dL_law_479 ?_
  refine gg_sld hx hb hXs hbl hbA hS (3 * j + 2) (by omega) hL (nI_add _ 2) dL_law_480 ?_
  refine va_calli (va_runV (As := [.int (xs (3 * j + 1)), .int (xs (3 * j + 2))]) (rest := []) ⟨hx, hb, hml, hown, hts⟩ (met_X4_traveller l g (240 * j) H.size M B C th S hok hD (xs (3 * j + 1)) (xs (3 * j + 2))) (cwV 2 hts (lw_V q785 q786 q787 q21 q788) rfl rfl rfl (by decide +kernel) ⟨Nat.le_of_ble_eq_true rfl, Nat.le_of_ble_eq_true rfl⟩) (gg_preV hG (hS.kp hG (fun _ h => h)) (gg_recv hG hLJ.2.1.1.m0 rfl) ⟨rfl, hLJ.2.1⟩) rfl rfl hl.1 rfl (lv_room (Nat.le_of_ble_eq_true rfl)) dL_law_481 ⟨by show cl9 + 1 + 1 ≤ 600576; omega, by show sl9 + 6 + 7 ≤ 7279018; omega⟩) hS (fun q _ e => by rcases e with e | e; exact hD.an q e; exact Nat.le_trans (hS.kp hG (fun _ h => h)).1 e) (fun q  e => by rcases e with e | e; exact hD.an q e; exact Nat.le_trans (hS.kp hG (fun _ h => h)).1 e) (fun r8 u t9 H1 locs ht hvm hr8 hQ hz9 hk9 hS => ?_)
  rw [ht] at hQ
  have hLK := hLJ.model hz9 hQ (fun q h8 h9 => hk9 q h8 h9)
  subst hr8
  clear hQ hk9 hLJ ht hz9
  generalize H1 = H at hLK hS ⊢
  refine lv_istore (lv' := [(6, .int ((aTrav S (xs (3 * j + 1)) (xs (3 * j + 2))).2.1)), (5, .int ((aTrav S (xs (3 * j + 1)) (xs (3 * j + 2))).1)), (4, .int (nI (3 * j))), (3, .ref o), (2, .ref (M 0)), (1, .ref x), (0, .ref b)]) hx hb dL_law_484 hl (by decide) rfl (fun ls hl => ?_)
  refine lv_aload_n hx hb dL_law_486 rfl (lv_at hl 4 rfl) ?_
  refine vp_callSi (va_Run.run (va_runV (As := []) (rest := []) ⟨hx, hb, hml, hown, hts⟩ (met_X4_thrown l g (M 0) (sN (aTrav S (xs (3 * j + 1)) (xs (3 * j + 2))).2.2) (M 1) (M 2) (M 3) (M 4) (B 0) (C 0) (aTrav S (xs (3 * j + 1)) (xs (3 * j + 2))).1) (cwV 0 hts (lw_V q745 q746 q747 q21 q748) rfl rfl rfl (by decide +kernel) ⟨Nat.le_of_ble_eq_true rfl, Nat.le_of_ble_eq_true rfl⟩) (gg_preV hG (hS.kp hG (fun _ h => h)) (gg_recv hG hLK.2.1.1.m0 rfl) hLK.2.1.1.m0) rfl rfl hl.1 rfl (lv_room (Nat.le_of_ble_eq_true rfl)) dL_law_487 ⟨by show cl9 + 1 + 1 + 0 ≤ 600576; omega, by show sl9 + 6 + 7 + 0 ≤ 7279018; omega⟩)) (fun r7 hr7 => ?_)
  subst hr7
  refine lv_iload hx hb dL_law_490 (lv_at hl 1 rfl) ?_
  refine lv_icmp_eq (tgt := 497) hx hb dL_law_492 (by decide) (fun c_492 => ?_) (fun c_492 => absurd rfl c_492)
  refine lv_iload hx hb dL_law_497 (lv_at hl 1 rfl) ?_
  refine lv_if_ne (tgt := 514) hx hb dL_law_499 (by decide) (fun c_499 => ?_) (fun c_499 => ?_)
  · refine lv_goto (tgt := 961) hx hb dL_law_514 (by decide) ?_
    refine lv_iinc (v := nI (3 * (j + 1))) (lv' := [(4, .int (nI (3 * (j + 1)))), (6, .int ((aTrav S (xs (3 * j + 1)) (xs (3 * j + 2))).2.1)), (5, .int ((aTrav S (xs (3 * j + 1)) (xs (3 * j + 2))).1)), (3, .ref o), (2, .ref (M 0)), (1, .ref x), (0, .ref b)]) hx hb dL_law_961 hl (k := 2) rfl (nI_add _ 3) (by decide) rfl (fun ls hl => ?_)
    refine lv_goto (tgt := 23) hx hb dL_law_964 (by decide) ?_
    exact ih _ _ _ _ _ _ _ _ _ _ hLK (by rw [Nat.mul_succ]; exact (ok_traveller hok)) (by omega) (by omega) hS (lv_sub hl [0, 3, 4, 5, 6] rfl)
  · refine lv_aload_n hx hb dL_law_502 rfl (lv_at hl 3 rfl) ?_
    refine lv_iconst (v := 0) hx hb dL_law_503 (by decide) ?_
    refine gg_lald hx hb hG hLK.2.2.1 dL_law_504 ?_
    refine lv_iload hx hb dL_law_505 (lv_at hl 0 rfl) ?_
    refine lv_i2l hx hb dL_law_507 rfl ?_
    rw [hf1 c_499]
    refine gg_lcmp hx hb dL_law_508 ?_
    refine lv_if_eq (tgt := 514) hx hb dL_law_509 (by decide) (fun c_509 => ?_) (fun c_509 => absurd rfl c_509)
    refine lv_goto (tgt := 961) hx hb dL_law_514 (by decide) ?_
    refine lv_iinc (v := nI (3 * (j + 1))) (lv' := [(4, .int (nI (3 * (j + 1)))), (6, .int ((aTrav S (xs (3 * j + 1)) (xs (3 * j + 2))).2.1)), (5, .int ((aTrav S (xs (3 * j + 1)) (xs (3 * j + 2))).1)), (3, .ref o), (2, .ref (M 0)), (1, .ref x), (0, .ref b)]) hx hb dL_law_961 hl (k := 2) rfl (nI_add _ 3) (by decide) rfl (fun ls hl => ?_)
    refine lv_goto (tgt := 23) hx hb dL_law_964 (by decide) ?_
    exact ih _ _ _ _ _ _ _ _ _ _ hLK (by rw [Nat.mul_succ]; exact (ok_traveller hok)) (by omega) (by omega) hS (lv_sub hl [0, 3, 4, 5, 6] rfl)

set_option maxHeartbeats 4000000 in
theorem law_count (l : Launch) (hl0 : l.stackTraces = false) (g : GT) {b L x o : Nat} {xs : Nat → Int32} {M B C : Nat → Nat} (hx : p.tables.exec = Jvm.exec) (hb : c.code = code) (hml : c.maxLocals = 9) (hown : s.vm.findClass "BridgeBellsLaw" = some m.cls) (hts : ∀ w ∈ lw_all, w.before #[Value.ref b] s = true) (hG : GG g s) (hXs : va_X b L xs s s.heap) (hbl : b < s.heap.size) (hbA : ¬ gA g b) (hL : L ≤ 192) (hD : MD g M B C) (hNo : gA g o) (j : Nat) (hj : 3 * j + 3 ≤ L) (ih : LWh p l e s m below meth c g b x o M B C (j + 1)) {F : Nat → Prop} {b0 : Nat} {th : Int32} {S : BS} {f : Nat → Int64} {H : Heap} {locs : List Loc} {cl9 sl9 : Nat} {ls : Array Slot} (hLI : LI g x o M B C F b0 th S S f H) (hok : OKS (240 * j) S) (hcl9 : cl9 ≤ 9000 * j + 20) (hsl9 : sl9 ≤ 110000 * j + 600) (hS : va_S (gA g) s.heap H locs) (hl : lv_has ls 9 [(4, .int (nI (3 * j))), (3, .ref o), (2, .ref (M 0)), (1, .ref x), (0, .ref b)]) : W p l e room_1 s m #[Value.ref b] below meth c H locs cl9 sl9 (lw_Z below #[Value.ref b] s) (F0 m 517 ls []) := by
  have hT : 240 * j < 2 ^ 29 := by omega
  refine lv_aload_n hx hb dL_law_517 rfl (lv_at hl 3 rfl) ?_
  refine lv_aload_n hx hb dL_law_518 rfl (lv_at hl 4 rfl) ?_
  refine lv_iload hx hb dL_law_519 (lv_at hl 0 rfl) ?_
  refine lv_iconst (v := 1) hx hb dL_law_521 (by decide) ?_
  refine lv_iadd hx hb dL_law_522 ?_
  refine gg_sld hx hb hXs hbl hbA hS (3 * j + 1) (by omega) hL (nI_add _ 1) dL_law_523 ?_
  refine lv_aload_n hx hb dL_law_524 rfl (lv_at hl 1 rfl) ?_
  refine va_calli (vx_runSW (As := [.ref x, .int (xs (3 * j + 1)), .ref o]) (rest := []) ⟨hx, hb, hml, hown, hts⟩ (met_X0_count l hl0 g (240 * j) x b0 H.size o S F f hok (fun q h => (hLI.2.2.2.1 q h).1) (fun h => (hLI.2.2.2.1 o h).2.2 rfl) hLI.2.2.2.2.2 hNo (xs (3 * j + 1))) (vx_cwSW 3 hts (lw_SW q573 q574 q13 q575) rfl rfl rfl (by decide +kernel) ⟨Nat.le_of_ble_eq_true rfl, Nat.le_of_ble_eq_true rfl⟩) (gg_preS hG (hS.kp hG (fun _ h => h)) ⟨rfl, hLI.1, hLI.2.2.1⟩) rfl rfl hl.1 rfl (lv_room (Nat.le_of_ble_eq_true rfl)) dL_law_525 ⟨by show cl9 + 1 ≤ 600576; omega, by show sl9 + 6 ≤ 7279018; omega⟩) hS (fun q _ e => by rcases e with e | e | e; exact hLI.fg q e; rw [show q = o from e]; exact hNo; exact Nat.le_trans (hS.kp hG (fun _ h => h)).1 e) (fun q  e => by rcases e with e | e | e; exact hLI.fg q e; rw [show q = o from e]; exact hNo; exact Nat.le_trans (hS.kp hG (fun _ h => h)).1 e) (fun r9 u t9 H1 locs ht hvm hr9 hQ hz9 hk9 hS => ?_)
  rw [ht] at hQ
  obtain ⟨hXB1, f1, h_o1, hf1⟩ := hQ
  have hLJ := hLI.comp hz9 hXB1 h_o1 hk9
  subst hr9
  generalize (fun q => F q ∨ (H.size ≤ q ∧ q < H1.size)) = F1 at hLJ
  clear hXB1 h_o1 hk9 hLI ht hz9
  generalize H1 = H at hLJ hS ⊢
  refine lv_istore (lv' := [(5, .int ((aCount S (xs (3 * j + 1))).1)), (4, .int (nI (3 * j))), (3, .ref o), (2, .ref (M 0)), (1, .ref x), (0, .ref b)]) hx hb dL_law_528 hl (by decide) rfl (fun ls hl => ?_)
  refine lv_aload_n hx hb dL_law_530 rfl (lv_at hl 3 rfl) ?_
  refine lv_aload_n hx hb dL_law_531 rfl (lv_at hl 5 rfl) ?_
  refine lv_iload hx hb dL_law_532 (lv_at hl 1 rfl) ?_
  refine lv_iconst (v := 1) hx hb dL_law_534 (by decide) ?_
  refine lv_iadd hx hb dL_law_535 ?_
  refine gg_sld hx hb hXs hbl hbA hS (3 * j + 1) (by omega) hL (nI_add _ 1) dL_law_536 ?_
  refine va_calli (va_runV (As := [.int (xs (3 * j + 1))]) (rest := []) ⟨hx, hb, hml, hown, hts⟩ (met_X4_count l g (240 * j) M B C th S hok hD (xs (3 * j + 1))) (cwV 1 hts (lw_V q793 q794 q795 q21 q796) rfl rfl rfl (by decide +kernel) ⟨Nat.le_of_ble_eq_true rfl, Nat.le_of_ble_eq_true rfl⟩) (gg_preV hG (hS.kp hG (fun _ h => h)) (gg_recv hG hLJ.2.1.1.m0 rfl) hLJ.2.1) rfl rfl hl.1 rfl (lv_room (Nat.le_of_ble_eq_true rfl)) dL_law_537 ⟨by show cl9 + 1 + 0 ≤ 600576; omega, by show sl9 + 6 + 0 ≤ 7279018; omega⟩) hS (fun q _ e => hD.an q e) (fun q  e => hD.an q e) (fun r8 u t9 H1 locs ht hvm hr8 hQ hz9 hk9 hS => ?_)
  rw [ht] at hQ
  have hLK := hLJ.model hz9 hQ (fun q h8 h9 => hk9 q h8 (fun e => h9 (Or.inl e)))
  subst hr8
  clear hQ hk9 hLJ ht hz9
  generalize H1 = H at hLK hS ⊢
  refine lv_istore (lv' := [(6, .int ((aCount S (xs (3 * j + 1))).2.1)), (5, .int ((aCount S (xs (3 * j + 1))).1)), (4, .int (nI (3 * j))), (3, .ref o), (2, .ref (M 0)), (1, .ref x), (0, .ref b)]) hx hb dL_law_540 hl (by decide) rfl (fun ls hl => ?_)
  refine lv_aload_n hx hb dL_law_542 rfl (lv_at hl 4 rfl) ?_
  refine vp_callSi (va_Run.run (va_runV (As := []) (rest := []) ⟨hx, hb, hml, hown, hts⟩ (met_X4_thrown l g (M 0) (sN (aCount S (xs (3 * j + 1))).2.2) (M 1) (M 2) (M 3) (M 4) (B 0) (C 0) (aCount S (xs (3 * j + 1))).1) (cwV 0 hts (lw_V q745 q746 q747 q21 q748) rfl rfl rfl (by decide +kernel) ⟨Nat.le_of_ble_eq_true rfl, Nat.le_of_ble_eq_true rfl⟩) (gg_preV hG (hS.kp hG (fun _ h => h)) (gg_recv hG hLK.2.1.1.m0 rfl) hLK.2.1.1.m0) rfl rfl hl.1 rfl (lv_room (Nat.le_of_ble_eq_true rfl)) dL_law_543 ⟨by show cl9 + 1 + 0 + 0 ≤ 600576; omega, by show sl9 + 6 + 0 + 0 ≤ 7279018; omega⟩)) (fun r7 hr7 => ?_)
  subst hr7
  refine lv_iload hx hb dL_law_546 (lv_at hl 1 rfl) ?_
  refine lv_icmp_eq (tgt := 553) hx hb dL_law_548 (by decide) (fun c_548 => ?_) (fun c_548 => absurd rfl c_548)
  refine lv_iload hx hb dL_law_553 (lv_at hl 1 rfl) ?_
  refine lv_if_ne (tgt := 570) hx hb dL_law_555 (by decide) (fun c_555 => ?_) (fun c_555 => ?_)
  · refine lv_goto (tgt := 961) hx hb dL_law_570 (by decide) ?_
    refine lv_iinc (v := nI (3 * (j + 1))) (lv' := [(4, .int (nI (3 * (j + 1)))), (6, .int ((aCount S (xs (3 * j + 1))).2.1)), (5, .int ((aCount S (xs (3 * j + 1))).1)), (3, .ref o), (2, .ref (M 0)), (1, .ref x), (0, .ref b)]) hx hb dL_law_961 hl (k := 2) rfl (nI_add _ 3) (by decide) rfl (fun ls hl => ?_)
    refine lv_goto (tgt := 23) hx hb dL_law_964 (by decide) ?_
    exact ih _ _ _ _ _ _ _ _ _ _ hLK (by rw [Nat.mul_succ]; exact (ok_count hok)) (by omega) (by omega) hS (lv_sub hl [0, 3, 4, 5, 6] rfl)
  · refine lv_aload_n hx hb dL_law_558 rfl (lv_at hl 3 rfl) ?_
    refine lv_iconst (v := 0) hx hb dL_law_559 (by decide) ?_
    refine gg_lald hx hb hG hLK.2.2.1 dL_law_560 ?_
    refine lv_iload hx hb dL_law_561 (lv_at hl 0 rfl) ?_
    refine lv_i2l hx hb dL_law_563 rfl ?_
    rw [hf1 c_555]
    refine gg_lcmp hx hb dL_law_564 ?_
    refine lv_if_eq (tgt := 570) hx hb dL_law_565 (by decide) (fun c_565 => ?_) (fun c_565 => absurd rfl c_565)
    refine lv_goto (tgt := 961) hx hb dL_law_570 (by decide) ?_
    refine lv_iinc (v := nI (3 * (j + 1))) (lv' := [(4, .int (nI (3 * (j + 1)))), (6, .int ((aCount S (xs (3 * j + 1))).2.1)), (5, .int ((aCount S (xs (3 * j + 1))).1)), (3, .ref o), (2, .ref (M 0)), (1, .ref x), (0, .ref b)]) hx hb dL_law_961 hl (k := 2) rfl (nI_add _ 3) (by decide) rfl (fun ls hl => ?_)
    refine lv_goto (tgt := 23) hx hb dL_law_964 (by decide) ?_
    exact ih _ _ _ _ _ _ _ _ _ _ hLK (by rw [Nat.mul_succ]; exact (ok_count hok)) (by omega) (by omega) hS (lv_sub hl [0, 3, 4, 5, 6] rfl)

set_option maxHeartbeats 4000000 in
theorem law_pass (l : Launch) (hl0 : l.stackTraces = false) (g : GT) {b L x o : Nat} {xs : Nat → Int32} {M B C : Nat → Nat} (hx : p.tables.exec = Jvm.exec) (hb : c.code = code) (hml : c.maxLocals = 9) (hown : s.vm.findClass "BridgeBellsLaw" = some m.cls) (hts : ∀ w ∈ lw_all, w.before #[Value.ref b] s = true) (hG : GG g s) (hXs : va_X b L xs s s.heap) (hbl : b < s.heap.size) (hbA : ¬ gA g b) (hL : L ≤ 192) (hD : MD g M B C) (hNo : gA g o) (j : Nat) (hj : 3 * j + 3 ≤ L) (ih : LWh p l e s m below meth c g b x o M B C (j + 1)) {F : Nat → Prop} {b0 : Nat} {th : Int32} {S : BS} {f : Nat → Int64} {H : Heap} {locs : List Loc} {cl9 sl9 : Nat} {ls : Array Slot} (hLI : LI g x o M B C F b0 th S S f H) (hok : OKS (240 * j) S) (hcl9 : cl9 ≤ 9000 * j + 20) (hsl9 : sl9 ≤ 110000 * j + 600) (hS : va_S (gA g) s.heap H locs) (hl : lv_has ls 9 [(4, .int (nI (3 * j))), (3, .ref o), (2, .ref (M 0)), (1, .ref x), (0, .ref b)]) : W p l e room_1 s m #[Value.ref b] below meth c H locs cl9 sl9 (lw_Z below #[Value.ref b] s) (F0 m 614 ls []) := by
  have hT : 240 * j < 2 ^ 29 := by omega
  refine lv_aload_n hx hb dL_law_614 rfl (lv_at hl 3 rfl) ?_
  refine lv_aload_n hx hb dL_law_615 rfl (lv_at hl 4 rfl) ?_
  refine lv_iload hx hb dL_law_616 (lv_at hl 0 rfl) ?_
  refine lv_iconst (v := 1) hx hb dL_law_618 (by decide) ?_
  refine lv_iadd hx hb dL_law_619 ?_
  refine gg_sld hx hb hXs hbl hbA hS (3 * j + 1) (by omega) hL (nI_add _ 1) dL_law_620 ?_
  refine lv_aload_n hx hb dL_law_621 rfl (lv_at hl 1 rfl) ?_
  refine va_calli (vx_runSW (As := [.ref x, .int (xs (3 * j + 1)), .ref o]) (rest := []) ⟨hx, hb, hml, hown, hts⟩ (met_X0_pass l hl0 g (240 * j) x b0 H.size o S F f hok (fun q h => (hLI.2.2.2.1 q h).1) (fun h => (hLI.2.2.2.1 o h).2.2 rfl) hLI.2.2.2.2.2 hNo (xs (3 * j + 1)) hT) (vx_cwSW 3 hts (lw_SW q580 q581 q13 q582) rfl rfl rfl (by decide +kernel) ⟨Nat.le_of_ble_eq_true rfl, Nat.le_of_ble_eq_true rfl⟩) (gg_preS hG (hS.kp hG (fun _ h => h)) ⟨rfl, hLI.1, hLI.2.2.1⟩) rfl rfl hl.1 rfl (lv_room (Nat.le_of_ble_eq_true rfl)) dL_law_622 ⟨by show cl9 + 1 ≤ 600576; omega, by show sl9 + 6 ≤ 7279018; omega⟩) hS (fun q _ e => by rcases e with e | e | e; exact hLI.fg q e; rw [show q = o from e]; exact hNo; exact Nat.le_trans (hS.kp hG (fun _ h => h)).1 e) (fun q  e => by rcases e with e | e | e; exact hLI.fg q e; rw [show q = o from e]; exact hNo; exact Nat.le_trans (hS.kp hG (fun _ h => h)).1 e) (fun r9 u t9 H1 locs ht hvm hr9 hQ hz9 hk9 hS => ?_)
  rw [ht] at hQ
  obtain ⟨hXB1, f1, h_o1, hf1⟩ := hQ
  have hLJ := hLI.comp hz9 hXB1 h_o1 hk9
  subst hr9
  generalize (fun q => F q ∨ (H.size ≤ q ∧ q < H1.size)) = F1 at hLJ
  clear hXB1 h_o1 hk9 hLI ht hz9
  generalize H1 = H at hLJ hS ⊢
  refine lv_istore (lv' := [(5, .int ((aPass S (xs (3 * j + 1))).1)), (4, .int (nI (3 * j))), (3, .ref o), (2, .ref (M 0)), (1, .ref x), (0, .ref b)]) hx hb dL_law_625 hl (by decide) rfl (fun ls hl => ?_)
  refine lv_aload_n hx hb dL_law_627 rfl (lv_at hl 3 rfl) ?_
  refine lv_aload_n hx hb dL_law_628 rfl (lv_at hl 5 rfl) ?_
  refine lv_iload hx hb dL_law_629 (lv_at hl 1 rfl) ?_
  refine lv_iconst (v := 1) hx hb dL_law_631 (by decide) ?_
  refine lv_iadd hx hb dL_law_632 ?_
  refine gg_sld hx hb hXs hbl hbA hS (3 * j + 1) (by omega) hL (nI_add _ 1) dL_law_633 ?_
  refine va_calli (va_runV (As := [.int (xs (3 * j + 1))]) (rest := []) ⟨hx, hb, hml, hown, hts⟩ (met_X4_pass l g (240 * j) M B C th S hok hD hT (xs (3 * j + 1))) (cwV 1 hts (lw_V q826 q827 q828 q21 q829) rfl rfl rfl (by decide +kernel) ⟨Nat.le_of_ble_eq_true rfl, Nat.le_of_ble_eq_true rfl⟩) (gg_preV hG (hS.kp hG (fun _ h => h)) (gg_recv hG hLJ.2.1.1.m0 rfl) hLJ.2.1) rfl rfl hl.1 rfl (lv_room (Nat.le_of_ble_eq_true rfl)) dL_law_634 ⟨by show cl9 + 1 + 0 ≤ 600576; omega, by show sl9 + 6 + 0 ≤ 7279018; omega⟩) hS (fun q _ e => hD.an q e) (fun q  e => hD.an q e) (fun r8 u t9 H1 locs ht hvm hr8 hQ hz9 hk9 hS => ?_)
  rw [ht] at hQ
  have hLK := hLJ.model hz9 hQ (fun q h8 h9 => hk9 q h8 (fun e => h9 (Or.inl e)))
  subst hr8
  clear hQ hk9 hLJ ht hz9
  generalize H1 = H at hLK hS ⊢
  refine lv_istore (lv' := [(6, .int ((aPass S (xs (3 * j + 1))).2.1)), (5, .int ((aPass S (xs (3 * j + 1))).1)), (4, .int (nI (3 * j))), (3, .ref o), (2, .ref (M 0)), (1, .ref x), (0, .ref b)]) hx hb dL_law_637 hl (by decide) rfl (fun ls hl => ?_)
  refine lv_aload_n hx hb dL_law_639 rfl (lv_at hl 4 rfl) ?_
  refine vp_callSi (va_Run.run (va_runV (As := []) (rest := []) ⟨hx, hb, hml, hown, hts⟩ (met_X4_thrown l g (M 0) (sN (aPass S (xs (3 * j + 1))).2.2) (M 1) (M 2) (M 3) (M 4) (B 0) (C 0) (aPass S (xs (3 * j + 1))).1) (cwV 0 hts (lw_V q745 q746 q747 q21 q748) rfl rfl rfl (by decide +kernel) ⟨Nat.le_of_ble_eq_true rfl, Nat.le_of_ble_eq_true rfl⟩) (gg_preV hG (hS.kp hG (fun _ h => h)) (gg_recv hG hLK.2.1.1.m0 rfl) hLK.2.1.1.m0) rfl rfl hl.1 rfl (lv_room (Nat.le_of_ble_eq_true rfl)) dL_law_640 ⟨by show cl9 + 1 + 0 + 0 ≤ 600576; omega, by show sl9 + 6 + 0 + 0 ≤ 7279018; omega⟩)) (fun r7 hr7 => ?_)
  subst hr7
  refine lv_iload hx hb dL_law_643 (lv_at hl 1 rfl) ?_
  refine lv_icmp_eq (tgt := 650) hx hb dL_law_645 (by decide) (fun c_645 => ?_) (fun c_645 => absurd rfl c_645)
  refine lv_iload hx hb dL_law_650 (lv_at hl 1 rfl) ?_
  refine lv_if_ne (tgt := 667) hx hb dL_law_652 (by decide) (fun c_652 => ?_) (fun c_652 => ?_)
  · refine lv_goto (tgt := 961) hx hb dL_law_667 (by decide) ?_
    refine lv_iinc (v := nI (3 * (j + 1))) (lv' := [(4, .int (nI (3 * (j + 1)))), (6, .int ((aPass S (xs (3 * j + 1))).2.1)), (5, .int ((aPass S (xs (3 * j + 1))).1)), (3, .ref o), (2, .ref (M 0)), (1, .ref x), (0, .ref b)]) hx hb dL_law_961 hl (k := 2) rfl (nI_add _ 3) (by decide) rfl (fun ls hl => ?_)
    refine lv_goto (tgt := 23) hx hb dL_law_964 (by decide) ?_
    exact ih _ _ _ _ _ _ _ _ _ _ hLK (by rw [Nat.mul_succ]; exact (ok_pass hok)) (by omega) (by omega) hS (lv_sub hl [0, 3, 4, 5, 6] rfl)
  · refine lv_aload_n hx hb dL_law_655 rfl (lv_at hl 3 rfl) ?_
    refine lv_iconst (v := 0) hx hb dL_law_656 (by decide) ?_
    refine gg_lald hx hb hG hLK.2.2.1 dL_law_657 ?_
    refine lv_iload hx hb dL_law_658 (lv_at hl 0 rfl) ?_
    refine lv_i2l hx hb dL_law_660 rfl ?_
    rw [hf1 c_652]
    refine gg_lcmp hx hb dL_law_661 ?_
    refine lv_if_eq (tgt := 667) hx hb dL_law_662 (by decide) (fun c_662 => ?_) (fun c_662 => absurd rfl c_662)
    refine lv_goto (tgt := 961) hx hb dL_law_667 (by decide) ?_
    refine lv_iinc (v := nI (3 * (j + 1))) (lv' := [(4, .int (nI (3 * (j + 1)))), (6, .int ((aPass S (xs (3 * j + 1))).2.1)), (5, .int ((aPass S (xs (3 * j + 1))).1)), (3, .ref o), (2, .ref (M 0)), (1, .ref x), (0, .ref b)]) hx hb dL_law_961 hl (k := 2) rfl (nI_add _ 3) (by decide) rfl (fun ls hl => ?_)
    refine lv_goto (tgt := 23) hx hb dL_law_964 (by decide) ?_
    exact ih _ _ _ _ _ _ _ _ _ _ hLK (by rw [Nat.mul_succ]; exact (ok_pass hok)) (by omega) (by omega) hS (lv_sub hl [0, 3, 4, 5, 6] rfl)

set_option maxHeartbeats 4000000 in
theorem law_when (l : Launch) (hl0 : l.stackTraces = false) (g : GT) {b L x o : Nat} {xs : Nat → Int32} {M B C : Nat → Nat} (hx : p.tables.exec = Jvm.exec) (hb : c.code = code) (hml : c.maxLocals = 9) (hown : s.vm.findClass "BridgeBellsLaw" = some m.cls) (hts : ∀ w ∈ lw_all, w.before #[Value.ref b] s = true) (hG : GG g s) (hXs : va_X b L xs s s.heap) (hbl : b < s.heap.size) (hbA : ¬ gA g b) (hL : L ≤ 192) (hD : MD g M B C) (hNo : gA g o) (j : Nat) (hj : 3 * j + 3 ≤ L) (ih : LWh p l e s m below meth c g b x o M B C (j + 1)) {F : Nat → Prop} {b0 : Nat} {th : Int32} {S : BS} {f : Nat → Int64} {H : Heap} {locs : List Loc} {cl9 sl9 : Nat} {ls : Array Slot} (hLI : LI g x o M B C F b0 th S S f H) (hok : OKS (240 * j) S) (hcl9 : cl9 ≤ 9000 * j + 20) (hsl9 : sl9 ≤ 110000 * j + 600) (hS : va_S (gA g) s.heap H locs) (hl : lv_has ls 9 [(4, .int (nI (3 * j))), (3, .ref o), (2, .ref (M 0)), (1, .ref x), (0, .ref b)]) : W p l e room_1 s m #[Value.ref b] below meth c H locs cl9 sl9 (lw_Z below #[Value.ref b] s) (F0 m 670 ls []) := by
  have hT : 240 * j < 2 ^ 29 := by omega
  refine lv_aload_n hx hb dL_law_670 rfl (lv_at hl 3 rfl) ?_
  refine lv_aload_n hx hb dL_law_671 rfl (lv_at hl 4 rfl) ?_
  refine lv_iload hx hb dL_law_672 (lv_at hl 0 rfl) ?_
  refine lv_iconst (v := 1) hx hb dL_law_674 (by decide) ?_
  refine lv_iadd hx hb dL_law_675 ?_
  refine gg_sld hx hb hXs hbl hbA hS (3 * j + 1) (by omega) hL (nI_add _ 1) dL_law_676 ?_
  refine lv_aload_n hx hb dL_law_677 rfl (lv_at hl 1 rfl) ?_
  refine va_calli (vx_runSW (As := [.ref x, .int (xs (3 * j + 1)), .ref o]) (rest := []) ⟨hx, hb, hml, hown, hts⟩ (met_X0_when l hl0 g (240 * j) x b0 H.size o S F f hok (fun q h => (hLI.2.2.2.1 q h).1) (fun h => (hLI.2.2.2.1 o h).2.2 rfl) hLI.2.2.2.2.2 hNo (xs (3 * j + 1)) hT) (vx_cwSW 3 hts (lw_SW q615 q616 q13 q617) rfl rfl rfl (by decide +kernel) ⟨Nat.le_of_ble_eq_true rfl, Nat.le_of_ble_eq_true rfl⟩) (gg_preS hG (hS.kp hG (fun _ h => h)) ⟨rfl, hLI.1, hLI.2.2.1⟩) rfl rfl hl.1 rfl (lv_room (Nat.le_of_ble_eq_true rfl)) dL_law_678 ⟨by show cl9 + 83 ≤ 600576; omega, by show sl9 + 2699 ≤ 7279018; omega⟩) hS (fun q _ e => by rcases e with e | e | e; exact hLI.fg q e; rw [show q = o from e]; exact hNo; exact Nat.le_trans (hS.kp hG (fun _ h => h)).1 e) (fun q  e => by rcases e with e | e | e; exact hLI.fg q e; rw [show q = o from e]; exact hNo; exact Nat.le_trans (hS.kp hG (fun _ h => h)).1 e) (fun r9 u t9 H1 locs ht hvm hr9 hQ hz9 hk9 hS => ?_)
  rw [ht] at hQ
  obtain ⟨hXB1, f1, h_o1, hf1⟩ := hQ
  have hLJ := hLI.comp hz9 hXB1 h_o1 hk9
  subst hr9
  generalize (fun q => F q ∨ (H.size ≤ q ∧ q < H1.size)) = F1 at hLJ
  clear hXB1 h_o1 hk9 hLI ht hz9
  generalize H1 = H at hLJ hS ⊢
  refine lv_istore (lv' := [(5, .int ((aWhen S (xs (3 * j + 1))).1)), (4, .int (nI (3 * j))), (3, .ref o), (2, .ref (M 0)), (1, .ref x), (0, .ref b)]) hx hb dL_law_681 hl (by decide) rfl (fun ls hl => ?_)
  refine lv_aload_n hx hb dL_law_683 rfl (lv_at hl 3 rfl) ?_
  refine lv_aload_n hx hb dL_law_684 rfl (lv_at hl 5 rfl) ?_
  refine lv_iload hx hb dL_law_685 (lv_at hl 1 rfl) ?_
  refine lv_iconst (v := 1) hx hb dL_law_687 (by decide) ?_
  refine lv_iadd hx hb dL_law_688 ?_
  refine gg_sld hx hb hXs hbl hbA hS (3 * j + 1) (by omega) hL (nI_add _ 1) dL_law_689 ?_
  refine va_calli (va_runV (As := [.int (xs (3 * j + 1))]) (rest := []) ⟨hx, hb, hml, hown, hts⟩ (met_X4_when l g (240 * j) M B C th S hok hD hT (xs (3 * j + 1))) (cwV 1 hts (lw_V q845 q846 q847 q21 q848) rfl rfl rfl (by decide +kernel) ⟨Nat.le_of_ble_eq_true rfl, Nat.le_of_ble_eq_true rfl⟩) (gg_preV hG (hS.kp hG (fun _ h => h)) (gg_recv hG hLJ.2.1.1.m0 rfl) hLJ.2.1) rfl rfl hl.1 rfl (lv_room (Nat.le_of_ble_eq_true rfl)) dL_law_690 ⟨by show cl9 + 83 + 0 ≤ 600576; omega, by show sl9 + 2699 + 0 ≤ 7279018; omega⟩) hS (fun q _ e => hD.an q e) (fun q  e => hD.an q e) (fun r8 u t9 H1 locs ht hvm hr8 hQ hz9 hk9 hS => ?_)
  rw [ht] at hQ
  have hLK := hLJ.model hz9 hQ (fun q h8 h9 => hk9 q h8 (fun e => h9 (Or.inl e)))
  subst hr8
  clear hQ hk9 hLJ ht hz9
  generalize H1 = H at hLK hS ⊢
  refine lv_istore (lv' := [(6, .int ((aWhen S (xs (3 * j + 1))).2.1)), (5, .int ((aWhen S (xs (3 * j + 1))).1)), (4, .int (nI (3 * j))), (3, .ref o), (2, .ref (M 0)), (1, .ref x), (0, .ref b)]) hx hb dL_law_693 hl (by decide) rfl (fun ls hl => ?_)
  refine lv_aload_n hx hb dL_law_695 rfl (lv_at hl 4 rfl) ?_
  refine vp_callSi (va_Run.run (va_runV (As := []) (rest := []) ⟨hx, hb, hml, hown, hts⟩ (met_X4_thrown l g (M 0) (sN (aWhen S (xs (3 * j + 1))).2.2) (M 1) (M 2) (M 3) (M 4) (B 0) (C 0) (aWhen S (xs (3 * j + 1))).1) (cwV 0 hts (lw_V q745 q746 q747 q21 q748) rfl rfl rfl (by decide +kernel) ⟨Nat.le_of_ble_eq_true rfl, Nat.le_of_ble_eq_true rfl⟩) (gg_preV hG (hS.kp hG (fun _ h => h)) (gg_recv hG hLK.2.1.1.m0 rfl) hLK.2.1.1.m0) rfl rfl hl.1 rfl (lv_room (Nat.le_of_ble_eq_true rfl)) dL_law_696 ⟨by show cl9 + 83 + 0 + 0 ≤ 600576; omega, by show sl9 + 2699 + 0 + 0 ≤ 7279018; omega⟩)) (fun r7 hr7 => ?_)
  subst hr7
  refine lv_iload hx hb dL_law_699 (lv_at hl 1 rfl) ?_
  refine lv_icmp_eq (tgt := 706) hx hb dL_law_701 (by decide) (fun c_701 => ?_) (fun c_701 => absurd rfl c_701)
  refine lv_iload hx hb dL_law_706 (lv_at hl 1 rfl) ?_
  refine lv_if_ne (tgt := 723) hx hb dL_law_708 (by decide) (fun c_708 => ?_) (fun c_708 => ?_)
  · refine lv_goto (tgt := 961) hx hb dL_law_723 (by decide) ?_
    refine lv_iinc (v := nI (3 * (j + 1))) (lv' := [(4, .int (nI (3 * (j + 1)))), (6, .int ((aWhen S (xs (3 * j + 1))).2.1)), (5, .int ((aWhen S (xs (3 * j + 1))).1)), (3, .ref o), (2, .ref (M 0)), (1, .ref x), (0, .ref b)]) hx hb dL_law_961 hl (k := 2) rfl (nI_add _ 3) (by decide) rfl (fun ls hl => ?_)
    refine lv_goto (tgt := 23) hx hb dL_law_964 (by decide) ?_
    exact ih _ _ _ _ _ _ _ _ _ _ hLK (by rw [Nat.mul_succ]; exact (ok_when hok)) (by omega) (by omega) hS (lv_sub hl [0, 3, 4, 5, 6] rfl)
  · refine lv_aload_n hx hb dL_law_711 rfl (lv_at hl 3 rfl) ?_
    refine lv_iconst (v := 0) hx hb dL_law_712 (by decide) ?_
    refine gg_lald hx hb hG hLK.2.2.1 dL_law_713 ?_
    refine lv_iload hx hb dL_law_714 (lv_at hl 0 rfl) ?_
    refine lv_i2l hx hb dL_law_716 rfl ?_
    rw [hf1 c_708]
    refine gg_lcmp hx hb dL_law_717 ?_
    refine lv_if_eq (tgt := 723) hx hb dL_law_718 (by decide) (fun c_718 => ?_) (fun c_718 => absurd rfl c_718)
    refine lv_goto (tgt := 961) hx hb dL_law_723 (by decide) ?_
    refine lv_iinc (v := nI (3 * (j + 1))) (lv' := [(4, .int (nI (3 * (j + 1)))), (6, .int ((aWhen S (xs (3 * j + 1))).2.1)), (5, .int ((aWhen S (xs (3 * j + 1))).1)), (3, .ref o), (2, .ref (M 0)), (1, .ref x), (0, .ref b)]) hx hb dL_law_961 hl (k := 2) rfl (nI_add _ 3) (by decide) rfl (fun ls hl => ?_)
    refine lv_goto (tgt := 23) hx hb dL_law_964 (by decide) ?_
    exact ih _ _ _ _ _ _ _ _ _ _ hLK (by rw [Nat.mul_succ]; exact (ok_when hok)) (by omega) (by omega) hS (lv_sub hl [0, 3, 4, 5, 6] rfl)

set_option maxHeartbeats 4000000 in
theorem law_foresee (l : Launch) (hl0 : l.stackTraces = false) (g : GT) {b L x o : Nat} {xs : Nat → Int32} {M B C : Nat → Nat} (hx : p.tables.exec = Jvm.exec) (hb : c.code = code) (hml : c.maxLocals = 9) (hown : s.vm.findClass "BridgeBellsLaw" = some m.cls) (hts : ∀ w ∈ lw_all, w.before #[Value.ref b] s = true) (hG : GG g s) (hXs : va_X b L xs s s.heap) (hbl : b < s.heap.size) (hbA : ¬ gA g b) (hL : L ≤ 192) (hD : MD g M B C) (hNo : gA g o) (j : Nat) (hj : 3 * j + 3 ≤ L) (ih : LWh p l e s m below meth c g b x o M B C (j + 1)) {F : Nat → Prop} {b0 : Nat} {th : Int32} {S : BS} {f : Nat → Int64} {H : Heap} {locs : List Loc} {cl9 sl9 : Nat} {ls : Array Slot} (hLI : LI g x o M B C F b0 th S S f H) (hok : OKS (240 * j) S) (hcl9 : cl9 ≤ 9000 * j + 20) (hsl9 : sl9 ≤ 110000 * j + 600) (hS : va_S (gA g) s.heap H locs) (hl : lv_has ls 9 [(4, .int (nI (3 * j))), (3, .ref o), (2, .ref (M 0)), (1, .ref x), (0, .ref b)]) : W p l e room_1 s m #[Value.ref b] below meth c H locs cl9 sl9 (lw_Z below #[Value.ref b] s) (F0 m 726 ls []) := by
  have hT : 240 * j < 2 ^ 29 := by omega
  refine lv_aload_n hx hb dL_law_726 rfl (lv_at hl 3 rfl) ?_
  refine lv_aload_n hx hb dL_law_727 rfl (lv_at hl 4 rfl) ?_
  refine lv_iload hx hb dL_law_728 (lv_at hl 0 rfl) ?_
  refine lv_iconst (v := 1) hx hb dL_law_730 (by decide) ?_
  refine lv_iadd hx hb dL_law_731 ?_
  refine gg_sld hx hb hXs hbl hbA hS (3 * j + 1) (by omega) hL (nI_add _ 1) dL_law_732 ?_
  refine lv_aload_n hx hb dL_law_733 rfl (lv_at hl 4 rfl) ?_
  refine lv_iload hx hb dL_law_734 (lv_at hl 0 rfl) ?_
  refine lv_iconst (v := 2) hx hb dL_law_736 (by decide) ?_
  refine lv_iadd hx hb dL_law_737 ?_
  refine gg_sld hx hb hXs hbl hbA hS (3 * j + 2) (by omega) hL (nI_add _ 2) dL_law_738 ?_
  refine lv_aload_n hx hb dL_law_739 rfl (lv_at hl 1 rfl) ?_
  refine va_calli (vx_runSW (As := [.ref x, .int (xs (3 * j + 1)), .int (xs (3 * j + 2)), .ref o]) (rest := []) ⟨hx, hb, hml, hown, hts⟩ (met_X0_foresee l hl0 g (240 * j) x b0 H.size o S F f hok (fun q h => (hLI.2.2.2.1 q h).1) (fun h => (hLI.2.2.2.1 o h).2.2 rfl) hLI.2.2.2.2.2 hNo (xs (3 * j + 1)) (xs (3 * j + 2)) hT) (vx_cwSW 4 hts (lw_SW q637 q638 q13 q639) rfl rfl rfl (by decide +kernel) ⟨Nat.le_of_ble_eq_true rfl, Nat.le_of_ble_eq_true rfl⟩) (gg_preS hG (hS.kp hG (fun _ h => h)) ⟨rfl, hLI.1, hLI.2.2.1⟩) rfl rfl hl.1 rfl (lv_room (Nat.le_of_ble_eq_true rfl)) dL_law_740 ⟨by show cl9 + 83 ≤ 600576; omega, by show sl9 + 2699 ≤ 7279018; omega⟩) hS (fun q _ e => by rcases e with e | e | e; exact hLI.fg q e; rw [show q = o from e]; exact hNo; exact Nat.le_trans (hS.kp hG (fun _ h => h)).1 e) (fun q  e => by rcases e with e | e | e; exact hLI.fg q e; rw [show q = o from e]; exact hNo; exact Nat.le_trans (hS.kp hG (fun _ h => h)).1 e) (fun r9 u t9 H1 locs ht hvm hr9 hQ hz9 hk9 hS => ?_)
  rw [ht] at hQ
  obtain ⟨hXB1, f1, h_o1, hf1⟩ := hQ
  have hLJ := hLI.comp hz9 hXB1 h_o1 hk9
  subst hr9
  generalize (fun q => F q ∨ (H.size ≤ q ∧ q < H1.size)) = F1 at hLJ
  clear hXB1 h_o1 hk9 hLI ht hz9
  generalize H1 = H at hLJ hS ⊢
  refine lv_istore (lv' := [(5, .int ((aFore S (xs (3 * j + 1)) (xs (3 * j + 2))).1)), (4, .int (nI (3 * j))), (3, .ref o), (2, .ref (M 0)), (1, .ref x), (0, .ref b)]) hx hb dL_law_743 hl (by decide) rfl (fun ls hl => ?_)
  refine lv_aload_n hx hb dL_law_745 rfl (lv_at hl 3 rfl) ?_
  refine lv_aload_n hx hb dL_law_746 rfl (lv_at hl 5 rfl) ?_
  refine lv_iload hx hb dL_law_747 (lv_at hl 1 rfl) ?_
  refine lv_iconst (v := 1) hx hb dL_law_749 (by decide) ?_
  refine lv_iadd hx hb dL_law_750 ?_
  refine gg_sld hx hb hXs hbl hbA hS (3 * j + 1) (by omega) hL (nI_add _ 1) dL_law_751 ?_
  refine lv_aload_n hx hb dL_law_752 rfl (lv_at hl 5 rfl) ?_
  refine lv_iload hx hb dL_law_753 (lv_at hl 1 rfl) ?_
  refine lv_iconst (v := 2) hx hb dL_law_755 (by decide) ?_
  refine lv_iadd hx hb dL_law_756 ?_
  refine gg_sld hx hb hXs hbl hbA hS (3 * j + 2) (by omega) hL (nI_add _ 2) dL_law_757 ?_
  refine va_calli (va_runV (As := [.int (xs (3 * j + 1)), .int (xs (3 * j + 2))]) (rest := []) ⟨hx, hb, hml, hown, hts⟩ (met_X4_foresee l g (240 * j) M B C th S hok hD hT (xs (3 * j + 1)) (xs (3 * j + 2))) (cwV 2 hts (lw_V q859 q860 q861 q21 q862) rfl rfl rfl (by decide +kernel) ⟨Nat.le_of_ble_eq_true rfl, Nat.le_of_ble_eq_true rfl⟩) (gg_preV hG (hS.kp hG (fun _ h => h)) (gg_recv hG hLJ.2.1.1.m0 rfl) hLJ.2.1) rfl rfl hl.1 rfl (lv_room (Nat.le_of_ble_eq_true rfl)) dL_law_758 ⟨by show cl9 + 83 + 0 ≤ 600576; omega, by show sl9 + 2699 + 0 ≤ 7279018; omega⟩) hS (fun q _ e => hD.an q e) (fun q  e => hD.an q e) (fun r8 u t9 H1 locs ht hvm hr8 hQ hz9 hk9 hS => ?_)
  rw [ht] at hQ
  have hLK := hLJ.model hz9 hQ (fun q h8 h9 => hk9 q h8 (fun e => h9 (Or.inl e)))
  subst hr8
  clear hQ hk9 hLJ ht hz9
  generalize H1 = H at hLK hS ⊢
  refine lv_istore (lv' := [(6, .int ((aFore S (xs (3 * j + 1)) (xs (3 * j + 2))).2.1)), (5, .int ((aFore S (xs (3 * j + 1)) (xs (3 * j + 2))).1)), (4, .int (nI (3 * j))), (3, .ref o), (2, .ref (M 0)), (1, .ref x), (0, .ref b)]) hx hb dL_law_761 hl (by decide) rfl (fun ls hl => ?_)
  refine lv_aload_n hx hb dL_law_763 rfl (lv_at hl 4 rfl) ?_
  refine vp_callSi (va_Run.run (va_runV (As := []) (rest := []) ⟨hx, hb, hml, hown, hts⟩ (met_X4_thrown l g (M 0) (sN (aFore S (xs (3 * j + 1)) (xs (3 * j + 2))).2.2) (M 1) (M 2) (M 3) (M 4) (B 0) (C 0) (aFore S (xs (3 * j + 1)) (xs (3 * j + 2))).1) (cwV 0 hts (lw_V q745 q746 q747 q21 q748) rfl rfl rfl (by decide +kernel) ⟨Nat.le_of_ble_eq_true rfl, Nat.le_of_ble_eq_true rfl⟩) (gg_preV hG (hS.kp hG (fun _ h => h)) (gg_recv hG hLK.2.1.1.m0 rfl) hLK.2.1.1.m0) rfl rfl hl.1 rfl (lv_room (Nat.le_of_ble_eq_true rfl)) dL_law_764 ⟨by show cl9 + 83 + 0 + 0 ≤ 600576; omega, by show sl9 + 2699 + 0 + 0 ≤ 7279018; omega⟩)) (fun r7 hr7 => ?_)
  subst hr7
  refine lv_iload hx hb dL_law_767 (lv_at hl 1 rfl) ?_
  refine lv_icmp_eq (tgt := 774) hx hb dL_law_769 (by decide) (fun c_769 => ?_) (fun c_769 => absurd rfl c_769)
  refine lv_iload hx hb dL_law_774 (lv_at hl 1 rfl) ?_
  refine lv_if_ne (tgt := 791) hx hb dL_law_776 (by decide) (fun c_776 => ?_) (fun c_776 => ?_)
  · refine lv_goto (tgt := 961) hx hb dL_law_791 (by decide) ?_
    refine lv_iinc (v := nI (3 * (j + 1))) (lv' := [(4, .int (nI (3 * (j + 1)))), (6, .int ((aFore S (xs (3 * j + 1)) (xs (3 * j + 2))).2.1)), (5, .int ((aFore S (xs (3 * j + 1)) (xs (3 * j + 2))).1)), (3, .ref o), (2, .ref (M 0)), (1, .ref x), (0, .ref b)]) hx hb dL_law_961 hl (k := 2) rfl (nI_add _ 3) (by decide) rfl (fun ls hl => ?_)
    refine lv_goto (tgt := 23) hx hb dL_law_964 (by decide) ?_
    exact ih _ _ _ _ _ _ _ _ _ _ hLK (by rw [Nat.mul_succ]; exact (ok_foresee hok)) (by omega) (by omega) hS (lv_sub hl [0, 3, 4, 5, 6] rfl)
  · refine lv_aload_n hx hb dL_law_779 rfl (lv_at hl 3 rfl) ?_
    refine lv_iconst (v := 0) hx hb dL_law_780 (by decide) ?_
    refine gg_lald hx hb hG hLK.2.2.1 dL_law_781 ?_
    refine lv_iload hx hb dL_law_782 (lv_at hl 0 rfl) ?_
    refine lv_i2l hx hb dL_law_784 rfl ?_
    rw [hf1 c_776]
    refine gg_lcmp hx hb dL_law_785 ?_
    refine lv_if_eq (tgt := 791) hx hb dL_law_786 (by decide) (fun c_786 => ?_) (fun c_786 => absurd rfl c_786)
    refine lv_goto (tgt := 961) hx hb dL_law_791 (by decide) ?_
    refine lv_iinc (v := nI (3 * (j + 1))) (lv' := [(4, .int (nI (3 * (j + 1)))), (6, .int ((aFore S (xs (3 * j + 1)) (xs (3 * j + 2))).2.1)), (5, .int ((aFore S (xs (3 * j + 1)) (xs (3 * j + 2))).1)), (3, .ref o), (2, .ref (M 0)), (1, .ref x), (0, .ref b)]) hx hb dL_law_961 hl (k := 2) rfl (nI_add _ 3) (by decide) rfl (fun ls hl => ?_)
    refine lv_goto (tgt := 23) hx hb dL_law_964 (by decide) ?_
    exact ih _ _ _ _ _ _ _ _ _ _ hLK (by rw [Nat.mul_succ]; exact (ok_foresee hok)) (by omega) (by omega) hS (lv_sub hl [0, 3, 4, 5, 6] rfl)

set_option maxHeartbeats 4000000 in
theorem law_bestCode (l : Launch) (hl0 : l.stackTraces = false) (g : GT) {b L x o : Nat} {xs : Nat → Int32} {M B C : Nat → Nat} (hx : p.tables.exec = Jvm.exec) (hb : c.code = code) (hml : c.maxLocals = 9) (hown : s.vm.findClass "BridgeBellsLaw" = some m.cls) (hts : ∀ w ∈ lw_all, w.before #[Value.ref b] s = true) (hG : GG g s) (hXs : va_X b L xs s s.heap) (hbl : b < s.heap.size) (hbA : ¬ gA g b) (hL : L ≤ 192) (hD : MD g M B C) (hNo : gA g o) (j : Nat) (hj : 3 * j + 3 ≤ L) (ih : LWh p l e s m below meth c g b x o M B C (j + 1)) {F : Nat → Prop} {b0 : Nat} {th : Int32} {S : BS} {f : Nat → Int64} {H : Heap} {locs : List Loc} {cl9 sl9 : Nat} {ls : Array Slot} (hLI : LI g x o M B C F b0 th S S f H) (hok : OKS (240 * j) S) (hcl9 : cl9 ≤ 9000 * j + 20) (hsl9 : sl9 ≤ 110000 * j + 600) (hS : va_S (gA g) s.heap H locs) (hl : lv_has ls 9 [(4, .int (nI (3 * j))), (3, .ref o), (2, .ref (M 0)), (1, .ref x), (0, .ref b)]) : W p l e room_1 s m #[Value.ref b] below meth c H locs cl9 sl9 (lw_Z below #[Value.ref b] s) (F0 m 794 ls []) := by
  have hT : 240 * j < 2 ^ 29 := by omega
  refine lv_aload_n hx hb dL_law_794 rfl (lv_at hl 3 rfl) ?_
  refine lv_aload_n hx hb dL_law_795 rfl (lv_at hl 4 rfl) ?_
  refine lv_iload hx hb dL_law_796 (lv_at hl 0 rfl) ?_
  refine lv_iconst (v := 1) hx hb dL_law_798 (by decide) ?_
  refine lv_iadd hx hb dL_law_799 ?_
  refine gg_sld hx hb hXs hbl hbA hS (3 * j + 1) (by omega) hL (nI_add _ 1) dL_law_800 ?_
  refine lv_aload_n hx hb dL_law_801 rfl (lv_at hl 1 rfl) ?_
  refine va_calli (vx_runSW (As := [.ref x, .int (xs (3 * j + 1)), .ref o]) (rest := []) ⟨hx, hb, hml, hown, hts⟩ (met_X0_bestCode l hl0 g (240 * j) x b0 H.size o S F f hok (fun q h => (hLI.2.2.2.1 q h).1) (fun h => (hLI.2.2.2.1 o h).2.2 rfl) hLI.2.2.2.2.2 hNo (xs (3 * j + 1)) hT) (vx_cwSW 3 hts (lw_SW q644 q645 q13 q646) rfl rfl rfl (by decide +kernel) ⟨Nat.le_of_ble_eq_true rfl, Nat.le_of_ble_eq_true rfl⟩) (gg_preS hG (hS.kp hG (fun _ h => h)) ⟨rfl, hLI.1, hLI.2.2.1⟩) rfl rfl hl.1 rfl (lv_room (Nat.le_of_ble_eq_true rfl)) dL_law_802 ⟨by show cl9 + 336 ≤ 600576; omega, by show sl9 + 10816 ≤ 7279018; omega⟩) hS (fun q _ e => by rcases e with e | e | e; exact hLI.fg q e; rw [show q = o from e]; exact hNo; exact Nat.le_trans (hS.kp hG (fun _ h => h)).1 e) (fun q  e => by rcases e with e | e | e; exact hLI.fg q e; rw [show q = o from e]; exact hNo; exact Nat.le_trans (hS.kp hG (fun _ h => h)).1 e) (fun r9 u t9 H1 locs ht hvm hr9 hQ hz9 hk9 hS => ?_)
  rw [ht] at hQ
  obtain ⟨hXB1, f1, h_o1, hf1⟩ := hQ
  have hLJ := hLI.comp hz9 hXB1 h_o1 hk9
  subst hr9
  generalize (fun q => F q ∨ (H.size ≤ q ∧ q < H1.size)) = F1 at hLJ
  clear hXB1 h_o1 hk9 hLI ht hz9
  generalize H1 = H at hLJ hS ⊢
  refine lv_istore (lv' := [(5, .int ((aBestC S (xs (3 * j + 1))).1)), (4, .int (nI (3 * j))), (3, .ref o), (2, .ref (M 0)), (1, .ref x), (0, .ref b)]) hx hb dL_law_805 hl (by decide) rfl (fun ls hl => ?_)
  refine lv_aload_n hx hb dL_law_807 rfl (lv_at hl 3 rfl) ?_
  refine lv_aload_n hx hb dL_law_808 rfl (lv_at hl 5 rfl) ?_
  refine lv_iload hx hb dL_law_809 (lv_at hl 1 rfl) ?_
  refine lv_iconst (v := 1) hx hb dL_law_811 (by decide) ?_
  refine lv_iadd hx hb dL_law_812 ?_
  refine gg_sld hx hb hXs hbl hbA hS (3 * j + 1) (by omega) hL (nI_add _ 1) dL_law_813 ?_
  refine va_calli (va_runV (As := [.int (xs (3 * j + 1))]) (rest := []) ⟨hx, hb, hml, hown, hts⟩ (met_X4_bestCode l g (240 * j) M B C th S hok hD hT (xs (3 * j + 1))) (cwV 1 hts (lw_V q864 q865 q866 q21 q867) rfl rfl rfl (by decide +kernel) ⟨Nat.le_of_ble_eq_true rfl, Nat.le_of_ble_eq_true rfl⟩) (gg_preV hG (hS.kp hG (fun _ h => h)) (gg_recv hG hLJ.2.1.1.m0 rfl) hLJ.2.1) rfl rfl hl.1 rfl (lv_room (Nat.le_of_ble_eq_true rfl)) dL_law_814 ⟨by show cl9 + 336 + 0 ≤ 600576; omega, by show sl9 + 10816 + 0 ≤ 7279018; omega⟩) hS (fun q _ e => hD.an q e) (fun q  e => hD.an q e) (fun r8 u t9 H1 locs ht hvm hr8 hQ hz9 hk9 hS => ?_)
  rw [ht] at hQ
  have hLK := hLJ.model hz9 hQ (fun q h8 h9 => hk9 q h8 (fun e => h9 (Or.inl e)))
  subst hr8
  clear hQ hk9 hLJ ht hz9
  generalize H1 = H at hLK hS ⊢
  refine lv_istore (lv' := [(6, .int ((aBestC S (xs (3 * j + 1))).2.1)), (5, .int ((aBestC S (xs (3 * j + 1))).1)), (4, .int (nI (3 * j))), (3, .ref o), (2, .ref (M 0)), (1, .ref x), (0, .ref b)]) hx hb dL_law_817 hl (by decide) rfl (fun ls hl => ?_)
  refine lv_aload_n hx hb dL_law_819 rfl (lv_at hl 4 rfl) ?_
  refine vp_callSi (va_Run.run (va_runV (As := []) (rest := []) ⟨hx, hb, hml, hown, hts⟩ (met_X4_thrown l g (M 0) (sN (aBestC S (xs (3 * j + 1))).2.2) (M 1) (M 2) (M 3) (M 4) (B 0) (C 0) (aBestC S (xs (3 * j + 1))).1) (cwV 0 hts (lw_V q745 q746 q747 q21 q748) rfl rfl rfl (by decide +kernel) ⟨Nat.le_of_ble_eq_true rfl, Nat.le_of_ble_eq_true rfl⟩) (gg_preV hG (hS.kp hG (fun _ h => h)) (gg_recv hG hLK.2.1.1.m0 rfl) hLK.2.1.1.m0) rfl rfl hl.1 rfl (lv_room (Nat.le_of_ble_eq_true rfl)) dL_law_820 ⟨by show cl9 + 336 + 0 + 0 ≤ 600576; omega, by show sl9 + 10816 + 0 + 0 ≤ 7279018; omega⟩)) (fun r7 hr7 => ?_)
  subst hr7
  refine lv_iload hx hb dL_law_823 (lv_at hl 1 rfl) ?_
  refine lv_icmp_eq (tgt := 830) hx hb dL_law_825 (by decide) (fun c_825 => ?_) (fun c_825 => absurd rfl c_825)
  refine lv_iload hx hb dL_law_830 (lv_at hl 1 rfl) ?_
  refine lv_if_ne (tgt := 847) hx hb dL_law_832 (by decide) (fun c_832 => ?_) (fun c_832 => ?_)
  · refine lv_goto (tgt := 961) hx hb dL_law_847 (by decide) ?_
    refine lv_iinc (v := nI (3 * (j + 1))) (lv' := [(4, .int (nI (3 * (j + 1)))), (6, .int ((aBestC S (xs (3 * j + 1))).2.1)), (5, .int ((aBestC S (xs (3 * j + 1))).1)), (3, .ref o), (2, .ref (M 0)), (1, .ref x), (0, .ref b)]) hx hb dL_law_961 hl (k := 2) rfl (nI_add _ 3) (by decide) rfl (fun ls hl => ?_)
    refine lv_goto (tgt := 23) hx hb dL_law_964 (by decide) ?_
    exact ih _ _ _ _ _ _ _ _ _ _ hLK (by rw [Nat.mul_succ]; exact (ok_bestCode hok)) (by omega) (by omega) hS (lv_sub hl [0, 3, 4, 5, 6] rfl)
  · refine lv_aload_n hx hb dL_law_835 rfl (lv_at hl 3 rfl) ?_
    refine lv_iconst (v := 0) hx hb dL_law_836 (by decide) ?_
    refine gg_lald hx hb hG hLK.2.2.1 dL_law_837 ?_
    refine lv_iload hx hb dL_law_838 (lv_at hl 0 rfl) ?_
    refine lv_i2l hx hb dL_law_840 rfl ?_
    rw [hf1 c_832]
    refine gg_lcmp hx hb dL_law_841 ?_
    refine lv_if_eq (tgt := 847) hx hb dL_law_842 (by decide) (fun c_842 => ?_) (fun c_842 => absurd rfl c_842)
    refine lv_goto (tgt := 961) hx hb dL_law_847 (by decide) ?_
    refine lv_iinc (v := nI (3 * (j + 1))) (lv' := [(4, .int (nI (3 * (j + 1)))), (6, .int ((aBestC S (xs (3 * j + 1))).2.1)), (5, .int ((aBestC S (xs (3 * j + 1))).1)), (3, .ref o), (2, .ref (M 0)), (1, .ref x), (0, .ref b)]) hx hb dL_law_961 hl (k := 2) rfl (nI_add _ 3) (by decide) rfl (fun ls hl => ?_)
    refine lv_goto (tgt := 23) hx hb dL_law_964 (by decide) ?_
    exact ih _ _ _ _ _ _ _ _ _ _ hLK (by rw [Nat.mul_succ]; exact (ok_bestCode hok)) (by omega) (by omega) hS (lv_sub hl [0, 3, 4, 5, 6] rfl)

set_option maxHeartbeats 4000000 in
theorem law_bestPoise (l : Launch) (hl0 : l.stackTraces = false) (g : GT) {b L x o : Nat} {xs : Nat → Int32} {M B C : Nat → Nat} (hx : p.tables.exec = Jvm.exec) (hb : c.code = code) (hml : c.maxLocals = 9) (hown : s.vm.findClass "BridgeBellsLaw" = some m.cls) (hts : ∀ w ∈ lw_all, w.before #[Value.ref b] s = true) (hG : GG g s) (hXs : va_X b L xs s s.heap) (hbl : b < s.heap.size) (hbA : ¬ gA g b) (hL : L ≤ 192) (hD : MD g M B C) (hNo : gA g o) (j : Nat) (hj : 3 * j + 3 ≤ L) (ih : LWh p l e s m below meth c g b x o M B C (j + 1)) {F : Nat → Prop} {b0 : Nat} {th : Int32} {S : BS} {f : Nat → Int64} {H : Heap} {locs : List Loc} {cl9 sl9 : Nat} {ls : Array Slot} (hLI : LI g x o M B C F b0 th S S f H) (hok : OKS (240 * j) S) (hcl9 : cl9 ≤ 9000 * j + 20) (hsl9 : sl9 ≤ 110000 * j + 600) (hS : va_S (gA g) s.heap H locs) (hl : lv_has ls 9 [(4, .int (nI (3 * j))), (3, .ref o), (2, .ref (M 0)), (1, .ref x), (0, .ref b)]) : W p l e room_1 s m #[Value.ref b] below meth c H locs cl9 sl9 (lw_Z below #[Value.ref b] s) (F0 m 850 ls []) := by
  have hT : 240 * j < 2 ^ 29 := by omega
  refine lv_aload_n hx hb dL_law_850 rfl (lv_at hl 3 rfl) ?_
  refine lv_aload_n hx hb dL_law_851 rfl (lv_at hl 4 rfl) ?_
  refine lv_iload hx hb dL_law_852 (lv_at hl 0 rfl) ?_
  refine lv_iconst (v := 1) hx hb dL_law_854 (by decide) ?_
  refine lv_iadd hx hb dL_law_855 ?_
  refine gg_sld hx hb hXs hbl hbA hS (3 * j + 1) (by omega) hL (nI_add _ 1) dL_law_856 ?_
  refine lv_aload_n hx hb dL_law_857 rfl (lv_at hl 1 rfl) ?_
  refine va_calli (vx_runSW (As := [.ref x, .int (xs (3 * j + 1)), .ref o]) (rest := []) ⟨hx, hb, hml, hown, hts⟩ (met_X0_bestPoise l hl0 g (240 * j) x b0 H.size o S F f hok (fun q h => (hLI.2.2.2.1 q h).1) (fun h => (hLI.2.2.2.1 o h).2.2 rfl) hLI.2.2.2.2.2 hNo (xs (3 * j + 1)) hT) (vx_cwSW 3 hts (lw_SW q651 q652 q13 q653) rfl rfl rfl (by decide +kernel) ⟨Nat.le_of_ble_eq_true rfl, Nat.le_of_ble_eq_true rfl⟩) (gg_preS hG (hS.kp hG (fun _ h => h)) ⟨rfl, hLI.1, hLI.2.2.1⟩) rfl rfl hl.1 rfl (lv_room (Nat.le_of_ble_eq_true rfl)) dL_law_858 ⟨by show cl9 + 2573 ≤ 600576; omega, by show sl9 + 83669 ≤ 7279018; omega⟩) hS (fun q _ e => by rcases e with e | e | e; exact hLI.fg q e; rw [show q = o from e]; exact hNo; exact Nat.le_trans (hS.kp hG (fun _ h => h)).1 e) (fun q  e => by rcases e with e | e | e; exact hLI.fg q e; rw [show q = o from e]; exact hNo; exact Nat.le_trans (hS.kp hG (fun _ h => h)).1 e) (fun r9 u t9 H1 locs ht hvm hr9 hQ hz9 hk9 hS => ?_)
  rw [ht] at hQ
  obtain ⟨hXB1, f1, h_o1, hf1⟩ := hQ
  have hLJ := hLI.comp hz9 hXB1 h_o1 hk9
  subst hr9
  generalize (fun q => F q ∨ (H.size ≤ q ∧ q < H1.size)) = F1 at hLJ
  clear hXB1 h_o1 hk9 hLI ht hz9
  generalize H1 = H at hLJ hS ⊢
  refine lv_istore (lv' := [(5, .int ((aBestP S (xs (3 * j + 1))).1)), (4, .int (nI (3 * j))), (3, .ref o), (2, .ref (M 0)), (1, .ref x), (0, .ref b)]) hx hb dL_law_861 hl (by decide) rfl (fun ls hl => ?_)
  refine lv_aload_n hx hb dL_law_863 rfl (lv_at hl 3 rfl) ?_
  refine lv_aload_n hx hb dL_law_864 rfl (lv_at hl 5 rfl) ?_
  refine lv_iload hx hb dL_law_865 (lv_at hl 1 rfl) ?_
  refine lv_iconst (v := 1) hx hb dL_law_867 (by decide) ?_
  refine lv_iadd hx hb dL_law_868 ?_
  refine gg_sld hx hb hXs hbl hbA hS (3 * j + 1) (by omega) hL (nI_add _ 1) dL_law_869 ?_
  refine va_calli (va_runV (As := [.int (xs (3 * j + 1))]) (rest := []) ⟨hx, hb, hml, hown, hts⟩ (met_X4_bestPoise l g (240 * j) M B C th S hok hD hT (xs (3 * j + 1))) (cwV 1 hts (lw_V q872 q873 q874 q21 q875) rfl rfl rfl (by decide +kernel) ⟨Nat.le_of_ble_eq_true rfl, Nat.le_of_ble_eq_true rfl⟩) (gg_preV hG (hS.kp hG (fun _ h => h)) (gg_recv hG hLJ.2.1.1.m0 rfl) hLJ.2.1) rfl rfl hl.1 rfl (lv_room (Nat.le_of_ble_eq_true rfl)) dL_law_870 ⟨by show cl9 + 2573 + 0 ≤ 600576; omega, by show sl9 + 83669 + 0 ≤ 7279018; omega⟩) hS (fun q _ e => hD.an q e) (fun q  e => hD.an q e) (fun r8 u t9 H1 locs ht hvm hr8 hQ hz9 hk9 hS => ?_)
  rw [ht] at hQ
  have hLK := hLJ.model hz9 hQ (fun q h8 h9 => hk9 q h8 (fun e => h9 (Or.inl e)))
  subst hr8
  clear hQ hk9 hLJ ht hz9
  generalize H1 = H at hLK hS ⊢
  refine lv_istore (lv' := [(6, .int ((aBestP S (xs (3 * j + 1))).2.1)), (5, .int ((aBestP S (xs (3 * j + 1))).1)), (4, .int (nI (3 * j))), (3, .ref o), (2, .ref (M 0)), (1, .ref x), (0, .ref b)]) hx hb dL_law_873 hl (by decide) rfl (fun ls hl => ?_)
  refine lv_aload_n hx hb dL_law_875 rfl (lv_at hl 4 rfl) ?_
  refine vp_callSi (va_Run.run (va_runV (As := []) (rest := []) ⟨hx, hb, hml, hown, hts⟩ (met_X4_thrown l g (M 0) (sN (aBestP S (xs (3 * j + 1))).2.2) (M 1) (M 2) (M 3) (M 4) (B 0) (C 0) (aBestP S (xs (3 * j + 1))).1) (cwV 0 hts (lw_V q745 q746 q747 q21 q748) rfl rfl rfl (by decide +kernel) ⟨Nat.le_of_ble_eq_true rfl, Nat.le_of_ble_eq_true rfl⟩) (gg_preV hG (hS.kp hG (fun _ h => h)) (gg_recv hG hLK.2.1.1.m0 rfl) hLK.2.1.1.m0) rfl rfl hl.1 rfl (lv_room (Nat.le_of_ble_eq_true rfl)) dL_law_876 ⟨by show cl9 + 2573 + 0 + 0 ≤ 600576; omega, by show sl9 + 83669 + 0 + 0 ≤ 7279018; omega⟩)) (fun r7 hr7 => ?_)
  subst hr7
  refine lv_iload hx hb dL_law_879 (lv_at hl 1 rfl) ?_
  refine lv_icmp_eq (tgt := 886) hx hb dL_law_881 (by decide) (fun c_881 => ?_) (fun c_881 => absurd rfl c_881)
  refine lv_iload hx hb dL_law_886 (lv_at hl 1 rfl) ?_
  refine lv_if_ne (tgt := 903) hx hb dL_law_888 (by decide) (fun c_888 => ?_) (fun c_888 => ?_)
  · refine lv_goto (tgt := 961) hx hb dL_law_903 (by decide) ?_
    refine lv_iinc (v := nI (3 * (j + 1))) (lv' := [(4, .int (nI (3 * (j + 1)))), (6, .int ((aBestP S (xs (3 * j + 1))).2.1)), (5, .int ((aBestP S (xs (3 * j + 1))).1)), (3, .ref o), (2, .ref (M 0)), (1, .ref x), (0, .ref b)]) hx hb dL_law_961 hl (k := 2) rfl (nI_add _ 3) (by decide) rfl (fun ls hl => ?_)
    refine lv_goto (tgt := 23) hx hb dL_law_964 (by decide) ?_
    exact ih _ _ _ _ _ _ _ _ _ _ hLK (by rw [Nat.mul_succ]; exact (ok_bestPoise hok)) (by omega) (by omega) hS (lv_sub hl [0, 3, 4, 5, 6] rfl)
  · refine lv_aload_n hx hb dL_law_891 rfl (lv_at hl 3 rfl) ?_
    refine lv_iconst (v := 0) hx hb dL_law_892 (by decide) ?_
    refine gg_lald hx hb hG hLK.2.2.1 dL_law_893 ?_
    refine lv_iload hx hb dL_law_894 (lv_at hl 0 rfl) ?_
    refine lv_i2l hx hb dL_law_896 rfl ?_
    rw [hf1 c_888]
    refine gg_lcmp hx hb dL_law_897 ?_
    refine lv_if_eq (tgt := 903) hx hb dL_law_898 (by decide) (fun c_898 => ?_) (fun c_898 => absurd rfl c_898)
    refine lv_goto (tgt := 961) hx hb dL_law_903 (by decide) ?_
    refine lv_iinc (v := nI (3 * (j + 1))) (lv' := [(4, .int (nI (3 * (j + 1)))), (6, .int ((aBestP S (xs (3 * j + 1))).2.1)), (5, .int ((aBestP S (xs (3 * j + 1))).1)), (3, .ref o), (2, .ref (M 0)), (1, .ref x), (0, .ref b)]) hx hb dL_law_961 hl (k := 2) rfl (nI_add _ 3) (by decide) rfl (fun ls hl => ?_)
    refine lv_goto (tgt := 23) hx hb dL_law_964 (by decide) ?_
    exact ih _ _ _ _ _ _ _ _ _ _ hLK (by rw [Nat.mul_succ]; exact (ok_bestPoise hok)) (by omega) (by omega) hS (lv_sub hl [0, 3, 4, 5, 6] rfl)
end LW
