/-! THE LAW'S WRAPPERS: what the component answers, or by which number it refuses. -/
set_option maxRecDepth 100000
/-- the head of a contract of a method with handlers -/
theorem gg_metW {l : Launch} {y : MethodName} {g : GT} {av : List Value} {B : Heap → Prop} {cc : ByteArray} {maxL : Nat} {ret : Option FieldType} {hh : List (Nat × Nat × Nat × Nat)} {rm : Room} {Qc : Array Value → State → Outcome → State → Prop} {mc ms : Nat} {free : Addr → Prop} (hy : plainName y.cls = true) (hlen : (lg_sl av).length ≤ maxL)
    (body : ∀ (p : Program) (e : Env) (s : State) (m : MethodId) (below : List Frame) (meth : Method) (c : Code), p.tables.exec = Jvm.exec → c.code = cc → meth.sig.returnType = ret → meth.locks = false → c.maxLocals = maxL → s.vm.findClass y.cls = some m.cls → (∀ w ∈ lw_all, w.before av.toArray s = true) → c.exceptionTable.toList = tableOf hh → GG g s → B s.heap → ∀ ls : Array Slot, lv_has ls maxL (lv_args 0 av) → W p l e rm s m av.toArray below meth c s.heap [] 0 0 (MQ below Qc av.toArray s mc ms free) (F0 m 0 ls [])) :
    Met l y (wsW_ y cc maxL ret hh) rm (PcG g av B) Qc mc ms free := by
  refine MetFree.of_bodyS (code := cc) (maxLocals := maxL) (ret := ret) hy ?_ ?_
  · intro args s m h hn
    obtain ⟨m9, meth, c, hn9, h1, h2, h3, h4, -, h5, h6, -⟩ := Cond.codeWith_spec (atoms_spec (ws := wsW_ y cc maxL ret hh) h _ List.mem_cons_self)
    cases hn.symm.trans hn9
    exact ⟨meth, c, h1, h2, h3, h4, h5, h6⟩
  · intro p e s m args below meth c s₁ BL hml hP _
    obtain ⟨rfl, hG, hB⟩ := hP
    have hts0 := atoms_spec (ws := wsW_ y cc maxL ret hh) BL.pre
    have hts : ∀ w ∈ lw_all, w.before _ s = true := fun w h => hts0 w (List.mem_cons_of_mem _ h)
    have htab := vx_table (x := y) BL (hts0 _ List.mem_cons_self)
    have hown : s.vm.findClass y.cls = some m.cls := findClass_of_methodNamed BL.named
    have hl := lv_entry av hlen
    have hh0 : s₁.heap = s.heap := by rw [BL.state]; rfl
    have key : W p l e rm s m av.toArray below meth c s.heap [] 0 0 (MQ below Qc av.toArray s mc ms free) (entryFrame m av.toArray maxL) := by
      rw [lg_entry_eq]
      generalize (lg_sl av ++ List.replicate (maxL - (lg_sl av).length) Slot.unset).toArray = ls at hl ⊢
      exact body p e s m below meth c BL.exec BL.bytes BL.returns BL.notSynchronized hml hown hts htab hG hB ls hl
    obtain ⟨t, a1, o, b1, b2, b3, b4⟩ := key s₁ hh0 (Stand.of_body BL)
    exact ⟨t, o, a1, b1, b2, b3, b4⟩
theorem XB.kept {g : GT} {F : Nat → Prop} {x b : Nat} {S : BS} {H H1 : Heap} (h : XB g F x b S H) (hq : ∀ q : Nat, q < H.size → (F q ∨ q = x) → H1[q]? = H[q]?) : XB g F x b S H1 := by
  obtain ⟨h1, ⟨cd, al, el, cap, mc, arr, ad, hX⟩, h3⟩ := h
  exact ⟨h1.kept (hq _ h1.lt (Or.inr rfl)), ⟨cd, al, el, cap, mc, arr, ad, hX.keptL (fun q h hF => hq q h (Or.inl hF))⟩, h3⟩
theorem XB.up {g : GT} {F F1 : Nat → Prop} {x b : Nat} {S : BS} {H : Heap} (h : XB g F x b S H) (hF : ∀ q, F q → F1 q) (hg : ∀ q, F1 q → gA g q) (hx : ¬ F1 x) : XB g F1 x b S H := by
  obtain ⟨h1, ⟨cd, al, el, cap, mc, arr, ad, hX⟩, -⟩ := h
  exact ⟨h1, ⟨cd, al, el, cap, mc, arr, ad, hX.monoF hF hg⟩, hx⟩
/-- the law's array of one number -/
abbrev ouA (g : GT) (f : Nat → Int64) : va_E := .inl (gJ g, 1, .inr (.inl f))
/-- what a wrapper leaves: its component, and the number -/
def LQ (g : GT) (F : Nat → Prop) (x b sz o : Nat) (a : Ans) (H : Heap) : Prop := XB g (fun q => F q ∨ (sz ≤ q ∧ q < H.size)) x b a.2.2 H ∧ ∃ f : Nat → Int64, va_at (gD g) bbCl (o, ouA g f) H ∧ (a.1 = 0 → f 0 = a.2.1.toInt64)
theorem LQ.no {g : GT} {F : Nat → Prop} {x b sz o : Nat} {S : BS} {n : Int32} {a : Ans} {f : Nat → Int64} {H H1 : Heap} (ha : a = (n, 0, S)) (hn : n ≠ 0) (hsz : H.size = sz) (hN : gN g ≤ sz) (hFsz : ∀ q, F q → q < sz) (hXB : XB g F x b S H) (ho : va_at (gD g) bbCl (o, ouA g f) H) (hk : ∀ q : Nat, q < H.size → ¬ False → H1[q]? = H[q]?) : LQ g F x b sz o a H1 := by
  subst ha
  have hx : x < sz := by rw [← hsz]; exact hXB.1.lt
  have hFg : ∀ q, F q → gA g q := by obtain ⟨-, ⟨_, _, _, _, _, _, _, hX⟩, -⟩ := hXB; exact hX.2.2.2.2.2.2.2.2.1
  refine ⟨(hXB.kept (fun q h _ => hk q h id)).up (fun q h => Or.inl h) (fun q h => h.elim (hFg q) (fun h => Nat.le_trans hN h.1)) (fun h => h.elim hXB.2.2 (fun h => absurd h.1 (Nat.not_le.mpr hx))), f, ho.kept (hk _ ho.lt id), fun h => absurd h hn⟩
theorem LQ.ok {g : GT} {F F1 : Nat → Prop} {x b sz o : Nat} {S : BS} {r : Int32} {a : Ans} {f : Nat → Int64} {H1 H2 : Heap} (ha : a = (0, r, S)) (hxsz : x < sz) (hN : gN g ≤ sz) (hFg : ∀ q, F q → gA g q) (hFx : ¬ F x) (hF1 : ∀ q, F1 q → F q ∨ (sz ≤ q ∧ q < H1.size)) (hXB : XB g F1 x b S H1) (hxo : x ≠ o) (hFo : ¬ F o) (hosz : o < sz) (hb : But o H1 H2) (ho : va_at (gD g) bbCl (o, ouA g f) H2) (hf : f 0 = r.toInt64) : LQ g F x b sz o a H2 := by
  subst ha
  refine ⟨?_, f, ho, fun _ => hf⟩
  have h1 : XB g (fun q => F q ∨ (sz ≤ q ∧ q < H2.size)) x b S H1 := hXB.up (fun q h => by rw [hb.1]; exact hF1 q h) (fun q h => h.elim (hFg q) (fun h => Nat.le_trans hN h.1)) (fun h => h.elim hFx (fun h => absurd h.1 (Nat.not_le.mpr hxsz)))
  refine h1.kept (fun q _ h => hb.2 q (fun e => ?_))
  rcases h with (h | h) | h
  · exact hFo (e ▸ h)
  · rw [e] at h
    exact absurd h.1 (Nat.not_le.mpr hosz)
  · exact hxo (h.symm.trans e)

set_option maxHeartbeats 4000000 in
theorem met_X0_come (l : Launch) (hl0 : l.stackTraces = false) (g : GT) (T x b sz o : Nat) (S : BS) (F : Nat → Prop) (f : Nat → Int64) (hok : OKS T S) (hFsz : ∀ q, F q → q < sz) (hFo : ¬ F o) (hxo : x ≠ o) (hNo : gA g o) (ba v : Int32) (hba : ba = 0 ∨ ba = 1) : Met l yX0_come (wsW_ yX0_come cX0_come 5 (Option.some Jvm.ClassFile.FieldType.int) [(0, 10, 13, 13), (0, 10, 17, 15)]) ({ frames := 11, cells := 2, slots := 67, locals := 366 } : Room) (PcG g [.ref x, .int ba, .int v, .ref o] (fun H => H.size = sz ∧ XB g F x b S H ∧ va_at (gD g) bbCl (o, ouA g f) H)) (va_Qi (fun (r : Int32) (_ : Unit) => r = (aCome S ba v).1) (fun _ u => LQ g F x b sz o (aCome S ba v) u.heap) (fun q => F q ∨ q = o ∨ sz ≤ q)) 2 67 (fun q => F q ∨ q = o ∨ sz ≤ q) := by
  refine gg_metW (cc := cX0_come) (maxL := 5) (ret := (Option.some Jvm.ClassFile.FieldType.int)) (hh := [(0, 10, 13, 13), (0, 10, 17, 15)]) (by decide) (Nat.le_of_ble_eq_true rfl) ?_
  intro p e s m below meth c hx hb hr hlk hml hown hts htab hG hB ls hl
  have hown : s.vm.findClass RX0 = some m.cls := hown
  have hl : lv_has ls 5 [(0, .ref x), (1, .int ba), (2, .int v), (3, .ref o)] := hl
  obtain ⟨hsz, hXB, h_o⟩ := hB
  have hN : gN g ≤ sz := by rw [← hsz]; exact hG.sz
  have hFg : ∀ q, F q → gA g q := by obtain ⟨-, ⟨_, _, _, _, _, _, _, hX⟩, -⟩ := hXB; exact hX.2.2.2.2.2.2.2.2.1
  have hxsz : x < sz := by rw [← hsz]; exact hXB.1.lt
  have hosz : o < sz := by rw [← hsz]; exact h_o.lt
  have hn40 : sN S ≤ 40 := hok.2.2.2.2.2.2.2.1
  have hAN : ∀ q, (F q ∨ q = o ∨ sz ≤ q) → gA g q := fun q h => by rcases h with h | h | h; exact hFg q h; rw [h]; exact hNo; exact Nat.le_trans hN h
  have hS : va_S (fun q => F q ∨ q = o ∨ sz ≤ q) s.heap s.heap [] := va_S.rf
  by_cases h1 : 1 ≤ v ∧ v ≤ 6
  · by_cases h2 : nI (sN S) = 40
    · refine lv_aload_n hx hb dX0_come_0 rfl (lv_at hl 3 rfl) ?_
      refine lv_iconst (v := 0) hx hb dX0_come_1 (by decide) ?_
      refine lv_aload_n hx hb dX0_come_2 rfl (lv_at hl 0 rfl) ?_
      refine lv_iload_n hx hb dX0_come_3 rfl (lv_at hl 1 rfl) ?_
      refine lv_iload_n hx hb dX0_come_4 rfl (lv_at hl 2 rfl) ?_
      refine vx_calli (vx_runV (As := [.int ba, .int v]) (rest := [.int 0, .ref o]) ⟨hx, hb, hml, hown, hts⟩ (xm_X1_come_ISE l hl0 g T x b S F hok ba v h1 h2) (cwV 2 hts (lw_V q263 q264 q265 q14 q266) rfl rfl rfl (by decide +kernel) ⟨Nat.le_of_ble_eq_true rfl, Nat.le_of_ble_eq_true rfl⟩) (gg_preV hG (Kp.rf hG) (gg_recv hG hXB.1 rfl) hXB) rfl rfl hl.1 rfl (lv_room (Nat.le_of_ble_eq_true rfl)) dX0_come_5 ⟨Nat.le_of_ble_eq_true rfl, Nat.le_of_ble_eq_true rfl⟩) hS (fun q _ e => e.elim) (fun q e => e.elim) (fun q _ e => e.elim) (fun E ce q9 u t9 H locs ht hvm _ hE9 hz9 hk9 hS hce hcv hcx => ?_) (fun r9 _ t9 H1 locs _ _ h9 => h9.elim)
      subst hE9
      refine vx_catch (pc := 5) hown [⟨0, 10, 13, 13⟩] ⟨0, 10, 17, 15⟩ [] htab (fun z hz => by rcases List.mem_cons.mp hz with e | e; (rw [e]; exact Or.inr ⟨by decide, xIAE, hts _ q261, hG.1.2.2.2.2.2.2.1⟩); cases e) (by decide) (by decide) (hts _ q262) (hG.nb q343 rfl) hce hcv hcx ?_
      refine W.eq (g2 := F0 m 17 ls [.ref q9]) rfl ?_
      refine lv_astore (lv' := [(4, .ref q9), (0, .ref x), (1, .int ba), (2, .int v), (3, .ref o)]) hx hb dX0_come_17 hl (by decide) rfl (fun ls hl => ?_)
      refine lv_iconst (v := 2) hx hb dX0_come_19 (by decide) ?_
      have hE : aCome S ba v = ((2, 0, S) : Ans) := by unfold aCome; rw [if_pos h1, if_pos h2]
      refine W.widen (k := 2) (n := 67) (Nat.le_of_ble_eq_true rfl) (Nat.le_of_ble_eq_true rfl) ?_
      exact W.iret (v := 2) hx hb hr (fun t9 h9 hW9 => ⟨⟨_, (), rfl, by rw [hE], by dsimp only; rw [h9]; exact LQ.no hE (by decide) hsz hN hFsz hXB h_o hk9⟩, hS.F h9⟩) hS.2.2 dX0_come_20
    · have hn39 : sN S < 40 := by rcases Nat.lt_or_ge (sN S) 40 with q | q; exact q; exact absurd (show nI (sN S) = nI 40 by rw [show sN S = 40 by omega]) h2
      refine lv_aload_n hx hb dX0_come_0 rfl (lv_at hl 3 rfl) ?_
      refine lv_iconst (v := 0) hx hb dX0_come_1 (by decide) ?_
      refine lv_aload_n hx hb dX0_come_2 rfl (lv_at hl 0 rfl) ?_
      refine lv_iload_n hx hb dX0_come_3 rfl (lv_at hl 1 rfl) ?_
      refine lv_iload_n hx hb dX0_come_4 rfl (lv_at hl 2 rfl) ?_
      refine va_calli (va_runV (As := [.int ba, .int v]) (rest := [.int 0, .ref o]) ⟨hx, hb, hml, hown, hts⟩ (met_X1_come l g T x b sz S F hok hFsz ba v hba h1.1 h1.2 hn39) (cwV 2 hts (lw_V q263 q264 q265 q14 q266) rfl rfl rfl (by decide +kernel) ⟨Nat.le_of_ble_eq_true rfl, Nat.le_of_ble_eq_true rfl⟩) (gg_preV hG (Kp.rf hG) (gg_recv hG hXB.1 rfl) ⟨hsz, hXB⟩) rfl rfl hl.1 rfl (lv_room (Nat.le_of_ble_eq_true rfl)) dX0_come_5 ⟨Nat.le_of_ble_eq_true rfl, Nat.le_of_ble_eq_true rfl⟩) hS (fun q _ e => e.elim Or.inl (fun e => Or.inr (Or.inr e))) (fun q e => e.elim Or.inl (fun e => Or.inr (Or.inr e))) (fun r9 u t9 H locs ht hvm hr9 hQ hz9 hk9 hS => ?_)
      rw [ht] at hQ
      have h_o := h_o.kept (hk9 _ h_o.lt (fun e => e.elim hFo (fun e => absurd e (Nat.not_le.mpr hosz))))
      refine lv_i2l hx hb dX0_come_8 rfl ?_
      refine gg_last hx hb hG h_o hS (Or.inr (Or.inl rfl)) 0 (by decide) (by decide) rfl dX0_come_9 (fun H2 locs h_o hbut hS => ?_)
      refine lv_goto (tgt := 21) hx hb dX0_come_10 (by decide) ?_
      refine lv_iconst (v := 0) hx hb dX0_come_21 (by decide) ?_
      have hE : aCome S ba v = ((0, nI (sN S), sCome S ba v) : Ans) := by unfold aCome; rw [if_pos h1, if_neg h2]
      refine W.widen (k := 2) (n := 67) (Nat.le_of_ble_eq_true rfl) (Nat.le_of_ble_eq_true rfl) ?_
      exact W.iret (v := 0) hx hb hr (fun t9 h9 hW9 => ⟨⟨_, (), rfl, by rw [hE], by dsimp only; rw [h9]; exact LQ.ok (F1 := _) hE hxsz hN hFg hXB.2.2 (fun q h => h) hQ hxo hFo hosz hbut h_o (by show vp_updL f 0 _ 0 = _; rw [hr9]; exact if_pos rfl)⟩, hS.F h9⟩) hS.2.2 dX0_come_22
  · refine lv_aload_n hx hb dX0_come_0 rfl (lv_at hl 3 rfl) ?_
    refine lv_iconst (v := 0) hx hb dX0_come_1 (by decide) ?_
    refine lv_aload_n hx hb dX0_come_2 rfl (lv_at hl 0 rfl) ?_
    refine lv_iload_n hx hb dX0_come_3 rfl (lv_at hl 1 rfl) ?_
    refine lv_iload_n hx hb dX0_come_4 rfl (lv_at hl 2 rfl) ?_
    refine vx_calli (vx_runV (As := [.int ba, .int v]) (rest := [.int 0, .ref o]) ⟨hx, hb, hml, hown, hts⟩ (xm_X1_come_IAE l hl0 g T x b S F hok ba v h1) (cwV 2 hts (lw_V q263 q264 q265 q14 q266) rfl rfl rfl (by decide +kernel) ⟨Nat.le_of_ble_eq_true rfl, Nat.le_of_ble_eq_true rfl⟩) (gg_preV hG (Kp.rf hG) (gg_recv hG hXB.1 rfl) hXB) rfl rfl hl.1 rfl (lv_room (Nat.le_of_ble_eq_true rfl)) dX0_come_5 ⟨Nat.le_of_ble_eq_true rfl, Nat.le_of_ble_eq_true rfl⟩) hS (fun q _ e => e.elim) (fun q e => e.elim) (fun q _ e => e.elim) (fun E ce q9 u t9 H locs ht hvm _ hE9 hz9 hk9 hS hce hcv hcx => ?_) (fun r9 _ t9 H1 locs _ _ h9 => h9.elim)
    subst hE9
    refine vx_catch (pc := 5) hown [] ⟨0, 10, 13, 13⟩ [⟨0, 10, 17, 15⟩] htab (fun z hz => by cases hz) (by decide) (by decide) (hts _ q261) (hG.nb q275 rfl) hce hcv hcx ?_
    refine W.eq (g2 := F0 m 13 ls [.ref q9]) rfl ?_
    refine lv_astore (lv' := [(4, .ref q9), (0, .ref x), (1, .int ba), (2, .int v), (3, .ref o)]) hx hb dX0_come_13 hl (by decide) rfl (fun ls hl => ?_)
    refine lv_iconst (v := 1) hx hb dX0_come_15 (by decide) ?_
    have hE : aCome S ba v = ((1, 0, S) : Ans) := by unfold aCome; rw [if_neg h1]
    refine W.widen (k := 2) (n := 67) (Nat.le_of_ble_eq_true rfl) (Nat.le_of_ble_eq_true rfl) ?_
    exact W.iret (v := 1) hx hb hr (fun t9 h9 hW9 => ⟨⟨_, (), rfl, by rw [hE], by dsimp only; rw [h9]; exact LQ.no hE (by decide) hsz hN hFsz hXB h_o hk9⟩, hS.F h9⟩) hS.2.2 dX0_come_16

set_option maxHeartbeats 4000000 in
theorem met_X0_leave (l : Launch) (hl0 : l.stackTraces = false) (g : GT) (T x b sz o : Nat) (S : BS) (F : Nat → Prop) (f : Nat → Int64) (hok : OKS T S) (hFsz : ∀ q, F q → q < sz) (hFo : ¬ F o) (hxo : x ≠ o) (hNo : gA g o) (k : Int32) : Met l yX0_leave (wsW_ yX0_leave cX0_leave 4 (Option.some Jvm.ClassFile.FieldType.int) [(0, 9, 12, 21), (0, 9, 15, 15)]) ({ frames := 9, cells := 1, slots := 6, locals := 153 } : Room) (PcG g [.ref x, .int k, .ref o] (fun H => H.size = sz ∧ XB g F x b S H ∧ va_at (gD g) bbCl (o, ouA g f) H)) (va_Qi (fun (r : Int32) (_ : Unit) => r = (aLeave S k).1) (fun _ u => LQ g F x b sz o (aLeave S k) u.heap) (fun q => F q ∨ q = o ∨ sz ≤ q)) 1 6 (fun q => F q ∨ q = o ∨ sz ≤ q) := by
  refine gg_metW (cc := cX0_leave) (maxL := 4) (ret := (Option.some Jvm.ClassFile.FieldType.int)) (hh := [(0, 9, 12, 21), (0, 9, 15, 15)]) (by decide) (Nat.le_of_ble_eq_true rfl) ?_
  intro p e s m below meth c hx hb hr hlk hml hown hts htab hG hB ls hl
  have hown : s.vm.findClass RX0 = some m.cls := hown
  have hl : lv_has ls 4 [(0, .ref x), (1, .int k), (2, .ref o)] := hl
  obtain ⟨hsz, hXB, h_o⟩ := hB
  have hN : gN g ≤ sz := by rw [← hsz]; exact hG.sz
  have hFg : ∀ q, F q → gA g q := by obtain ⟨-, ⟨_, _, _, _, _, _, _, hX⟩, -⟩ := hXB; exact hX.2.2.2.2.2.2.2.2.1
  have hxsz : x < sz := by rw [← hsz]; exact hXB.1.lt
  have hosz : o < sz := by rw [← hsz]; exact h_o.lt
  have hn40 : sN S ≤ 40 := hok.2.2.2.2.2.2.2.1
  have hAN : ∀ q, (F q ∨ q = o ∨ sz ≤ q) → gA g q := fun q h => by rcases h with h | h | h; exact hFg q h; rw [h]; exact hNo; exact Nat.le_trans hN h
  have hS : va_S (fun q => F q ∨ q = o ∨ sz ≤ q) s.heap s.heap [] := va_S.rf
  by_cases h1 : 0 ≤ k ∧ k < nI (sN S)
  · obtain ⟨j, hj, hkj⟩ := isT_ex hn40 h1
    subst hkj
    have hcl := nI_clamp (n := j) (by omega)
    by_cases h2 : tSt (sTv S j) = 0
    · refine lv_aload_n hx hb dX0_leave_0 rfl (lv_at hl 2 rfl) ?_
      refine lv_iconst (v := 0) hx hb dX0_leave_1 (by decide) ?_
      refine lv_aload_n hx hb dX0_leave_2 rfl (lv_at hl 0 rfl) ?_
      refine lv_iload_n hx hb dX0_leave_3 rfl (lv_at hl 1 rfl) ?_
      refine va_calli (va_runV (As := [.int (nI j)]) (rest := [.int 0, .ref o]) ⟨hx, hb, hml, hown, hts⟩ (met_X1_leave l g T x b S F hok j hj h2) (cwV 1 hts (lw_V q488 q489 q490 q14 q491) rfl rfl rfl (by decide +kernel) ⟨Nat.le_of_ble_eq_true rfl, Nat.le_of_ble_eq_true rfl⟩) (gg_preV hG (Kp.rf hG) (gg_recv hG hXB.1 rfl) hXB) rfl rfl hl.1 rfl (lv_room (Nat.le_of_ble_eq_true rfl)) dX0_leave_4 ⟨Nat.le_of_ble_eq_true rfl, Nat.le_of_ble_eq_true rfl⟩) hS (fun q _ e => Or.inl e) (fun q e => Or.inl e) (fun r9 u t9 H locs ht hvm hr9 hQ hz9 hk9 hS => ?_)
      rw [ht] at hQ
      have h_o := h_o.kept (hk9 _ h_o.lt hFo)
      refine lv_i2l hx hb dX0_leave_7 rfl ?_
      refine gg_last hx hb hG h_o hS (Or.inr (Or.inl rfl)) 0 (by decide) (by decide) rfl dX0_leave_8 (fun H2 locs h_o hbut hS => ?_)
      refine lv_goto (tgt := 18) hx hb dX0_leave_9 (by decide) ?_
      refine lv_iconst (v := 0) hx hb dX0_leave_18 (by decide) ?_
      have hE : aLeave S (nI j) = ((0, tWa (sTv S j), sGone S j) : Ans) := by unfold aLeave; rw [if_pos h1, hcl, if_pos h2]
      refine W.widen (k := 1) (n := 6) (Nat.le_of_ble_eq_true rfl) (Nat.le_of_ble_eq_true rfl) ?_
      exact W.iret (v := 0) hx hb hr (fun t9 h9 hW9 => ⟨⟨_, (), rfl, by rw [hE], by dsimp only; rw [h9]; exact LQ.ok (F1 := F) hE hxsz hN hFg hXB.2.2 (fun q h => Or.inl h) hQ hxo hFo hosz hbut h_o (by show vp_updL f 0 _ 0 = _; rw [hr9]; exact if_pos rfl)⟩, hS.F h9⟩) hS.2.2 dX0_leave_19
    · refine lv_aload_n hx hb dX0_leave_0 rfl (lv_at hl 2 rfl) ?_
      refine lv_iconst (v := 0) hx hb dX0_leave_1 (by decide) ?_
      refine lv_aload_n hx hb dX0_leave_2 rfl (lv_at hl 0 rfl) ?_
      refine lv_iload_n hx hb dX0_leave_3 rfl (lv_at hl 1 rfl) ?_
      refine vx_calli (vx_runV (As := [.int (nI j)]) (rest := [.int 0, .ref o]) ⟨hx, hb, hml, hown, hts⟩ (xm_X1_leave_ISE l hl0 g T x b S F hok j hj h2) (cwV 1 hts (lw_V q488 q489 q490 q14 q491) rfl rfl rfl (by decide +kernel) ⟨Nat.le_of_ble_eq_true rfl, Nat.le_of_ble_eq_true rfl⟩) (gg_preV hG (Kp.rf hG) (gg_recv hG hXB.1 rfl) hXB) rfl rfl hl.1 rfl (lv_room (Nat.le_of_ble_eq_true rfl)) dX0_leave_4 ⟨Nat.le_of_ble_eq_true rfl, Nat.le_of_ble_eq_true rfl⟩) hS (fun q _ e => e.elim) (fun q e => e.elim) (fun q _ e => e.elim) (fun E ce q9 u t9 H locs ht hvm _ hE9 hz9 hk9 hS hce hcv hcx => ?_) (fun r9 _ t9 H1 locs _ _ h9 => h9.elim)
      subst hE9
      refine vx_catch (pc := 4) hown [⟨0, 9, 12, 21⟩] ⟨0, 9, 15, 15⟩ [] htab (fun z hz => by rcases List.mem_cons.mp hz with e | e; (rw [e]; exact Or.inr ⟨by decide, xIOB, hts _ q455, hG.1.2.2.2.2.2.2.2.2.2.2.2⟩); cases e) (by decide) (by decide) (hts _ q262) (hG.nb q343 rfl) hce hcv hcx ?_
      refine W.eq (g2 := F0 m 15 ls [.ref q9]) rfl ?_
      refine lv_astore_n (lv' := [(3, .ref q9), (0, .ref x), (1, .int (nI j)), (2, .ref o)]) hx hb dX0_leave_15 rfl hl (by decide) rfl (fun ls hl => ?_)
      refine lv_iconst (v := 2) hx hb dX0_leave_16 (by decide) ?_
      have hE : aLeave S (nI j) = ((2, 0, S) : Ans) := by unfold aLeave; rw [if_pos h1, hcl, if_neg h2]
      refine W.widen (k := 1) (n := 6) (Nat.le_of_ble_eq_true rfl) (Nat.le_of_ble_eq_true rfl) ?_
      exact W.iret (v := 2) hx hb hr (fun t9 h9 hW9 => ⟨⟨_, (), rfl, by rw [hE], by dsimp only; rw [h9]; exact LQ.no hE (by decide) hsz hN hFsz hXB h_o hk9⟩, hS.F h9⟩) hS.2.2 dX0_leave_17
  · refine lv_aload_n hx hb dX0_leave_0 rfl (lv_at hl 2 rfl) ?_
    refine lv_iconst (v := 0) hx hb dX0_leave_1 (by decide) ?_
    refine lv_aload_n hx hb dX0_leave_2 rfl (lv_at hl 0 rfl) ?_
    refine lv_iload_n hx hb dX0_leave_3 rfl (lv_at hl 1 rfl) ?_
    refine vx_calli (vx_runV (As := [.int k]) (rest := [.int 0, .ref o]) ⟨hx, hb, hml, hown, hts⟩ (xm_X1_leave_IOB l hl0 g T x b S F hok k h1) (cwV 1 hts (lw_V q488 q489 q490 q14 q491) rfl rfl rfl (by decide +kernel) ⟨Nat.le_of_ble_eq_true rfl, Nat.le_of_ble_eq_true rfl⟩) (gg_preV hG (Kp.rf hG) (gg_recv hG hXB.1 rfl) hXB) rfl rfl hl.1 rfl (lv_room (Nat.le_of_ble_eq_true rfl)) dX0_leave_4 ⟨Nat.le_of_ble_eq_true rfl, Nat.le_of_ble_eq_true rfl⟩) hS (fun q _ e => e.elim) (fun q e => e.elim) (fun q _ e => e.elim) (fun E ce q9 u t9 H locs ht hvm _ hE9 hz9 hk9 hS hce hcv hcx => ?_) (fun r9 _ t9 H1 locs _ _ h9 => h9.elim)
    subst hE9
    refine vx_catch (pc := 4) hown [] ⟨0, 9, 12, 21⟩ [⟨0, 9, 15, 15⟩] htab (fun z hz => by cases hz) (by decide) (by decide) (hts _ q455) (hG.nb q508 rfl) hce hcv hcx ?_
    refine W.eq (g2 := F0 m 12 ls [.ref q9]) rfl ?_
    refine lv_astore_n (lv' := [(3, .ref q9), (0, .ref x), (1, .int k), (2, .ref o)]) hx hb dX0_leave_12 rfl hl (by decide) rfl (fun ls hl => ?_)
    refine lv_iconst (v := 1) hx hb dX0_leave_13 (by decide) ?_
    have hE : aLeave S k = ((1, 0, S) : Ans) := by unfold aLeave; rw [if_neg h1]
    refine W.widen (k := 1) (n := 6) (Nat.le_of_ble_eq_true rfl) (Nat.le_of_ble_eq_true rfl) ?_
    exact W.iret (v := 1) hx hb hr (fun t9 h9 hW9 => ⟨⟨_, (), rfl, by rw [hE], by dsimp only; rw [h9]; exact LQ.no hE (by decide) hsz hN hFsz hXB h_o hk9⟩, hS.F h9⟩) hS.2.2 dX0_leave_14

set_option maxHeartbeats 4000000 in
theorem met_X0_ring (l : Launch) (hl0 : l.stackTraces = false) (g : GT) (T x b sz o : Nat) (S : BS) (F : Nat → Prop) (f : Nat → Int64) (hok : OKS T S) (hFsz : ∀ q, F q → q < sz) (hFo : ¬ F o) (hxo : x ≠ o) (hNo : gA g o) (v : Int32) : Met l yX0_ring (wsW_ yX0_ring cX0_ring 4 (Option.some Jvm.ClassFile.FieldType.int) [(0, 9, 12, 13)]) ({ frames := 9, cells := 1, slots := 6, locals := 172 } : Room) (PcG g [.ref x, .int v, .ref o] (fun H => H.size = sz ∧ XB g F x b S H ∧ va_at (gD g) bbCl (o, ouA g f) H)) (va_Qi (fun (r : Int32) (_ : Unit) => r = (aRing S v).1) (fun _ u => LQ g F x b sz o (aRing S v) u.heap) (fun q => F q ∨ q = o ∨ sz ≤ q)) 1 6 (fun q => F q ∨ q = o ∨ sz ≤ q) := by
  refine gg_metW (cc := cX0_ring) (maxL := 4) (ret := (Option.some Jvm.ClassFile.FieldType.int)) (hh := [(0, 9, 12, 13)]) (by decide) (Nat.le_of_ble_eq_true rfl) ?_
  intro p e s m below meth c hx hb hr hlk hml hown hts htab hG hB ls hl
  have hown : s.vm.findClass RX0 = some m.cls := hown
  have hl : lv_has ls 4 [(0, .ref x), (1, .int v), (2, .ref o)] := hl
  obtain ⟨hsz, hXB, h_o⟩ := hB
  have hN : gN g ≤ sz := by rw [← hsz]; exact hG.sz
  have hFg : ∀ q, F q → gA g q := by obtain ⟨-, ⟨_, _, _, _, _, _, _, hX⟩, -⟩ := hXB; exact hX.2.2.2.2.2.2.2.2.1
  have hxsz : x < sz := by rw [← hsz]; exact hXB.1.lt
  have hosz : o < sz := by rw [← hsz]; exact h_o.lt
  have hn40 : sN S ≤ 40 := hok.2.2.2.2.2.2.2.1
  have hAN : ∀ q, (F q ∨ q = o ∨ sz ≤ q) → gA g q := fun q h => by rcases h with h | h | h; exact hFg q h; rw [h]; exact hNo; exact Nat.le_trans hN h
  have hS : va_S (fun q => F q ∨ q = o ∨ sz ≤ q) s.heap s.heap [] := va_S.rf
  by_cases h1 : 0 ≤ v ∧ v ≤ 4
  · obtain ⟨j, hj, hkj⟩ := i_in (n := 4) rfl h1.1 h1.2
    subst hkj
    have hcl := nI_clamp (n := j) (by omega)
    refine lv_aload_n hx hb dX0_ring_0 rfl (lv_at hl 2 rfl) ?_
    refine lv_iconst (v := 0) hx hb dX0_ring_1 (by decide) ?_
    refine lv_aload_n hx hb dX0_ring_2 rfl (lv_at hl 0 rfl) ?_
    refine lv_iload_n hx hb dX0_ring_3 rfl (lv_at hl 1 rfl) ?_
    refine va_calli (va_runV (As := [.int (nI j)]) (rest := [.int 0, .ref o]) ⟨hx, hb, hml, hown, hts⟩ (met_X1_ring l g T x b sz S F hok hFsz j (by omega)) (cwV 1 hts (lw_V q535 q536 q537 q14 q538) rfl rfl rfl (by decide +kernel) ⟨Nat.le_of_ble_eq_true rfl, Nat.le_of_ble_eq_true rfl⟩) (gg_preV hG (Kp.rf hG) (gg_recv hG hXB.1 rfl) ⟨hsz, hXB⟩) rfl rfl hl.1 rfl (lv_room (Nat.le_of_ble_eq_true rfl)) dX0_ring_4 ⟨Nat.le_of_ble_eq_true rfl, Nat.le_of_ble_eq_true rfl⟩) hS (fun q _ e => e.elim Or.inl (fun e => Or.inr (Or.inr e))) (fun q e => e.elim Or.inl (fun e => Or.inr (Or.inr e))) (fun r9 u t9 H locs ht hvm hr9 hQ hz9 hk9 hS => ?_)
    rw [ht] at hQ
    have h_o := h_o.kept (hk9 _ h_o.lt (fun e => e.elim hFo (fun e => absurd e (Nat.not_le.mpr hosz))))
    refine lv_i2l hx hb dX0_ring_7 rfl ?_
    refine gg_last hx hb hG h_o hS (Or.inr (Or.inl rfl)) 0 (by decide) (by decide) rfl dX0_ring_8 (fun H2 locs h_o hbut hS => ?_)
    refine lv_goto (tgt := 15) hx hb dX0_ring_9 (by decide) ?_
    refine lv_iconst (v := 0) hx hb dX0_ring_15 (by decide) ?_
    have hE : aRing S (nI j) = ((0, nI (sCo S), sCod S j) : Ans) := by unfold aRing; rw [if_pos h1, hcl]
    refine W.widen (k := 1) (n := 6) (Nat.le_of_ble_eq_true rfl) (Nat.le_of_ble_eq_true rfl) ?_
    exact W.iret (v := 0) hx hb hr (fun t9 h9 hW9 => ⟨⟨_, (), rfl, by rw [hE], by dsimp only; rw [h9]; exact LQ.ok (F1 := F) hE hxsz hN hFg hXB.2.2 (fun q h => Or.inl h) hQ hxo hFo hosz hbut h_o (by show vp_updL f 0 _ 0 = _; rw [hr9]; exact if_pos rfl)⟩, hS.F h9⟩) hS.2.2 dX0_ring_16
  · refine lv_aload_n hx hb dX0_ring_0 rfl (lv_at hl 2 rfl) ?_
    refine lv_iconst (v := 0) hx hb dX0_ring_1 (by decide) ?_
    refine lv_aload_n hx hb dX0_ring_2 rfl (lv_at hl 0 rfl) ?_
    refine lv_iload_n hx hb dX0_ring_3 rfl (lv_at hl 1 rfl) ?_
    refine vx_calli (vx_runV (As := [.int v]) (rest := [.int 0, .ref o]) ⟨hx, hb, hml, hown, hts⟩ (xm_X1_ring_IAE l hl0 g T x b S F hok v h1) (cwV 1 hts (lw_V q535 q536 q537 q14 q538) rfl rfl rfl (by decide +kernel) ⟨Nat.le_of_ble_eq_true rfl, Nat.le_of_ble_eq_true rfl⟩) (gg_preV hG (Kp.rf hG) (gg_recv hG hXB.1 rfl) hXB) rfl rfl hl.1 rfl (lv_room (Nat.le_of_ble_eq_true rfl)) dX0_ring_4 ⟨Nat.le_of_ble_eq_true rfl, Nat.le_of_ble_eq_true rfl⟩) hS (fun q _ e => e.elim) (fun q e => e.elim) (fun q _ e => e.elim) (fun E ce q9 u t9 H locs ht hvm _ hE9 hz9 hk9 hS hce hcv hcx => ?_) (fun r9 _ t9 H1 locs _ _ h9 => h9.elim)
    subst hE9
    refine vx_catch (pc := 4) hown [] ⟨0, 9, 12, 13⟩ [] htab (fun z hz => by cases hz) (by decide) (by decide) (hts _ q261) (hG.nb q275 rfl) hce hcv hcx ?_
    refine W.eq (g2 := F0 m 12 ls [.ref q9]) rfl ?_
    refine lv_astore_n (lv' := [(3, .ref q9), (0, .ref x), (1, .int v), (2, .ref o)]) hx hb dX0_ring_12 rfl hl (by decide) rfl (fun ls hl => ?_)
    refine lv_iconst (v := 1) hx hb dX0_ring_13 (by decide) ?_
    have hE : aRing S v = ((1, 0, S) : Ans) := by unfold aRing; rw [if_neg h1]
    refine W.widen (k := 1) (n := 6) (Nat.le_of_ble_eq_true rfl) (Nat.le_of_ble_eq_true rfl) ?_
    exact W.iret (v := 1) hx hb hr (fun t9 h9 hW9 => ⟨⟨_, (), rfl, by rw [hE], by dsimp only; rw [h9]; exact LQ.no hE (by decide) hsz hN hFsz hXB h_o hk9⟩, hS.F h9⟩) hS.2.2 dX0_ring_14

set_option maxHeartbeats 4000000 in
theorem met_X0_poise (l : Launch) (hl0 : l.stackTraces = false) (g : GT) (T x b sz o : Nat) (S : BS) (F : Nat → Prop) (f : Nat → Int64) (hok : OKS T S) (hFsz : ∀ q, F q → q < sz) (hFo : ¬ F o) (hxo : x ≠ o) (hNo : gA g o) (v : Int32) : Met l yX0_poise (wsW_ yX0_poise cX0_poise 4 (Option.some Jvm.ClassFile.FieldType.int) [(0, 9, 12, 13), (0, 9, 15, 15)]) ({ frames := 9, cells := 1, slots := 6, locals := 153 } : Room) (PcG g [.ref x, .int v, .ref o] (fun H => H.size = sz ∧ XB g F x b S H ∧ va_at (gD g) bbCl (o, ouA g f) H)) (va_Qi (fun (r : Int32) (_ : Unit) => r = (aPoise S v).1) (fun _ u => LQ g F x b sz o (aPoise S v) u.heap) (fun q => F q ∨ q = o ∨ sz ≤ q)) 1 6 (fun q => F q ∨ q = o ∨ sz ≤ q) := by
  refine gg_metW (cc := cX0_poise) (maxL := 4) (ret := (Option.some Jvm.ClassFile.FieldType.int)) (hh := [(0, 9, 12, 13), (0, 9, 15, 15)]) (by decide) (Nat.le_of_ble_eq_true rfl) ?_
  intro p e s m below meth c hx hb hr hlk hml hown hts htab hG hB ls hl
  have hown : s.vm.findClass RX0 = some m.cls := hown
  have hl : lv_has ls 4 [(0, .ref x), (1, .int v), (2, .ref o)] := hl
  obtain ⟨hsz, hXB, h_o⟩ := hB
  have hN : gN g ≤ sz := by rw [← hsz]; exact hG.sz
  have hFg : ∀ q, F q → gA g q := by obtain ⟨-, ⟨_, _, _, _, _, _, _, hX⟩, -⟩ := hXB; exact hX.2.2.2.2.2.2.2.2.1
  have hxsz : x < sz := by rw [← hsz]; exact hXB.1.lt
  have hosz : o < sz := by rw [← hsz]; exact h_o.lt
  have hn40 : sN S ≤ 40 := hok.2.2.2.2.2.2.2.1
  have hAN : ∀ q, (F q ∨ q = o ∨ sz ≤ q) → gA g q := fun q h => by rcases h with h | h | h; exact hFg q h; rw [h]; exact hNo; exact Nat.le_trans hN h
  have hS : va_S (fun q => F q ∨ q = o ∨ sz ≤ q) s.heap s.heap [] := va_S.rf
  by_cases h1 : 0 ≤ v ∧ v ≤ 30
  · by_cases h2 : sAn S = 0 ∨ sAn S = 60
    · refine lv_aload_n hx hb dX0_poise_0 rfl (lv_at hl 2 rfl) ?_
      refine lv_iconst (v := 0) hx hb dX0_poise_1 (by decide) ?_
      refine lv_aload_n hx hb dX0_poise_2 rfl (lv_at hl 0 rfl) ?_
      refine lv_iload_n hx hb dX0_poise_3 rfl (lv_at hl 1 rfl) ?_
      refine va_calli (va_runV (As := [.int v]) (rest := [.int 0, .ref o]) ⟨hx, hb, hml, hown, hts⟩ (met_X1_poise l g T x b S F hok v h1.1 h1.2 h2) (cwV 1 hts (lw_V q555 q556 q557 q14 q558) rfl rfl rfl (by decide +kernel) ⟨Nat.le_of_ble_eq_true rfl, Nat.le_of_ble_eq_true rfl⟩) (gg_preV hG (Kp.rf hG) (gg_recv hG hXB.1 rfl) hXB) rfl rfl hl.1 rfl (lv_room (Nat.le_of_ble_eq_true rfl)) dX0_poise_4 ⟨Nat.le_of_ble_eq_true rfl, Nat.le_of_ble_eq_true rfl⟩) hS (fun q _ e => Or.inl e) (fun q e => Or.inl e) (fun r9 u t9 H locs ht hvm hr9 hQ hz9 hk9 hS => ?_)
      rw [ht] at hQ
      have h_o := h_o.kept (hk9 _ h_o.lt hFo)
      refine lv_i2l hx hb dX0_poise_7 rfl ?_
      refine gg_last hx hb hG h_o hS (Or.inr (Or.inl rfl)) 0 (by decide) (by decide) rfl dX0_poise_8 (fun H2 locs h_o hbut hS => ?_)
      refine lv_goto (tgt := 18) hx hb dX0_poise_9 (by decide) ?_
      refine lv_iconst (v := 0) hx hb dX0_poise_18 (by decide) ?_
      have hE : aPoise S v = ((0, sPo S, sPoi S v) : Ans) := by unfold aPoise; rw [if_pos h1, if_pos h2]
      refine W.widen (k := 1) (n := 6) (Nat.le_of_ble_eq_true rfl) (Nat.le_of_ble_eq_true rfl) ?_
      exact W.iret (v := 0) hx hb hr (fun t9 h9 hW9 => ⟨⟨_, (), rfl, by rw [hE], by dsimp only; rw [h9]; exact LQ.ok (F1 := F) hE hxsz hN hFg hXB.2.2 (fun q h => Or.inl h) hQ hxo hFo hosz hbut h_o (by show vp_updL f 0 _ 0 = _; rw [hr9]; exact if_pos rfl)⟩, hS.F h9⟩) hS.2.2 dX0_poise_19
    · refine lv_aload_n hx hb dX0_poise_0 rfl (lv_at hl 2 rfl) ?_
      refine lv_iconst (v := 0) hx hb dX0_poise_1 (by decide) ?_
      refine lv_aload_n hx hb dX0_poise_2 rfl (lv_at hl 0 rfl) ?_
      refine lv_iload_n hx hb dX0_poise_3 rfl (lv_at hl 1 rfl) ?_
      refine vx_calli (vx_runV (As := [.int v]) (rest := [.int 0, .ref o]) ⟨hx, hb, hml, hown, hts⟩ (xm_X1_poise_ISE l hl0 g T x b S F hok v h1 h2) (cwV 1 hts (lw_V q555 q556 q557 q14 q558) rfl rfl rfl (by decide +kernel) ⟨Nat.le_of_ble_eq_true rfl, Nat.le_of_ble_eq_true rfl⟩) (gg_preV hG (Kp.rf hG) (gg_recv hG hXB.1 rfl) hXB) rfl rfl hl.1 rfl (lv_room (Nat.le_of_ble_eq_true rfl)) dX0_poise_4 ⟨Nat.le_of_ble_eq_true rfl, Nat.le_of_ble_eq_true rfl⟩) hS (fun q _ e => e.elim) (fun q e => e.elim) (fun q _ e => e.elim) (fun E ce q9 u t9 H locs ht hvm _ hE9 hz9 hk9 hS hce hcv hcx => ?_) (fun r9 _ t9 H1 locs _ _ h9 => h9.elim)
      subst hE9
      refine vx_catch (pc := 4) hown [⟨0, 9, 12, 13⟩] ⟨0, 9, 15, 15⟩ [] htab (fun z hz => by rcases List.mem_cons.mp hz with e | e; (rw [e]; exact Or.inr ⟨by decide, xIAE, hts _ q261, hG.1.2.2.2.2.2.2.1⟩); cases e) (by decide) (by decide) (hts _ q262) (hG.nb q343 rfl) hce hcv hcx ?_
      refine W.eq (g2 := F0 m 15 ls [.ref q9]) rfl ?_
      refine lv_astore_n (lv' := [(3, .ref q9), (0, .ref x), (1, .int v), (2, .ref o)]) hx hb dX0_poise_15 rfl hl (by decide) rfl (fun ls hl => ?_)
      refine lv_iconst (v := 2) hx hb dX0_poise_16 (by decide) ?_
      have hE : aPoise S v = ((2, 0, S) : Ans) := by unfold aPoise; rw [if_pos h1, if_neg h2]
      refine W.widen (k := 1) (n := 6) (Nat.le_of_ble_eq_true rfl) (Nat.le_of_ble_eq_true rfl) ?_
      exact W.iret (v := 2) hx hb hr (fun t9 h9 hW9 => ⟨⟨_, (), rfl, by rw [hE], by dsimp only; rw [h9]; exact LQ.no hE (by decide) hsz hN hFsz hXB h_o hk9⟩, hS.F h9⟩) hS.2.2 dX0_poise_17
  · refine lv_aload_n hx hb dX0_poise_0 rfl (lv_at hl 2 rfl) ?_
    refine lv_iconst (v := 0) hx hb dX0_poise_1 (by decide) ?_
    refine lv_aload_n hx hb dX0_poise_2 rfl (lv_at hl 0 rfl) ?_
    refine lv_iload_n hx hb dX0_poise_3 rfl (lv_at hl 1 rfl) ?_
    refine vx_calli (vx_runV (As := [.int v]) (rest := [.int 0, .ref o]) ⟨hx, hb, hml, hown, hts⟩ (xm_X1_poise_IAE l hl0 g T x b S F hok v h1) (cwV 1 hts (lw_V q555 q556 q557 q14 q558) rfl rfl rfl (by decide +kernel) ⟨Nat.le_of_ble_eq_true rfl, Nat.le_of_ble_eq_true rfl⟩) (gg_preV hG (Kp.rf hG) (gg_recv hG hXB.1 rfl) hXB) rfl rfl hl.1 rfl (lv_room (Nat.le_of_ble_eq_true rfl)) dX0_poise_4 ⟨Nat.le_of_ble_eq_true rfl, Nat.le_of_ble_eq_true rfl⟩) hS (fun q _ e => e.elim) (fun q e => e.elim) (fun q _ e => e.elim) (fun E ce q9 u t9 H locs ht hvm _ hE9 hz9 hk9 hS hce hcv hcx => ?_) (fun r9 _ t9 H1 locs _ _ h9 => h9.elim)
    subst hE9
    refine vx_catch (pc := 4) hown [] ⟨0, 9, 12, 13⟩ [⟨0, 9, 15, 15⟩] htab (fun z hz => by cases hz) (by decide) (by decide) (hts _ q261) (hG.nb q275 rfl) hce hcv hcx ?_
    refine W.eq (g2 := F0 m 12 ls [.ref q9]) rfl ?_
    refine lv_astore_n (lv' := [(3, .ref q9), (0, .ref x), (1, .int v), (2, .ref o)]) hx hb dX0_poise_12 rfl hl (by decide) rfl (fun ls hl => ?_)
    refine lv_iconst (v := 1) hx hb dX0_poise_13 (by decide) ?_
    have hE : aPoise S v = ((1, 0, S) : Ans) := by unfold aPoise; rw [if_neg h1]
    refine W.widen (k := 1) (n := 6) (Nat.le_of_ble_eq_true rfl) (Nat.le_of_ble_eq_true rfl) ?_
    exact W.iret (v := 1) hx hb hr (fun t9 h9 hW9 => ⟨⟨_, (), rfl, by rw [hE], by dsimp only; rw [h9]; exact LQ.no hE (by decide) hsz hN hFsz hXB h_o hk9⟩, hS.F h9⟩) hS.2.2 dX0_poise_14

set_option maxHeartbeats 4000000 in
theorem met_X0_setCold (l : Launch) (hl0 : l.stackTraces = false) (g : GT) (T x b sz o : Nat) (S : BS) (F : Nat → Prop) (f : Nat → Int64) (hok : OKS T S) (hFsz : ∀ q, F q → q < sz) (hFo : ¬ F o) (hxo : x ≠ o) (hNo : gA g o) (k v : Int32) : Met l yX0_setCold (wsW_ yX0_setCold cX0_setCold 5 (Option.some Jvm.ClassFile.FieldType.int) [(0, 10, 13, 21), (0, 10, 17, 13)]) ({ frames := 9, cells := 1, slots := 6, locals := 154 } : Room) (PcG g [.ref x, .int k, .int v, .ref o] (fun H => H.size = sz ∧ XB g F x b S H ∧ va_at (gD g) bbCl (o, ouA g f) H)) (va_Qi (fun (r : Int32) (_ : Unit) => r = (aCold S k v).1) (fun _ u => LQ g F x b sz o (aCold S k v) u.heap) (fun q => F q ∨ q = o ∨ sz ≤ q)) 1 6 (fun q => F q ∨ q = o ∨ sz ≤ q) := by
  refine gg_metW (cc := cX0_setCold) (maxL := 5) (ret := (Option.some Jvm.ClassFile.FieldType.int)) (hh := [(0, 10, 13, 21), (0, 10, 17, 13)]) (by decide) (Nat.le_of_ble_eq_true rfl) ?_
  intro p e s m below meth c hx hb hr hlk hml hown hts htab hG hB ls hl
  have hown : s.vm.findClass RX0 = some m.cls := hown
  have hl : lv_has ls 5 [(0, .ref x), (1, .int k), (2, .int v), (3, .ref o)] := hl
  obtain ⟨hsz, hXB, h_o⟩ := hB
  have hN : gN g ≤ sz := by rw [← hsz]; exact hG.sz
  have hFg : ∀ q, F q → gA g q := by obtain ⟨-, ⟨_, _, _, _, _, _, _, hX⟩, -⟩ := hXB; exact hX.2.2.2.2.2.2.2.2.1
  have hxsz : x < sz := by rw [← hsz]; exact hXB.1.lt
  have hosz : o < sz := by rw [← hsz]; exact h_o.lt
  have hn40 : sN S ≤ 40 := hok.2.2.2.2.2.2.2.1
  have hAN : ∀ q, (F q ∨ q = o ∨ sz ≤ q) → gA g q := fun q h => by rcases h with h | h | h; exact hFg q h; rw [h]; exact hNo; exact Nat.le_trans hN h
  have hS : va_S (fun q => F q ∨ q = o ∨ sz ≤ q) s.heap s.heap [] := va_S.rf
  by_cases h1 : 0 ≤ k ∧ k ≤ 7
  · obtain ⟨j, hj, hkj⟩ := i_in (n := 7) rfl h1.1 h1.2
    subst hkj
    have hcl := nI_clamp (n := j) (by omega)
    by_cases h2 : -3 ≤ v ∧ v ≤ 3
    · refine lv_aload_n hx hb dX0_setCold_0 rfl (lv_at hl 3 rfl) ?_
      refine lv_iconst (v := 0) hx hb dX0_setCold_1 (by decide) ?_
      refine lv_aload_n hx hb dX0_setCold_2 rfl (lv_at hl 0 rfl) ?_
      refine lv_iload_n hx hb dX0_setCold_3 rfl (lv_at hl 1 rfl) ?_
      refine lv_iload_n hx hb dX0_setCold_4 rfl (lv_at hl 2 rfl) ?_
      refine va_calli (va_runV (As := [.int (nI j), .int v]) (rest := [.int 0, .ref o]) ⟨hx, hb, hml, hown, hts⟩ (met_X1_setCold l g T x b S F hok j (by omega) v h2.1 h2.2) (cwV 2 hts (lw_V q562 q563 q564 q14 q565) rfl rfl rfl (by decide +kernel) ⟨Nat.le_of_ble_eq_true rfl, Nat.le_of_ble_eq_true rfl⟩) (gg_preV hG (Kp.rf hG) (gg_recv hG hXB.1 rfl) hXB) rfl rfl hl.1 rfl (lv_room (Nat.le_of_ble_eq_true rfl)) dX0_setCold_5 ⟨Nat.le_of_ble_eq_true rfl, Nat.le_of_ble_eq_true rfl⟩) hS (fun q _ e => Or.inl e) (fun q e => Or.inl e) (fun r9 u t9 H locs ht hvm hr9 hQ hz9 hk9 hS => ?_)
      rw [ht] at hQ
      have h_o := h_o.kept (hk9 _ h_o.lt hFo)
      refine lv_i2l hx hb dX0_setCold_8 rfl ?_
      refine gg_last hx hb hG h_o hS (Or.inr (Or.inl rfl)) 0 (by decide) (by decide) rfl dX0_setCold_9 (fun H2 locs h_o hbut hS => ?_)
      refine lv_goto (tgt := 21) hx hb dX0_setCold_10 (by decide) ?_
      refine lv_iconst (v := 0) hx hb dX0_setCold_21 (by decide) ?_
      have hE : aCold S (nI j) v = ((0, sCd S j, sCol S j v) : Ans) := by unfold aCold; rw [if_pos h1, hcl, if_pos h2]
      refine W.widen (k := 1) (n := 6) (Nat.le_of_ble_eq_true rfl) (Nat.le_of_ble_eq_true rfl) ?_
      exact W.iret (v := 0) hx hb hr (fun t9 h9 hW9 => ⟨⟨_, (), rfl, by rw [hE], by dsimp only; rw [h9]; exact LQ.ok (F1 := F) hE hxsz hN hFg hXB.2.2 (fun q h => Or.inl h) hQ hxo hFo hosz hbut h_o (by show vp_updL f 0 _ 0 = _; rw [hr9]; exact if_pos rfl)⟩, hS.F h9⟩) hS.2.2 dX0_setCold_22
    · refine lv_aload_n hx hb dX0_setCold_0 rfl (lv_at hl 3 rfl) ?_
      refine lv_iconst (v := 0) hx hb dX0_setCold_1 (by decide) ?_
      refine lv_aload_n hx hb dX0_setCold_2 rfl (lv_at hl 0 rfl) ?_
      refine lv_iload_n hx hb dX0_setCold_3 rfl (lv_at hl 1 rfl) ?_
      refine lv_iload_n hx hb dX0_setCold_4 rfl (lv_at hl 2 rfl) ?_
      refine vx_calli (vx_runV (As := [.int (nI j), .int v]) (rest := [.int 0, .ref o]) ⟨hx, hb, hml, hown, hts⟩ (xm_X1_setCold_IAE l hl0 g T x b S F hok j v (by omega) h2) (cwV 2 hts (lw_V q562 q563 q564 q14 q565) rfl rfl rfl (by decide +kernel) ⟨Nat.le_of_ble_eq_true rfl, Nat.le_of_ble_eq_true rfl⟩) (gg_preV hG (Kp.rf hG) (gg_recv hG hXB.1 rfl) hXB) rfl rfl hl.1 rfl (lv_room (Nat.le_of_ble_eq_true rfl)) dX0_setCold_5 ⟨Nat.le_of_ble_eq_true rfl, Nat.le_of_ble_eq_true rfl⟩) hS (fun q _ e => e.elim) (fun q e => e.elim) (fun q _ e => e.elim) (fun E ce q9 u t9 H locs ht hvm _ hE9 hz9 hk9 hS hce hcv hcx => ?_) (fun r9 _ t9 H1 locs _ _ h9 => h9.elim)
      subst hE9
      refine vx_catch (pc := 5) hown [⟨0, 10, 13, 21⟩] ⟨0, 10, 17, 13⟩ [] htab (fun z hz => by rcases List.mem_cons.mp hz with e | e; (rw [e]; exact Or.inr ⟨by decide, xIOB, hts _ q455, hG.1.2.2.2.2.2.2.2.2.2.2.1⟩); cases e) (by decide) (by decide) (hts _ q261) (hG.nb q275 rfl) hce hcv hcx ?_
      refine W.eq (g2 := F0 m 17 ls [.ref q9]) rfl ?_
      refine lv_astore (lv' := [(4, .ref q9), (0, .ref x), (1, .int (nI j)), (2, .int v), (3, .ref o)]) hx hb dX0_setCold_17 hl (by decide) rfl (fun ls hl => ?_)
      refine lv_iconst (v := 2) hx hb dX0_setCold_19 (by decide) ?_
      have hE : aCold S (nI j) v = ((2, 0, S) : Ans) := by unfold aCold; rw [if_pos h1, hcl, if_neg h2]
      refine W.widen (k := 1) (n := 6) (Nat.le_of_ble_eq_true rfl) (Nat.le_of_ble_eq_true rfl) ?_
      exact W.iret (v := 2) hx hb hr (fun t9 h9 hW9 => ⟨⟨_, (), rfl, by rw [hE], by dsimp only; rw [h9]; exact LQ.no hE (by decide) hsz hN hFsz hXB h_o hk9⟩, hS.F h9⟩) hS.2.2 dX0_setCold_20
  · refine lv_aload_n hx hb dX0_setCold_0 rfl (lv_at hl 3 rfl) ?_
    refine lv_iconst (v := 0) hx hb dX0_setCold_1 (by decide) ?_
    refine lv_aload_n hx hb dX0_setCold_2 rfl (lv_at hl 0 rfl) ?_
    refine lv_iload_n hx hb dX0_setCold_3 rfl (lv_at hl 1 rfl) ?_
    refine lv_iload_n hx hb dX0_setCold_4 rfl (lv_at hl 2 rfl) ?_
    refine vx_calli (vx_runV (As := [.int k, .int v]) (rest := [.int 0, .ref o]) ⟨hx, hb, hml, hown, hts⟩ (xm_X1_setCold_IOB l hl0 g T x b S F hok k v (fun e => h1 ((lt_of_le7 (n := 7) rfl rfl (by decide)).mp e))) (cwV 2 hts (lw_V q562 q563 q564 q14 q565) rfl rfl rfl (by decide +kernel) ⟨Nat.le_of_ble_eq_true rfl, Nat.le_of_ble_eq_true rfl⟩) (gg_preV hG (Kp.rf hG) (gg_recv hG hXB.1 rfl) hXB) rfl rfl hl.1 rfl (lv_room (Nat.le_of_ble_eq_true rfl)) dX0_setCold_5 ⟨Nat.le_of_ble_eq_true rfl, Nat.le_of_ble_eq_true rfl⟩) hS (fun q _ e => e.elim) (fun q e => e.elim) (fun q _ e => e.elim) (fun E ce q9 u t9 H locs ht hvm _ hE9 hz9 hk9 hS hce hcv hcx => ?_) (fun r9 _ t9 H1 locs _ _ h9 => h9.elim)
    subst hE9
    refine vx_catch (pc := 5) hown [] ⟨0, 10, 13, 21⟩ [⟨0, 10, 17, 13⟩] htab (fun z hz => by cases hz) (by decide) (by decide) (hts _ q455) (hG.nb q508 rfl) hce hcv hcx ?_
    refine W.eq (g2 := F0 m 13 ls [.ref q9]) rfl ?_
    refine lv_astore (lv' := [(4, .ref q9), (0, .ref x), (1, .int k), (2, .int v), (3, .ref o)]) hx hb dX0_setCold_13 hl (by decide) rfl (fun ls hl => ?_)
    refine lv_iconst (v := 1) hx hb dX0_setCold_15 (by decide) ?_
    have hE : aCold S k v = ((1, 0, S) : Ans) := by unfold aCold; rw [if_neg h1]
    refine W.widen (k := 1) (n := 6) (Nat.le_of_ble_eq_true rfl) (Nat.le_of_ble_eq_true rfl) ?_
    exact W.iret (v := 1) hx hb hr (fun t9 h9 hW9 => ⟨⟨_, (), rfl, by rw [hE], by dsimp only; rw [h9]; exact LQ.no hE (by decide) hsz hN hFsz hXB h_o hk9⟩, hS.F h9⟩) hS.2.2 dX0_setCold_16

set_option maxHeartbeats 4000000 in
theorem met_X0_traveller (l : Launch) (hl0 : l.stackTraces = false) (g : GT) (T x b sz o : Nat) (S : BS) (F : Nat → Prop) (f : Nat → Int64) (hok : OKS T S) (hFsz : ∀ q, F q → q < sz) (hFo : ¬ F o) (hxo : x ≠ o) (hNo : gA g o) (k w : Int32) : Met l yX0_traveller (wsW_ yX0_traveller cX0_traveller 5 (Option.some Jvm.ClassFile.FieldType.int) [(0, 10, 13, 21)]) ({ frames := 9, cells := 1, slots := 6, locals := 154 } : Room) (PcG g [.ref x, .int k, .int w, .ref o] (fun H => H.size = sz ∧ XB g F x b S H ∧ va_at (gD g) bbCl (o, ouA g f) H)) (va_Qi (fun (r : Int32) (_ : Unit) => r = (aTrav S k w).1) (fun _ u => LQ g F x b sz o (aTrav S k w) u.heap) (fun q => F q ∨ q = o ∨ sz ≤ q)) 1 6 (fun q => F q ∨ q = o ∨ sz ≤ q) := by
  refine gg_metW (cc := cX0_traveller) (maxL := 5) (ret := (Option.some Jvm.ClassFile.FieldType.int)) (hh := [(0, 10, 13, 21)]) (by decide) (Nat.le_of_ble_eq_true rfl) ?_
  intro p e s m below meth c hx hb hr hlk hml hown hts htab hG hB ls hl
  have hown : s.vm.findClass RX0 = some m.cls := hown
  have hl : lv_has ls 5 [(0, .ref x), (1, .int k), (2, .int w), (3, .ref o)] := hl
  obtain ⟨hsz, hXB, h_o⟩ := hB
  have hN : gN g ≤ sz := by rw [← hsz]; exact hG.sz
  have hFg : ∀ q, F q → gA g q := by obtain ⟨-, ⟨_, _, _, _, _, _, _, hX⟩, -⟩ := hXB; exact hX.2.2.2.2.2.2.2.2.1
  have hxsz : x < sz := by rw [← hsz]; exact hXB.1.lt
  have hosz : o < sz := by rw [← hsz]; exact h_o.lt
  have hn40 : sN S ≤ 40 := hok.2.2.2.2.2.2.2.1
  have hAN : ∀ q, (F q ∨ q = o ∨ sz ≤ q) → gA g q := fun q h => by rcases h with h | h | h; exact hFg q h; rw [h]; exact hNo; exact Nat.le_trans hN h
  have hS : va_S (fun q => F q ∨ q = o ∨ sz ≤ q) s.heap s.heap [] := va_S.rf
  by_cases h1 : (0 ≤ k ∧ k < nI (sN S)) ∧ 0 ≤ w ∧ w ≤ 6
  · obtain ⟨j, hj, hkj⟩ := isT_ex hn40 h1.1
    subst hkj
    have hcl := nI_clamp (n := j) (by omega)
    obtain ⟨i, hi, hkj⟩ := i_in (n := 6) rfl h1.2.1 h1.2.2
    subst hkj
    have hcl2 := nI_clamp (n := i) (by omega)
    refine lv_aload_n hx hb dX0_traveller_0 rfl (lv_at hl 3 rfl) ?_
    refine lv_iconst (v := 0) hx hb dX0_traveller_1 (by decide) ?_
    refine lv_aload_n hx hb dX0_traveller_2 rfl (lv_at hl 0 rfl) ?_
    refine lv_iload_n hx hb dX0_traveller_3 rfl (lv_at hl 1 rfl) ?_
    refine lv_iload_n hx hb dX0_traveller_4 rfl (lv_at hl 2 rfl) ?_
    refine va_calli (va_runV (As := [.int (nI j), .int (nI i)]) (rest := [.int 0, .ref o]) ⟨hx, hb, hml, hown, hts⟩ (Met.rd (A := F) (met_X1_traveller l g T x b S F hok j i hj (by omega))) (cwV 2 hts (lw_V q569 q570 q571 q14 q572) rfl rfl rfl (by decide +kernel) ⟨Nat.le_of_ble_eq_true rfl, Nat.le_of_ble_eq_true rfl⟩) (gg_preV hG (Kp.rf hG) (gg_recv hG hXB.1 rfl) hXB) rfl rfl hl.1 rfl (lv_room (Nat.le_of_ble_eq_true rfl)) dX0_traveller_5 ⟨Nat.le_of_ble_eq_true rfl, Nat.le_of_ble_eq_true rfl⟩) hS (fun q _ e => Or.inl e) (fun q e => Or.inl e) (fun r9 u t9 H locs ht hvm hr9 hQ hz9 hk9 hS => ?_)
    rw [ht] at hQ
    have hQ : XB g F x b S H := hQ
    have h_o := h_o.kept (hk9 _ h_o.lt hFo)
    refine lv_i2l hx hb dX0_traveller_8 rfl ?_
    refine gg_last hx hb hG h_o hS (Or.inr (Or.inl rfl)) 0 (by decide) (by decide) rfl dX0_traveller_9 (fun H2 locs h_o hbut hS => ?_)
    refine lv_goto (tgt := 17) hx hb dX0_traveller_10 (by decide) ?_
    refine lv_iconst (v := 0) hx hb dX0_traveller_17 (by decide) ?_
    have hE : aTrav S (nI j) (nI i) = ((0, tTold (sTv S j) i, S) : Ans) := by unfold aTrav; rw [if_pos h1, hcl, hcl2]
    refine W.widen (k := 1) (n := 6) (Nat.le_of_ble_eq_true rfl) (Nat.le_of_ble_eq_true rfl) ?_
    exact W.iret (v := 0) hx hb hr (fun t9 h9 hW9 => ⟨⟨_, (), rfl, by rw [hE], by dsimp only; rw [h9]; exact LQ.ok (F1 := F) hE hxsz hN hFg hXB.2.2 (fun q h => Or.inl h) hQ hxo hFo hosz hbut h_o (by show vp_updL f 0 _ 0 = _; rw [hr9]; exact if_pos rfl)⟩, hS.F h9⟩) hS.2.2 dX0_traveller_18
  · refine lv_aload_n hx hb dX0_traveller_0 rfl (lv_at hl 3 rfl) ?_
    refine lv_iconst (v := 0) hx hb dX0_traveller_1 (by decide) ?_
    refine lv_aload_n hx hb dX0_traveller_2 rfl (lv_at hl 0 rfl) ?_
    refine lv_iload_n hx hb dX0_traveller_3 rfl (lv_at hl 1 rfl) ?_
    refine lv_iload_n hx hb dX0_traveller_4 rfl (lv_at hl 2 rfl) ?_
    refine vx_calli (vx_runV (As := [.int k, .int w]) (rest := [.int 0, .ref o]) ⟨hx, hb, hml, hown, hts⟩ (xm_X1_traveller_IOB l hl0 g T x b S F hok k w (fun e => h1 ⟨e.1, (lt_of_le7 (n := 6) rfl rfl (by decide)).mp e.2⟩)) (cwV 2 hts (lw_V q569 q570 q571 q14 q572) rfl rfl rfl (by decide +kernel) ⟨Nat.le_of_ble_eq_true rfl, Nat.le_of_ble_eq_true rfl⟩) (gg_preV hG (Kp.rf hG) (gg_recv hG hXB.1 rfl) hXB) rfl rfl hl.1 rfl (lv_room (Nat.le_of_ble_eq_true rfl)) dX0_traveller_5 ⟨Nat.le_of_ble_eq_true rfl, Nat.le_of_ble_eq_true rfl⟩) hS (fun q _ e => e.elim) (fun q e => e.elim) (fun q _ e => e.elim) (fun E ce q9 u t9 H locs ht hvm _ hE9 hz9 hk9 hS hce hcv hcx => ?_) (fun r9 _ t9 H1 locs _ _ h9 => h9.elim)
    subst hE9
    refine vx_catch (pc := 5) hown [] ⟨0, 10, 13, 21⟩ [] htab (fun z hz => by cases hz) (by decide) (by decide) (hts _ q455) (hG.nb q508 rfl) hce hcv hcx ?_
    refine W.eq (g2 := F0 m 13 ls [.ref q9]) rfl ?_
    refine lv_astore (lv' := [(4, .ref q9), (0, .ref x), (1, .int k), (2, .int w), (3, .ref o)]) hx hb dX0_traveller_13 hl (by decide) rfl (fun ls hl => ?_)
    refine lv_iconst (v := 1) hx hb dX0_traveller_15 (by decide) ?_
    have hE : aTrav S k w = ((1, 0, S) : Ans) := by unfold aTrav; rw [if_neg h1]
    refine W.widen (k := 1) (n := 6) (Nat.le_of_ble_eq_true rfl) (Nat.le_of_ble_eq_true rfl) ?_
    exact W.iret (v := 1) hx hb hr (fun t9 h9 hW9 => ⟨⟨_, (), rfl, by rw [hE], by dsimp only; rw [h9]; exact LQ.no hE (by decide) hsz hN hFsz hXB h_o hk9⟩, hS.F h9⟩) hS.2.2 dX0_traveller_16

set_option maxHeartbeats 4000000 in
theorem met_X0_count (l : Launch) (hl0 : l.stackTraces = false) (g : GT) (T x b sz o : Nat) (S : BS) (F : Nat → Prop) (f : Nat → Int64) (hok : OKS T S) (hFsz : ∀ q, F q → q < sz) (hFo : ¬ F o) (hxo : x ≠ o) (hNo : gA g o) (w : Int32) : Met l yX0_count (wsW_ yX0_count cX0_count 4 (Option.some Jvm.ClassFile.FieldType.int) [(0, 9, 12, 21)]) ({ frames := 9, cells := 1, slots := 6, locals := 191 } : Room) (PcG g [.ref x, .int w, .ref o] (fun H => H.size = sz ∧ XB g F x b S H ∧ va_at (gD g) bbCl (o, ouA g f) H)) (va_Qi (fun (r : Int32) (_ : Unit) => r = (aCount S w).1) (fun _ u => LQ g F x b sz o (aCount S w) u.heap) (fun q => F q ∨ q = o ∨ sz ≤ q)) 1 6 (fun q => F q ∨ q = o ∨ sz ≤ q) := by
  refine gg_metW (cc := cX0_count) (maxL := 4) (ret := (Option.some Jvm.ClassFile.FieldType.int)) (hh := [(0, 9, 12, 21)]) (by decide) (Nat.le_of_ble_eq_true rfl) ?_
  intro p e s m below meth c hx hb hr hlk hml hown hts htab hG hB ls hl
  have hown : s.vm.findClass RX0 = some m.cls := hown
  have hl : lv_has ls 4 [(0, .ref x), (1, .int w), (2, .ref o)] := hl
  obtain ⟨hsz, hXB, h_o⟩ := hB
  have hN : gN g ≤ sz := by rw [← hsz]; exact hG.sz
  have hFg : ∀ q, F q → gA g q := by obtain ⟨-, ⟨_, _, _, _, _, _, _, hX⟩, -⟩ := hXB; exact hX.2.2.2.2.2.2.2.2.1
  have hxsz : x < sz := by rw [← hsz]; exact hXB.1.lt
  have hosz : o < sz := by rw [← hsz]; exact h_o.lt
  have hn40 : sN S ≤ 40 := hok.2.2.2.2.2.2.2.1
  have hAN : ∀ q, (F q ∨ q = o ∨ sz ≤ q) → gA g q := fun q h => by rcases h with h | h | h; exact hFg q h; rw [h]; exact hNo; exact Nat.le_trans hN h
  have hS : va_S (fun q => F q ∨ q = o ∨ sz ≤ q) s.heap s.heap [] := va_S.rf
  by_cases h1 : 0 ≤ w ∧ w ≤ 11
  · obtain ⟨j, hj, hkj⟩ := i_in (n := 11) rfl h1.1 h1.2
    subst hkj
    have hcl := nI_clamp (n := j) (by omega)
    refine lv_aload_n hx hb dX0_count_0 rfl (lv_at hl 2 rfl) ?_
    refine lv_iconst (v := 0) hx hb dX0_count_1 (by decide) ?_
    refine lv_aload_n hx hb dX0_count_2 rfl (lv_at hl 0 rfl) ?_
    refine lv_iload_n hx hb dX0_count_3 rfl (lv_at hl 1 rfl) ?_
    refine va_calli (va_runV (As := [.int (nI j)]) (rest := [.int 0, .ref o]) ⟨hx, hb, hml, hown, hts⟩ (Met.rd (A := F) (met_X1_count l g T x b S F hok j (by omega))) (cwV 1 hts (lw_V q576 q577 q578 q14 q579) rfl rfl rfl (by decide +kernel) ⟨Nat.le_of_ble_eq_true rfl, Nat.le_of_ble_eq_true rfl⟩) (gg_preV hG (Kp.rf hG) (gg_recv hG hXB.1 rfl) hXB) rfl rfl hl.1 rfl (lv_room (Nat.le_of_ble_eq_true rfl)) dX0_count_4 ⟨Nat.le_of_ble_eq_true rfl, Nat.le_of_ble_eq_true rfl⟩) hS (fun q _ e => Or.inl e) (fun q e => Or.inl e) (fun r9 u t9 H locs ht hvm hr9 hQ hz9 hk9 hS => ?_)
    rw [ht] at hQ
    have hQ : XB g F x b S H := hQ
    have h_o := h_o.kept (hk9 _ h_o.lt hFo)
    refine lv_i2l hx hb dX0_count_7 rfl ?_
    refine gg_last hx hb hG h_o hS (Or.inr (Or.inl rfl)) 0 (by decide) (by decide) rfl dX0_count_8 (fun H2 locs h_o hbut hS => ?_)
    refine lv_goto (tgt := 15) hx hb dX0_count_9 (by decide) ?_
    refine lv_iconst (v := 0) hx hb dX0_count_15 (by decide) ?_
    have hE : aCount S (nI j) = ((0, bCnt S j, S) : Ans) := by unfold aCount; rw [if_pos h1, hcl]
    refine W.widen (k := 1) (n := 6) (Nat.le_of_ble_eq_true rfl) (Nat.le_of_ble_eq_true rfl) ?_
    exact W.iret (v := 0) hx hb hr (fun t9 h9 hW9 => ⟨⟨_, (), rfl, by rw [hE], by dsimp only; rw [h9]; exact LQ.ok (F1 := F) hE hxsz hN hFg hXB.2.2 (fun q h => Or.inl h) hQ hxo hFo hosz hbut h_o (by show vp_updL f 0 _ 0 = _; rw [hr9]; exact if_pos rfl)⟩, hS.F h9⟩) hS.2.2 dX0_count_16
  · refine lv_aload_n hx hb dX0_count_0 rfl (lv_at hl 2 rfl) ?_
    refine lv_iconst (v := 0) hx hb dX0_count_1 (by decide) ?_
    refine lv_aload_n hx hb dX0_count_2 rfl (lv_at hl 0 rfl) ?_
    refine lv_iload_n hx hb dX0_count_3 rfl (lv_at hl 1 rfl) ?_
    refine vx_calli (vx_runV (As := [.int w]) (rest := [.int 0, .ref o]) ⟨hx, hb, hml, hown, hts⟩ (xm_X1_count_IOB l hl0 g T x b S F hok w (fun e => h1 ((lt_of_le7 (n := 11) rfl rfl (by decide)).mp e))) (cwV 1 hts (lw_V q576 q577 q578 q14 q579) rfl rfl rfl (by decide +kernel) ⟨Nat.le_of_ble_eq_true rfl, Nat.le_of_ble_eq_true rfl⟩) (gg_preV hG (Kp.rf hG) (gg_recv hG hXB.1 rfl) hXB) rfl rfl hl.1 rfl (lv_room (Nat.le_of_ble_eq_true rfl)) dX0_count_4 ⟨Nat.le_of_ble_eq_true rfl, Nat.le_of_ble_eq_true rfl⟩) hS (fun q _ e => e.elim) (fun q e => e.elim) (fun q _ e => e.elim) (fun E ce q9 u t9 H locs ht hvm _ hE9 hz9 hk9 hS hce hcv hcx => ?_) (fun r9 _ t9 H1 locs _ _ h9 => h9.elim)
    subst hE9
    refine vx_catch (pc := 4) hown [] ⟨0, 9, 12, 21⟩ [] htab (fun z hz => by cases hz) (by decide) (by decide) (hts _ q455) (hG.nb q508 rfl) hce hcv hcx ?_
    refine W.eq (g2 := F0 m 12 ls [.ref q9]) rfl ?_
    refine lv_astore_n (lv' := [(3, .ref q9), (0, .ref x), (1, .int w), (2, .ref o)]) hx hb dX0_count_12 rfl hl (by decide) rfl (fun ls hl => ?_)
    refine lv_iconst (v := 1) hx hb dX0_count_13 (by decide) ?_
    have hE : aCount S w = ((1, 0, S) : Ans) := by unfold aCount; rw [if_neg h1]
    refine W.widen (k := 1) (n := 6) (Nat.le_of_ble_eq_true rfl) (Nat.le_of_ble_eq_true rfl) ?_
    exact W.iret (v := 1) hx hb hr (fun t9 h9 hW9 => ⟨⟨_, (), rfl, by rw [hE], by dsimp only; rw [h9]; exact LQ.no hE (by decide) hsz hN hFsz hXB h_o hk9⟩, hS.F h9⟩) hS.2.2 dX0_count_14

set_option maxHeartbeats 4000000 in
theorem met_X0_pass (l : Launch) (hl0 : l.stackTraces = false) (g : GT) (T x b sz o : Nat) (S : BS) (F : Nat → Prop) (f : Nat → Int64) (hok : OKS T S) (hFsz : ∀ q, F q → q < sz) (hFo : ¬ F o) (hxo : x ≠ o) (hNo : gA g o) (v : Int32) (hT : T < 2 ^ 29) : Met l yX0_pass (wsW_ yX0_pass cX0_pass 4 (Option.some Jvm.ClassFile.FieldType.int) [(0, 9, 12, 13)]) ({ frames := 10, cells := 1, slots := 6, locals := 215 } : Room) (PcG g [.ref x, .int v, .ref o] (fun H => H.size = sz ∧ XB g F x b S H ∧ va_at (gD g) bbCl (o, ouA g f) H)) (va_Qi (fun (r : Int32) (_ : Unit) => r = (aPass S v).1) (fun _ u => LQ g F x b sz o (aPass S v) u.heap) (fun q => F q ∨ q = o ∨ sz ≤ q)) 1 6 (fun q => F q ∨ q = o ∨ sz ≤ q) := by
  refine gg_metW (cc := cX0_pass) (maxL := 4) (ret := (Option.some Jvm.ClassFile.FieldType.int)) (hh := [(0, 9, 12, 13)]) (by decide) (Nat.le_of_ble_eq_true rfl) ?_
  intro p e s m below meth c hx hb hr hlk hml hown hts htab hG hB ls hl
  have hown : s.vm.findClass RX0 = some m.cls := hown
  have hl : lv_has ls 4 [(0, .ref x), (1, .int v), (2, .ref o)] := hl
  obtain ⟨hsz, hXB, h_o⟩ := hB
  have hN : gN g ≤ sz := by rw [← hsz]; exact hG.sz
  have hFg : ∀ q, F q → gA g q := by obtain ⟨-, ⟨_, _, _, _, _, _, _, hX⟩, -⟩ := hXB; exact hX.2.2.2.2.2.2.2.2.1
  have hxsz : x < sz := by rw [← hsz]; exact hXB.1.lt
  have hosz : o < sz := by rw [← hsz]; exact h_o.lt
  have hn40 : sN S ≤ 40 := hok.2.2.2.2.2.2.2.1
  have hAN : ∀ q, (F q ∨ q = o ∨ sz ≤ q) → gA g q := fun q h => by rcases h with h | h | h; exact hFg q h; rw [h]; exact hNo; exact Nat.le_trans hN h
  have hS : va_S (fun q => F q ∨ q = o ∨ sz ≤ q) s.heap s.heap [] := va_S.rf
  by_cases h1 : 1 ≤ v ∧ v ≤ 240
  · obtain ⟨n, hn1, hn2, hkj⟩ := in1_ex h1
    subst hkj
    have hcl := nI_clamp (n := n) (by omega)
    refine lv_aload_n hx hb dX0_pass_0 rfl (lv_at hl 2 rfl) ?_
    refine lv_iconst (v := 0) hx hb dX0_pass_1 (by decide) ?_
    refine lv_aload_n hx hb dX0_pass_2 rfl (lv_at hl 0 rfl) ?_
    refine lv_iload_n hx hb dX0_pass_3 rfl (lv_at hl 1 rfl) ?_
    refine va_calli (va_runV (As := [.int (nI n)]) (rest := [.int 0, .ref o]) ⟨hx, hb, hml, hown, hts⟩ (met_X1_pass l g T x b S F hok n hn1 hn2 hT) (cwV 1 hts (lw_V q583 q584 q585 q14 q586) rfl rfl rfl (by decide +kernel) ⟨Nat.le_of_ble_eq_true rfl, Nat.le_of_ble_eq_true rfl⟩) (gg_preV hG (Kp.rf hG) (gg_recv hG hXB.1 rfl) hXB) rfl rfl hl.1 rfl (lv_room (Nat.le_of_ble_eq_true rfl)) dX0_pass_4 ⟨Nat.le_of_ble_eq_true rfl, Nat.le_of_ble_eq_true rfl⟩) hS (fun q _ e => Or.inl e) (fun q e => Or.inl e) (fun r9 u t9 H locs ht hvm hr9 hQ hz9 hk9 hS => ?_)
    rw [ht] at hQ
    have h_o := h_o.kept (hk9 _ h_o.lt hFo)
    refine lv_i2l hx hb dX0_pass_7 rfl ?_
    refine gg_last hx hb hG h_o hS (Or.inr (Or.inl rfl)) 0 (by decide) (by decide) rfl dX0_pass_8 (fun H2 locs h_o hbut hS => ?_)
    refine lv_goto (tgt := 15) hx hb dX0_pass_9 (by decide) ?_
    refine lv_iconst (v := 0) hx hb dX0_pass_15 (by decide) ?_
    have hE : aPass S (nI n) = ((0, bPassed (bRun S n) - bPassed S, bRun S n) : Ans) := by unfold aPass; rw [if_pos h1, hcl]
    refine W.widen (k := 1) (n := 6) (Nat.le_of_ble_eq_true rfl) (Nat.le_of_ble_eq_true rfl) ?_
    exact W.iret (v := 0) hx hb hr (fun t9 h9 hW9 => ⟨⟨_, (), rfl, by rw [hE], by dsimp only; rw [h9]; exact LQ.ok (F1 := F) hE hxsz hN hFg hXB.2.2 (fun q h => Or.inl h) hQ hxo hFo hosz hbut h_o (by show vp_updL f 0 _ 0 = _; rw [hr9]; exact if_pos rfl)⟩, hS.F h9⟩) hS.2.2 dX0_pass_16
  · refine lv_aload_n hx hb dX0_pass_0 rfl (lv_at hl 2 rfl) ?_
    refine lv_iconst (v := 0) hx hb dX0_pass_1 (by decide) ?_
    refine lv_aload_n hx hb dX0_pass_2 rfl (lv_at hl 0 rfl) ?_
    refine lv_iload_n hx hb dX0_pass_3 rfl (lv_at hl 1 rfl) ?_
    refine vx_calli (vx_runV (As := [.int v]) (rest := [.int 0, .ref o]) ⟨hx, hb, hml, hown, hts⟩ (xm_X1_pass_IAE l hl0 g T x b S F hok v h1) (cwV 1 hts (lw_V q583 q584 q585 q14 q586) rfl rfl rfl (by decide +kernel) ⟨Nat.le_of_ble_eq_true rfl, Nat.le_of_ble_eq_true rfl⟩) (gg_preV hG (Kp.rf hG) (gg_recv hG hXB.1 rfl) hXB) rfl rfl hl.1 rfl (lv_room (Nat.le_of_ble_eq_true rfl)) dX0_pass_4 ⟨Nat.le_of_ble_eq_true rfl, Nat.le_of_ble_eq_true rfl⟩) hS (fun q _ e => e.elim) (fun q e => e.elim) (fun q _ e => e.elim) (fun E ce q9 u t9 H locs ht hvm _ hE9 hz9 hk9 hS hce hcv hcx => ?_) (fun r9 _ t9 H1 locs _ _ h9 => h9.elim)
    subst hE9
    refine vx_catch (pc := 4) hown [] ⟨0, 9, 12, 13⟩ [] htab (fun z hz => by cases hz) (by decide) (by decide) (hts _ q261) (hG.nb q275 rfl) hce hcv hcx ?_
    refine W.eq (g2 := F0 m 12 ls [.ref q9]) rfl ?_
    refine lv_astore_n (lv' := [(3, .ref q9), (0, .ref x), (1, .int v), (2, .ref o)]) hx hb dX0_pass_12 rfl hl (by decide) rfl (fun ls hl => ?_)
    refine lv_iconst (v := 1) hx hb dX0_pass_13 (by decide) ?_
    have hE : aPass S v = ((1, 0, S) : Ans) := by unfold aPass; rw [if_neg h1]
    refine W.widen (k := 1) (n := 6) (Nat.le_of_ble_eq_true rfl) (Nat.le_of_ble_eq_true rfl) ?_
    exact W.iret (v := 1) hx hb hr (fun t9 h9 hW9 => ⟨⟨_, (), rfl, by rw [hE], by dsimp only; rw [h9]; exact LQ.no hE (by decide) hsz hN hFsz hXB h_o hk9⟩, hS.F h9⟩) hS.2.2 dX0_pass_14

set_option maxHeartbeats 4000000 in
theorem met_X0_bestCode (l : Launch) (hl0 : l.stackTraces = false) (g : GT) (T x b sz o : Nat) (S : BS) (F : Nat → Prop) (f : Nat → Int64) (hok : OKS T S) (hFsz : ∀ q, F q → q < sz) (hFo : ¬ F o) (hxo : x ≠ o) (hNo : gA g o) (v : Int32) (hT : T < 2 ^ 29) : Met l yX0_bestCode (wsW_ yX0_bestCode cX0_bestCode 4 (Option.some Jvm.ClassFile.FieldType.int) [(0, 9, 12, 13)]) ({ frames := 12, cells := 336, slots := 10816, locals := 392 } : Room) (PcG g [.ref x, .int v, .ref o] (fun H => H.size = sz ∧ XB g F x b S H ∧ va_at (gD g) bbCl (o, ouA g f) H)) (va_Qi (fun (r : Int32) (_ : Unit) => r = (aBestC S v).1) (fun _ u => LQ g F x b sz o (aBestC S v) u.heap) (fun q => F q ∨ q = o ∨ sz ≤ q)) 336 10816 (fun q => F q ∨ q = o ∨ sz ≤ q) := by
  refine gg_metW (cc := cX0_bestCode) (maxL := 4) (ret := (Option.some Jvm.ClassFile.FieldType.int)) (hh := [(0, 9, 12, 13)]) (by decide) (Nat.le_of_ble_eq_true rfl) ?_
  intro p e s m below meth c hx hb hr hlk hml hown hts htab hG hB ls hl
  have hown : s.vm.findClass RX0 = some m.cls := hown
  have hl : lv_has ls 4 [(0, .ref x), (1, .int v), (2, .ref o)] := hl
  obtain ⟨hsz, hXB, h_o⟩ := hB
  have hN : gN g ≤ sz := by rw [← hsz]; exact hG.sz
  have hFg : ∀ q, F q → gA g q := by obtain ⟨-, ⟨_, _, _, _, _, _, _, hX⟩, -⟩ := hXB; exact hX.2.2.2.2.2.2.2.2.1
  have hxsz : x < sz := by rw [← hsz]; exact hXB.1.lt
  have hosz : o < sz := by rw [← hsz]; exact h_o.lt
  have hn40 : sN S ≤ 40 := hok.2.2.2.2.2.2.2.1
  have hAN : ∀ q, (F q ∨ q = o ∨ sz ≤ q) → gA g q := fun q h => by rcases h with h | h | h; exact hFg q h; rw [h]; exact hNo; exact Nat.le_trans hN h
  have hS : va_S (fun q => F q ∨ q = o ∨ sz ≤ q) s.heap s.heap [] := va_S.rf
  by_cases h1 : 1 ≤ v ∧ v ≤ 240
  · obtain ⟨n, hn1, hn2, hkj⟩ := in1_ex h1
    subst hkj
    have hcl := nI_clamp (n := n) (by omega)
    refine lv_aload_n hx hb dX0_bestCode_0 rfl (lv_at hl 2 rfl) ?_
    refine lv_iconst (v := 0) hx hb dX0_bestCode_1 (by decide) ?_
    refine lv_aload_n hx hb dX0_bestCode_2 rfl (lv_at hl 0 rfl) ?_
    refine lv_iload_n hx hb dX0_bestCode_3 rfl (lv_at hl 1 rfl) ?_
    refine va_calli (va_runV (As := [.int (nI n)]) (rest := [.int 0, .ref o]) ⟨hx, hb, hml, hown, hts⟩ (met_X1_bestCode l g T x b sz S F hok hFsz n hn1 hn2 hT) (cwV 1 hts (lw_V q647 q648 q649 q14 q650) rfl rfl rfl (by decide +kernel) ⟨Nat.le_of_ble_eq_true rfl, Nat.le_of_ble_eq_true rfl⟩) (gg_preV hG (Kp.rf hG) (gg_recv hG hXB.1 rfl) ⟨hsz, hXB⟩) rfl rfl hl.1 rfl (lv_room (Nat.le_of_ble_eq_true rfl)) dX0_bestCode_4 ⟨Nat.le_of_ble_eq_true rfl, Nat.le_of_ble_eq_true rfl⟩) hS (fun q _ e => e.elim Or.inl (fun e => Or.inr (Or.inr e))) (fun q e => e.elim Or.inl (fun e => Or.inr (Or.inr e))) (fun r9 u t9 H locs ht hvm hr9 hQ hz9 hk9 hS => ?_)
    rw [ht] at hQ
    have h_o := h_o.kept (hk9 _ h_o.lt (fun e => e.elim hFo (fun e => absurd e (Nat.not_le.mpr hosz))))
    refine lv_i2l hx hb dX0_bestCode_7 rfl ?_
    refine gg_last hx hb hG h_o hS (Or.inr (Or.inl rfl)) 0 (by decide) (by decide) rfl dX0_bestCode_8 (fun H2 locs h_o hbut hS => ?_)
    refine lv_goto (tgt := 15) hx hb dX0_bestCode_9 (by decide) ?_
    refine lv_iconst (v := 0) hx hb dX0_bestCode_15 (by decide) ?_
    have hE : aBestC S (nI n) = ((0, (bst (fCode S n) 4).1, S) : Ans) := by unfold aBestC; rw [if_pos h1, hcl]
    refine W.widen (k := 336) (n := 10816) (Nat.le_of_ble_eq_true rfl) (Nat.le_of_ble_eq_true rfl) ?_
    exact W.iret (v := 0) hx hb hr (fun t9 h9 hW9 => ⟨⟨_, (), rfl, by rw [hE], by dsimp only; rw [h9]; exact LQ.ok (F1 := F) hE hxsz hN hFg hXB.2.2 (fun q h => Or.inl h) hQ hxo hFo hosz hbut h_o (by show vp_updL f 0 _ 0 = _; rw [hr9]; exact if_pos rfl)⟩, hS.F h9⟩) hS.2.2 dX0_bestCode_16
  · refine lv_aload_n hx hb dX0_bestCode_0 rfl (lv_at hl 2 rfl) ?_
    refine lv_iconst (v := 0) hx hb dX0_bestCode_1 (by decide) ?_
    refine lv_aload_n hx hb dX0_bestCode_2 rfl (lv_at hl 0 rfl) ?_
    refine lv_iload_n hx hb dX0_bestCode_3 rfl (lv_at hl 1 rfl) ?_
    refine vx_calli (vx_runV (As := [.int v]) (rest := [.int 0, .ref o]) ⟨hx, hb, hml, hown, hts⟩ (xm_X1_bestCode_IAE l hl0 g T x b S F hok v h1) (cwV 1 hts (lw_V q647 q648 q649 q14 q650) rfl rfl rfl (by decide +kernel) ⟨Nat.le_of_ble_eq_true rfl, Nat.le_of_ble_eq_true rfl⟩) (gg_preV hG (Kp.rf hG) (gg_recv hG hXB.1 rfl) hXB) rfl rfl hl.1 rfl (lv_room (Nat.le_of_ble_eq_true rfl)) dX0_bestCode_4 ⟨Nat.le_of_ble_eq_true rfl, Nat.le_of_ble_eq_true rfl⟩) hS (fun q _ e => e.elim) (fun q e => e.elim) (fun q _ e => e.elim) (fun E ce q9 u t9 H locs ht hvm _ hE9 hz9 hk9 hS hce hcv hcx => ?_) (fun r9 _ t9 H1 locs _ _ h9 => h9.elim)
    subst hE9
    refine vx_catch (pc := 4) hown [] ⟨0, 9, 12, 13⟩ [] htab (fun z hz => by cases hz) (by decide) (by decide) (hts _ q261) (hG.nb q275 rfl) hce hcv hcx ?_
    refine W.eq (g2 := F0 m 12 ls [.ref q9]) rfl ?_
    refine lv_astore_n (lv' := [(3, .ref q9), (0, .ref x), (1, .int v), (2, .ref o)]) hx hb dX0_bestCode_12 rfl hl (by decide) rfl (fun ls hl => ?_)
    refine lv_iconst (v := 1) hx hb dX0_bestCode_13 (by decide) ?_
    have hE : aBestC S v = ((1, 0, S) : Ans) := by unfold aBestC; rw [if_neg h1]
    refine W.widen (k := 336) (n := 10816) (Nat.le_of_ble_eq_true rfl) (Nat.le_of_ble_eq_true rfl) ?_
    exact W.iret (v := 1) hx hb hr (fun t9 h9 hW9 => ⟨⟨_, (), rfl, by rw [hE], by dsimp only; rw [h9]; exact LQ.no hE (by decide) hsz hN hFsz hXB h_o hk9⟩, hS.F h9⟩) hS.2.2 dX0_bestCode_14

set_option maxHeartbeats 4000000 in
theorem met_X0_bestPoise (l : Launch) (hl0 : l.stackTraces = false) (g : GT) (T x b sz o : Nat) (S : BS) (F : Nat → Prop) (f : Nat → Int64) (hok : OKS T S) (hFsz : ∀ q, F q → q < sz) (hFo : ¬ F o) (hxo : x ≠ o) (hNo : gA g o) (v : Int32) (hT : T < 2 ^ 29) : Met l yX0_bestPoise (wsW_ yX0_bestPoise cX0_bestPoise 4 (Option.some Jvm.ClassFile.FieldType.int) [(0, 9, 12, 13)]) ({ frames := 12, cells := 2573, slots := 83669, locals := 392 } : Room) (PcG g [.ref x, .int v, .ref o] (fun H => H.size = sz ∧ XB g F x b S H ∧ va_at (gD g) bbCl (o, ouA g f) H)) (va_Qi (fun (r : Int32) (_ : Unit) => r = (aBestP S v).1) (fun _ u => LQ g F x b sz o (aBestP S v) u.heap) (fun q => F q ∨ q = o ∨ sz ≤ q)) 2573 83669 (fun q => F q ∨ q = o ∨ sz ≤ q) := by
  refine gg_metW (cc := cX0_bestPoise) (maxL := 4) (ret := (Option.some Jvm.ClassFile.FieldType.int)) (hh := [(0, 9, 12, 13)]) (by decide) (Nat.le_of_ble_eq_true rfl) ?_
  intro p e s m below meth c hx hb hr hlk hml hown hts htab hG hB ls hl
  have hown : s.vm.findClass RX0 = some m.cls := hown
  have hl : lv_has ls 4 [(0, .ref x), (1, .int v), (2, .ref o)] := hl
  obtain ⟨hsz, hXB, h_o⟩ := hB
  have hN : gN g ≤ sz := by rw [← hsz]; exact hG.sz
  have hFg : ∀ q, F q → gA g q := by obtain ⟨-, ⟨_, _, _, _, _, _, _, hX⟩, -⟩ := hXB; exact hX.2.2.2.2.2.2.2.2.1
  have hxsz : x < sz := by rw [← hsz]; exact hXB.1.lt
  have hosz : o < sz := by rw [← hsz]; exact h_o.lt
  have hn40 : sN S ≤ 40 := hok.2.2.2.2.2.2.2.1
  have hAN : ∀ q, (F q ∨ q = o ∨ sz ≤ q) → gA g q := fun q h => by rcases h with h | h | h; exact hFg q h; rw [h]; exact hNo; exact Nat.le_trans hN h
  have hS : va_S (fun q => F q ∨ q = o ∨ sz ≤ q) s.heap s.heap [] := va_S.rf
  by_cases h1 : 1 ≤ v ∧ v ≤ 240
  · obtain ⟨n, hn1, hn2, hkj⟩ := in1_ex h1
    subst hkj
    have hcl := nI_clamp (n := n) (by omega)
    refine lv_aload_n hx hb dX0_bestPoise_0 rfl (lv_at hl 2 rfl) ?_
    refine lv_iconst (v := 0) hx hb dX0_bestPoise_1 (by decide) ?_
    refine lv_aload_n hx hb dX0_bestPoise_2 rfl (lv_at hl 0 rfl) ?_
    refine lv_iload_n hx hb dX0_bestPoise_3 rfl (lv_at hl 1 rfl) ?_
    refine va_calli (va_runV (As := [.int (nI n)]) (rest := [.int 0, .ref o]) ⟨hx, hb, hml, hown, hts⟩ (met_X1_bestPoise l g T x b sz S F hok hFsz n hn1 hn2 hT) (cwV 1 hts (lw_V q654 q655 q656 q14 q657) rfl rfl rfl (by decide +kernel) ⟨Nat.le_of_ble_eq_true rfl, Nat.le_of_ble_eq_true rfl⟩) (gg_preV hG (Kp.rf hG) (gg_recv hG hXB.1 rfl) ⟨hsz, hXB⟩) rfl rfl hl.1 rfl (lv_room (Nat.le_of_ble_eq_true rfl)) dX0_bestPoise_4 ⟨Nat.le_of_ble_eq_true rfl, Nat.le_of_ble_eq_true rfl⟩) hS (fun q _ e => e.elim Or.inl (fun e => Or.inr (Or.inr e))) (fun q e => e.elim Or.inl (fun e => Or.inr (Or.inr e))) (fun r9 u t9 H locs ht hvm hr9 hQ hz9 hk9 hS => ?_)
    rw [ht] at hQ
    have h_o := h_o.kept (hk9 _ h_o.lt (fun e => e.elim hFo (fun e => absurd e (Nat.not_le.mpr hosz))))
    refine lv_i2l hx hb dX0_bestPoise_7 rfl ?_
    refine gg_last hx hb hG h_o hS (Or.inr (Or.inl rfl)) 0 (by decide) (by decide) rfl dX0_bestPoise_8 (fun H2 locs h_o hbut hS => ?_)
    refine lv_goto (tgt := 15) hx hb dX0_bestPoise_9 (by decide) ?_
    refine lv_iconst (v := 0) hx hb dX0_bestPoise_15 (by decide) ?_
    have hE : aBestP S (nI n) = ((0, (bst (fPoise S n) 31).1, S) : Ans) := by unfold aBestP; rw [if_pos h1, hcl]
    refine W.widen (k := 2573) (n := 83669) (Nat.le_of_ble_eq_true rfl) (Nat.le_of_ble_eq_true rfl) ?_
    exact W.iret (v := 0) hx hb hr (fun t9 h9 hW9 => ⟨⟨_, (), rfl, by rw [hE], by dsimp only; rw [h9]; exact LQ.ok (F1 := F) hE hxsz hN hFg hXB.2.2 (fun q h => Or.inl h) hQ hxo hFo hosz hbut h_o (by show vp_updL f 0 _ 0 = _; rw [hr9]; exact if_pos rfl)⟩, hS.F h9⟩) hS.2.2 dX0_bestPoise_16
  · refine lv_aload_n hx hb dX0_bestPoise_0 rfl (lv_at hl 2 rfl) ?_
    refine lv_iconst (v := 0) hx hb dX0_bestPoise_1 (by decide) ?_
    refine lv_aload_n hx hb dX0_bestPoise_2 rfl (lv_at hl 0 rfl) ?_
    refine lv_iload_n hx hb dX0_bestPoise_3 rfl (lv_at hl 1 rfl) ?_
    refine vx_calli (vx_runV (As := [.int v]) (rest := [.int 0, .ref o]) ⟨hx, hb, hml, hown, hts⟩ (xm_X1_bestPoise_IAE l hl0 g T x b S F hok v h1) (cwV 1 hts (lw_V q654 q655 q656 q14 q657) rfl rfl rfl (by decide +kernel) ⟨Nat.le_of_ble_eq_true rfl, Nat.le_of_ble_eq_true rfl⟩) (gg_preV hG (Kp.rf hG) (gg_recv hG hXB.1 rfl) hXB) rfl rfl hl.1 rfl (lv_room (Nat.le_of_ble_eq_true rfl)) dX0_bestPoise_4 ⟨Nat.le_of_ble_eq_true rfl, Nat.le_of_ble_eq_true rfl⟩) hS (fun q _ e => e.elim) (fun q e => e.elim) (fun q _ e => e.elim) (fun E ce q9 u t9 H locs ht hvm _ hE9 hz9 hk9 hS hce hcv hcx => ?_) (fun r9 _ t9 H1 locs _ _ h9 => h9.elim)
    subst hE9
    refine vx_catch (pc := 4) hown [] ⟨0, 9, 12, 13⟩ [] htab (fun z hz => by cases hz) (by decide) (by decide) (hts _ q261) (hG.nb q275 rfl) hce hcv hcx ?_
    refine W.eq (g2 := F0 m 12 ls [.ref q9]) rfl ?_
    refine lv_astore_n (lv' := [(3, .ref q9), (0, .ref x), (1, .int v), (2, .ref o)]) hx hb dX0_bestPoise_12 rfl hl (by decide) rfl (fun ls hl => ?_)
    refine lv_iconst (v := 1) hx hb dX0_bestPoise_13 (by decide) ?_
    have hE : aBestP S v = ((1, 0, S) : Ans) := by unfold aBestP; rw [if_neg h1]
    refine W.widen (k := 2573) (n := 83669) (Nat.le_of_ble_eq_true rfl) (Nat.le_of_ble_eq_true rfl) ?_
    exact W.iret (v := 1) hx hb hr (fun t9 h9 hW9 => ⟨⟨_, (), rfl, by rw [hE], by dsimp only; rw [h9]; exact LQ.no hE (by decide) hsz hN hFsz hXB h_o hk9⟩, hS.F h9⟩) hS.2.2 dX0_bestPoise_14

set_option maxHeartbeats 4000000 in
theorem met_X0_when (l : Launch) (hl0 : l.stackTraces = false) (g : GT) (T x b sz o : Nat) (S : BS) (F : Nat → Prop) (f : Nat → Int64) (hok : OKS T S) (hFsz : ∀ q, F q → q < sz) (hFo : ¬ F o) (hxo : x ≠ o) (hNo : gA g o) (k : Int32) (hT : T < 2 ^ 29) : Met l yX0_when (wsW_ yX0_when cX0_when 4 (Option.some Jvm.ClassFile.FieldType.int) [(0, 9, 12, 21)]) ({ frames := 12, cells := 83, slots := 2699, locals := 389 } : Room) (PcG g [.ref x, .int k, .ref o] (fun H => H.size = sz ∧ XB g F x b S H ∧ va_at (gD g) bbCl (o, ouA g f) H)) (va_Qi (fun (r : Int32) (_ : Unit) => r = (aWhen S k).1) (fun _ u => LQ g F x b sz o (aWhen S k) u.heap) (fun q => F q ∨ q = o ∨ sz ≤ q)) 83 2699 (fun q => F q ∨ q = o ∨ sz ≤ q) := by
  refine gg_metW (cc := cX0_when) (maxL := 4) (ret := (Option.some Jvm.ClassFile.FieldType.int)) (hh := [(0, 9, 12, 21)]) (by decide) (Nat.le_of_ble_eq_true rfl) ?_
  intro p e s m below meth c hx hb hr hlk hml hown hts htab hG hB ls hl
  have hown : s.vm.findClass RX0 = some m.cls := hown
  have hl : lv_has ls 4 [(0, .ref x), (1, .int k), (2, .ref o)] := hl
  obtain ⟨hsz, hXB, h_o⟩ := hB
  have hN : gN g ≤ sz := by rw [← hsz]; exact hG.sz
  have hFg : ∀ q, F q → gA g q := by obtain ⟨-, ⟨_, _, _, _, _, _, _, hX⟩, -⟩ := hXB; exact hX.2.2.2.2.2.2.2.2.1
  have hxsz : x < sz := by rw [← hsz]; exact hXB.1.lt
  have hosz : o < sz := by rw [← hsz]; exact h_o.lt
  have hn40 : sN S ≤ 40 := hok.2.2.2.2.2.2.2.1
  have hAN : ∀ q, (F q ∨ q = o ∨ sz ≤ q) → gA g q := fun q h => by rcases h with h | h | h; exact hFg q h; rw [h]; exact hNo; exact Nat.le_trans hN h
  have hS : va_S (fun q => F q ∨ q = o ∨ sz ≤ q) s.heap s.heap [] := va_S.rf
  by_cases h1 : 0 ≤ k ∧ k < nI (sN S)
  · obtain ⟨j, hj, hkj⟩ := isT_ex hn40 h1
    subst hkj
    have hcl := nI_clamp (n := j) (by omega)
    refine lv_aload_n hx hb dX0_when_0 rfl (lv_at hl 2 rfl) ?_
    refine lv_iconst (v := 0) hx hb dX0_when_1 (by decide) ?_
    refine lv_aload_n hx hb dX0_when_2 rfl (lv_at hl 0 rfl) ?_
    refine lv_iload_n hx hb dX0_when_3 rfl (lv_at hl 1 rfl) ?_
    refine va_calli (va_runV (As := [.int (nI j)]) (rest := [.int 0, .ref o]) ⟨hx, hb, hml, hown, hts⟩ (met_X1_when l g T x b sz S F hok hFsz j hj hT) (cwV 1 hts (lw_V q618 q619 q620 q14 q621) rfl rfl rfl (by decide +kernel) ⟨Nat.le_of_ble_eq_true rfl, Nat.le_of_ble_eq_true rfl⟩) (gg_preV hG (Kp.rf hG) (gg_recv hG hXB.1 rfl) ⟨hsz, hXB⟩) rfl rfl hl.1 rfl (lv_room (Nat.le_of_ble_eq_true rfl)) dX0_when_4 ⟨Nat.le_of_ble_eq_true rfl, Nat.le_of_ble_eq_true rfl⟩) hS (fun q _ e => e.elim Or.inl (fun e => Or.inr (Or.inr e))) (fun q e => e.elim Or.inl (fun e => Or.inr (Or.inr e))) (fun r9 u t9 H locs ht hvm hr9 hQ hz9 hk9 hS => ?_)
    rw [ht] at hQ
    have h_o := h_o.kept (hk9 _ h_o.lt (fun e => e.elim hFo (fun e => absurd e (Nat.not_le.mpr hosz))))
    refine lv_i2l hx hb dX0_when_7 rfl ?_
    refine gg_last hx hb hG h_o hS (Or.inr (Or.inl rfl)) 0 (by decide) (by decide) rfl dX0_when_8 (fun H2 locs h_o hbut hS => ?_)
    refine lv_goto (tgt := 15) hx hb dX0_when_9 (by decide) ?_
    refine lv_iconst (v := 0) hx hb dX0_when_15 (by decide) ?_
    have hE : aWhen S (nI j) = ((0, bWhen S j, S) : Ans) := by unfold aWhen; rw [if_pos h1, hcl]
    refine W.widen (k := 83) (n := 2699) (Nat.le_of_ble_eq_true rfl) (Nat.le_of_ble_eq_true rfl) ?_
    exact W.iret (v := 0) hx hb hr (fun t9 h9 hW9 => ⟨⟨_, (), rfl, by rw [hE], by dsimp only; rw [h9]; exact LQ.ok (F1 := F) hE hxsz hN hFg hXB.2.2 (fun q h => Or.inl h) hQ hxo hFo hosz hbut h_o (by show vp_updL f 0 _ 0 = _; rw [hr9]; exact if_pos rfl)⟩, hS.F h9⟩) hS.2.2 dX0_when_16
  · refine lv_aload_n hx hb dX0_when_0 rfl (lv_at hl 2 rfl) ?_
    refine lv_iconst (v := 0) hx hb dX0_when_1 (by decide) ?_
    refine lv_aload_n hx hb dX0_when_2 rfl (lv_at hl 0 rfl) ?_
    refine lv_iload_n hx hb dX0_when_3 rfl (lv_at hl 1 rfl) ?_
    refine vx_calli (vx_runV (As := [.int k]) (rest := [.int 0, .ref o]) ⟨hx, hb, hml, hown, hts⟩ (xm_X1_when_IOB l hl0 g T x b S F hok k h1) (cwV 1 hts (lw_V q618 q619 q620 q14 q621) rfl rfl rfl (by decide +kernel) ⟨Nat.le_of_ble_eq_true rfl, Nat.le_of_ble_eq_true rfl⟩) (gg_preV hG (Kp.rf hG) (gg_recv hG hXB.1 rfl) hXB) rfl rfl hl.1 rfl (lv_room (Nat.le_of_ble_eq_true rfl)) dX0_when_4 ⟨Nat.le_of_ble_eq_true rfl, Nat.le_of_ble_eq_true rfl⟩) hS (fun q _ e => e.elim) (fun q e => e.elim) (fun q _ e => e.elim) (fun E ce q9 u t9 H locs ht hvm _ hE9 hz9 hk9 hS hce hcv hcx => ?_) (fun r9 _ t9 H1 locs _ _ h9 => h9.elim)
    subst hE9
    refine vx_catch (pc := 4) hown [] ⟨0, 9, 12, 21⟩ [] htab (fun z hz => by cases hz) (by decide) (by decide) (hts _ q455) (hG.nb q508 rfl) hce hcv hcx ?_
    refine W.eq (g2 := F0 m 12 ls [.ref q9]) rfl ?_
    refine lv_astore_n (lv' := [(3, .ref q9), (0, .ref x), (1, .int k), (2, .ref o)]) hx hb dX0_when_12 rfl hl (by decide) rfl (fun ls hl => ?_)
    refine lv_iconst (v := 1) hx hb dX0_when_13 (by decide) ?_
    have hE : aWhen S k = ((1, 0, S) : Ans) := by unfold aWhen; rw [if_neg h1]
    refine W.widen (k := 83) (n := 2699) (Nat.le_of_ble_eq_true rfl) (Nat.le_of_ble_eq_true rfl) ?_
    exact W.iret (v := 1) hx hb hr (fun t9 h9 hW9 => ⟨⟨_, (), rfl, by rw [hE], by dsimp only; rw [h9]; exact LQ.no hE (by decide) hsz hN hFsz hXB h_o hk9⟩, hS.F h9⟩) hS.2.2 dX0_when_14

set_option maxHeartbeats 4000000 in
theorem met_X0_foresee (l : Launch) (hl0 : l.stackTraces = false) (g : GT) (T x b sz o : Nat) (S : BS) (F : Nat → Prop) (f : Nat → Int64) (hok : OKS T S) (hFsz : ∀ q, F q → q < sz) (hFo : ¬ F o) (hxo : x ≠ o) (hNo : gA g o) (v w : Int32) (hT : T < 2 ^ 29) : Met l yX0_foresee (wsW_ yX0_foresee cX0_foresee 5 (Option.some Jvm.ClassFile.FieldType.int) [(0, 10, 13, 13), (0, 10, 17, 21)]) ({ frames := 12, cells := 83, slots := 2699, locals := 389 } : Room) (PcG g [.ref x, .int v, .int w, .ref o] (fun H => H.size = sz ∧ XB g F x b S H ∧ va_at (gD g) bbCl (o, ouA g f) H)) (va_Qi (fun (r : Int32) (_ : Unit) => r = (aFore S v w).1) (fun _ u => LQ g F x b sz o (aFore S v w) u.heap) (fun q => F q ∨ q = o ∨ sz ≤ q)) 83 2699 (fun q => F q ∨ q = o ∨ sz ≤ q) := by
  refine gg_metW (cc := cX0_foresee) (maxL := 5) (ret := (Option.some Jvm.ClassFile.FieldType.int)) (hh := [(0, 10, 13, 13), (0, 10, 17, 21)]) (by decide) (Nat.le_of_ble_eq_true rfl) ?_
  intro p e s m below meth c hx hb hr hlk hml hown hts htab hG hB ls hl
  have hown : s.vm.findClass RX0 = some m.cls := hown
  have hl : lv_has ls 5 [(0, .ref x), (1, .int v), (2, .int w), (3, .ref o)] := hl
  obtain ⟨hsz, hXB, h_o⟩ := hB
  have hN : gN g ≤ sz := by rw [← hsz]; exact hG.sz
  have hFg : ∀ q, F q → gA g q := by obtain ⟨-, ⟨_, _, _, _, _, _, _, hX⟩, -⟩ := hXB; exact hX.2.2.2.2.2.2.2.2.1
  have hxsz : x < sz := by rw [← hsz]; exact hXB.1.lt
  have hosz : o < sz := by rw [← hsz]; exact h_o.lt
  have hn40 : sN S ≤ 40 := hok.2.2.2.2.2.2.2.1
  have hAN : ∀ q, (F q ∨ q = o ∨ sz ≤ q) → gA g q := fun q h => by rcases h with h | h | h; exact hFg q h; rw [h]; exact hNo; exact Nat.le_trans hN h
  have hS : va_S (fun q => F q ∨ q = o ∨ sz ≤ q) s.heap s.heap [] := va_S.rf
  by_cases h1 : 1 ≤ v ∧ v ≤ 240
  · by_cases h2 : 0 ≤ w ∧ w ≤ 3
    · obtain ⟨n, hn1, hn2, hkj⟩ := in1_ex h1
      subst hkj
      have hcl := nI_clamp (n := n) (by omega)
      obtain ⟨j, hj, hkj⟩ := i_in (n := 3) rfl h2.1 h2.2
      subst hkj
      have hcl2 := nI_clamp (n := j) (by omega)
      refine lv_aload_n hx hb dX0_foresee_0 rfl (lv_at hl 3 rfl) ?_
      refine lv_iconst (v := 0) hx hb dX0_foresee_1 (by decide) ?_
      refine lv_aload_n hx hb dX0_foresee_2 rfl (lv_at hl 0 rfl) ?_
      refine lv_iload_n hx hb dX0_foresee_3 rfl (lv_at hl 1 rfl) ?_
      refine lv_iload_n hx hb dX0_foresee_4 rfl (lv_at hl 2 rfl) ?_
      refine va_calli (va_runV (As := [.int (nI n), .int (nI j)]) (rest := [.int 0, .ref o]) ⟨hx, hb, hml, hown, hts⟩ (met_X1_foresee l g T x b sz S F hok hFsz n j hn1 hn2 (by omega) hT) (cwV 2 hts (lw_V q640 q641 q642 q14 q643) rfl rfl rfl (by decide +kernel) ⟨Nat.le_of_ble_eq_true rfl, Nat.le_of_ble_eq_true rfl⟩) (gg_preV hG (Kp.rf hG) (gg_recv hG hXB.1 rfl) ⟨hsz, hXB⟩) rfl rfl hl.1 rfl (lv_room (Nat.le_of_ble_eq_true rfl)) dX0_foresee_5 ⟨Nat.le_of_ble_eq_true rfl, Nat.le_of_ble_eq_true rfl⟩) hS (fun q _ e => e.elim Or.inl (fun e => Or.inr (Or.inr e))) (fun q e => e.elim Or.inl (fun e => Or.inr (Or.inr e))) (fun r9 u t9 H locs ht hvm hr9 hQ hz9 hk9 hS => ?_)
      rw [ht] at hQ
      have h_o := h_o.kept (hk9 _ h_o.lt (fun e => e.elim hFo (fun e => absurd e (Nat.not_le.mpr hosz))))
      refine lv_i2l hx hb dX0_foresee_8 rfl ?_
      refine gg_last hx hb hG h_o hS (Or.inr (Or.inl rfl)) 0 (by decide) (by decide) rfl dX0_foresee_9 (fun H2 locs h_o hbut hS => ?_)
      refine lv_goto (tgt := 21) hx hb dX0_foresee_10 (by decide) ?_
      refine lv_iconst (v := 0) hx hb dX0_foresee_21 (by decide) ?_
      have hE : aFore S (nI n) (nI j) = ((0, bFore S n j, S) : Ans) := by unfold aFore; rw [if_pos h1, if_pos h2, hcl, hcl2]
      refine W.widen (k := 83) (n := 2699) (Nat.le_of_ble_eq_true rfl) (Nat.le_of_ble_eq_true rfl) ?_
      exact W.iret (v := 0) hx hb hr (fun t9 h9 hW9 => ⟨⟨_, (), rfl, by rw [hE], by dsimp only; rw [h9]; exact LQ.ok (F1 := F) hE hxsz hN hFg hXB.2.2 (fun q h => Or.inl h) hQ hxo hFo hosz hbut h_o (by show vp_updL f 0 _ 0 = _; rw [hr9]; exact if_pos rfl)⟩, hS.F h9⟩) hS.2.2 dX0_foresee_22
    · refine lv_aload_n hx hb dX0_foresee_0 rfl (lv_at hl 3 rfl) ?_
      refine lv_iconst (v := 0) hx hb dX0_foresee_1 (by decide) ?_
      refine lv_aload_n hx hb dX0_foresee_2 rfl (lv_at hl 0 rfl) ?_
      refine lv_iload_n hx hb dX0_foresee_3 rfl (lv_at hl 1 rfl) ?_
      refine lv_iload_n hx hb dX0_foresee_4 rfl (lv_at hl 2 rfl) ?_
      refine vx_calli (vx_runV (As := [.int v, .int w]) (rest := [.int 0, .ref o]) ⟨hx, hb, hml, hown, hts⟩ (xm_X1_foresee_IOB l hl0 g T x b S F hok v w h1 (fun e => h2 ((lt_of_le7 (n := 3) rfl rfl (by decide)).mp e))) (cwV 2 hts (lw_V q640 q641 q642 q14 q643) rfl rfl rfl (by decide +kernel) ⟨Nat.le_of_ble_eq_true rfl, Nat.le_of_ble_eq_true rfl⟩) (gg_preV hG (Kp.rf hG) (gg_recv hG hXB.1 rfl) hXB) rfl rfl hl.1 rfl (lv_room (Nat.le_of_ble_eq_true rfl)) dX0_foresee_5 ⟨Nat.le_of_ble_eq_true rfl, Nat.le_of_ble_eq_true rfl⟩) hS (fun q _ e => e.elim) (fun q e => e.elim) (fun q _ e => e.elim) (fun E ce q9 u t9 H locs ht hvm _ hE9 hz9 hk9 hS hce hcv hcx => ?_) (fun r9 _ t9 H1 locs _ _ h9 => h9.elim)
      subst hE9
      refine vx_catch (pc := 5) hown [⟨0, 10, 13, 13⟩] ⟨0, 10, 17, 21⟩ [] htab (fun z hz => by rcases List.mem_cons.mp hz with e | e; (rw [e]; exact Or.inr ⟨by decide, xIAE, hts _ q261, hG.1.2.2.2.2.2.2.2.1⟩); cases e) (by decide) (by decide) (hts _ q455) (hG.nb q508 rfl) hce hcv hcx ?_
      refine W.eq (g2 := F0 m 17 ls [.ref q9]) rfl ?_
      refine lv_astore (lv' := [(4, .ref q9), (0, .ref x), (1, .int v), (2, .int w), (3, .ref o)]) hx hb dX0_foresee_17 hl (by decide) rfl (fun ls hl => ?_)
      refine lv_iconst (v := 2) hx hb dX0_foresee_19 (by decide) ?_
      have hE : aFore S v w = ((2, 0, S) : Ans) := by unfold aFore; rw [if_pos h1, if_neg h2]
      refine W.widen (k := 83) (n := 2699) (Nat.le_of_ble_eq_true rfl) (Nat.le_of_ble_eq_true rfl) ?_
      exact W.iret (v := 2) hx hb hr (fun t9 h9 hW9 => ⟨⟨_, (), rfl, by rw [hE], by dsimp only; rw [h9]; exact LQ.no hE (by decide) hsz hN hFsz hXB h_o hk9⟩, hS.F h9⟩) hS.2.2 dX0_foresee_20
  · refine lv_aload_n hx hb dX0_foresee_0 rfl (lv_at hl 3 rfl) ?_
    refine lv_iconst (v := 0) hx hb dX0_foresee_1 (by decide) ?_
    refine lv_aload_n hx hb dX0_foresee_2 rfl (lv_at hl 0 rfl) ?_
    refine lv_iload_n hx hb dX0_foresee_3 rfl (lv_at hl 1 rfl) ?_
    refine lv_iload_n hx hb dX0_foresee_4 rfl (lv_at hl 2 rfl) ?_
    refine vx_calli (vx_runV (As := [.int v, .int w]) (rest := [.int 0, .ref o]) ⟨hx, hb, hml, hown, hts⟩ (xm_X1_foresee_IAE l hl0 g T x b S F hok v w h1) (cwV 2 hts (lw_V q640 q641 q642 q14 q643) rfl rfl rfl (by decide +kernel) ⟨Nat.le_of_ble_eq_true rfl, Nat.le_of_ble_eq_true rfl⟩) (gg_preV hG (Kp.rf hG) (gg_recv hG hXB.1 rfl) hXB) rfl rfl hl.1 rfl (lv_room (Nat.le_of_ble_eq_true rfl)) dX0_foresee_5 ⟨Nat.le_of_ble_eq_true rfl, Nat.le_of_ble_eq_true rfl⟩) hS (fun q _ e => e.elim) (fun q e => e.elim) (fun q _ e => e.elim) (fun E ce q9 u t9 H locs ht hvm _ hE9 hz9 hk9 hS hce hcv hcx => ?_) (fun r9 _ t9 H1 locs _ _ h9 => h9.elim)
    subst hE9
    refine vx_catch (pc := 5) hown [] ⟨0, 10, 13, 13⟩ [⟨0, 10, 17, 21⟩] htab (fun z hz => by cases hz) (by decide) (by decide) (hts _ q261) (hG.nb q275 rfl) hce hcv hcx ?_
    refine W.eq (g2 := F0 m 13 ls [.ref q9]) rfl ?_
    refine lv_astore (lv' := [(4, .ref q9), (0, .ref x), (1, .int v), (2, .int w), (3, .ref o)]) hx hb dX0_foresee_13 hl (by decide) rfl (fun ls hl => ?_)
    refine lv_iconst (v := 1) hx hb dX0_foresee_15 (by decide) ?_
    have hE : aFore S v w = ((1, 0, S) : Ans) := by unfold aFore; rw [if_neg h1]
    refine W.widen (k := 83) (n := 2699) (Nat.le_of_ble_eq_true rfl) (Nat.le_of_ble_eq_true rfl) ?_
    exact W.iret (v := 1) hx hb hr (fun t9 h9 hW9 => ⟨⟨_, (), rfl, by rw [hE], by dsimp only; rw [h9]; exact LQ.no hE (by decide) hsz hN hFsz hXB h_o hk9⟩, hS.F h9⟩) hS.2.2 dX0_foresee_16
