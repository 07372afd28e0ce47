/-! ArrayList.add -/
set_option maxRecDepth 100000
/-- a list of travellers -/
def LX (g : GT) (al el n cap : Nat) (mc : Int32) (arr : Nat → Option Nat) (H : Heap) : Prop :=
  va_at (gD g) bbCl (al, alE mc el n) H ∧ (0 < n → va_at (gD g) bbCl (el, rfA g cap arr) H) ∧ (n = 0 → el = gE g) ∧ (∀ k, k < n → ∀ y, arr k = some y → ∃ t, va_at (gD g) bbCl (y, tvE g t) H) ∧ n ≤ cap ∧ cap ≤ 60 ∧ gA g al ∧ (0 < n → gA g el ∧ el ≠ al)
theorem cpy_lt {arr : Nat → Option Nat} {n k : Nat} (hk : k < n) : va_cpy arr (fun _ => none) 0 0 n k = arr k := by
  rw [pk_cpy_in (Nat.zero_le _) (by omega)]
  simp

set_option maxHeartbeats 4000000 in
theorem met_J3_add_2 (l : Launch) (g : GT) (al el n cap x sz : Nat) (mc : Int32) (arr : Nat → Option Nat) (t : TT) (hn : n ≤ 39) : Met l yJ3_add_2 (ws_ yJ3_add_2 cJ3_add_2 4 none) ({ frames := 8, cells := 1, slots := 60, locals := 300 } : Room) (PcG g [.ref al, .ref x, .ref el, .int (nI n)] (fun H => H.size = sz ∧ LX g al el n cap mc arr H ∧ va_at (gD g) bbCl (x, tvE g t) H ∧ x ≠ al ∧ (0 < n → x ≠ el))) (va_Qv (fun _ : Unit => True) (fun _ u => ∃ (el1 cap1 : Nat) (arr1 : Nat → Option Nat), va_at (gD g) bbCl (al, alE mc el1 (n + 1)) u.heap ∧ va_at (gD g) bbCl (el1, rfA g cap1 arr1) u.heap ∧ (∀ k, k < n → arr1 k = arr k) ∧ arr1 n = some x ∧ n + 1 ≤ cap1 ∧ cap1 ≤ 60 ∧ ((0 < n ∧ el1 = el) ∨ sz ≤ el1)) (fun q => (q = al ∨ (0 < n ∧ q = el) ∨ sz ≤ q))) 1 60 (fun q => (q = al ∨ (0 < n ∧ q = el) ∨ sz ≤ q)) := by
  refine gg_met (cc := cJ3_add_2) (maxL := 4) (ret := none) (by decide) (Nat.le_of_ble_eq_true rfl) ?_
  intro p e s m below meth c hx hb hr hlk hin hml hown hts hG hB ls hl
  have hown : s.vm.findClass RJ3 = some m.cls := hown
  have hl : lv_has ls 4 [(0, .ref al), (1, .ref x), (2, .ref el), (3, .int (nI n))] := hl
  obtain ⟨hsz, ⟨h_al, h_el, hE, hels, hcap, hc60, hgal, hgel⟩, h_x, hxal, hxel⟩ := hB
  have hAN : ∀ q, (q = al ∨ (0 < n ∧ q = el) ∨ sz ≤ q) → gA g q := fun q e => by
    rcases e with e | ⟨e1, e⟩ | e
    · rw [e]; exact hgal
    · rw [e]; exact (hgel e1).1
    · exact Nat.le_trans (by rw [← hsz]; exact hG.sz) e
  have hS : va_S (fun q => q = al ∨ (0 < n ∧ q = el) ∨ sz ≤ q) s.heap s.heap [] := va_S.rf
  have hlal : al < sz := by rw [← hsz]; exact h_al.lt
  have hlx : x < sz := by rw [← hsz]; exact h_x.lt
  have fin : ∀ (el1 cap1 : Nat) (arr1 : Nat → Option Nat) (H : Heap) (locs : List Loc) (cl9 sl9 : Nat), cl9 ≤ 1 → sl9 ≤ 60 → va_at (gD g) bbCl (al, alE mc el1 n) H → va_at (gD g) bbCl (el1, rfA g cap1 arr1) H → (∀ k, k < n → arr1 k = arr k) → n < cap1 → cap1 ≤ 60 → ((0 < n ∧ el1 = el) ∨ sz ≤ el1) → el1 ≠ al → va_at (gD g) bbCl (x, tvE g t) H → va_S (fun q => (q = al ∨ (0 < n ∧ q = el) ∨ sz ≤ q)) s.heap H locs → ∀ ls : Array Slot, lv_has ls 4 [(2, .ref el1), (0, .ref al), (1, .ref x), (3, .int (nI n))] → W p l e ({ frames := 8, cells := 1, slots := 60, locals := 300 } : Room) s m ([.ref al, .ref x, .ref el, .int (nI n)] : List Value).toArray below meth c H locs cl9 sl9 (MQ below (va_Qv (fun _ : Unit => True) (fun _ u => ∃ (el1 cap1 : Nat) (arr1 : Nat → Option Nat), va_at (gD g) bbCl (al, alE mc el1 (n + 1)) u.heap ∧ va_at (gD g) bbCl (el1, rfA g cap1 arr1) u.heap ∧ (∀ k, k < n → arr1 k = arr k) ∧ arr1 n = some x ∧ n + 1 ≤ cap1 ∧ cap1 ≤ 60 ∧ ((0 < n ∧ el1 = el) ∨ sz ≤ el1)) (fun q => (q = al ∨ (0 < n ∧ q = el) ∨ sz ≤ q))) ([.ref al, .ref x, .ref el, .int (nI n)] : List Value).toArray s 1 60 (fun q => (q = al ∨ (0 < n ∧ q = el) ∨ sz ≤ q))) (F0 m 11 ls []) := by
    intro el1 cap1 arr1 H locs cl9 sl9 hcl hsl h_al h_el1 harr hlt hc1 hwh hne1 h_x hS ls hl
    have hA1 : el1 = al ∨ (0 < n ∧ el1 = el) ∨ sz ≤ el1 := Or.inr hwh
    refine lv_aload_n hx hb dJ3_add_2_11 rfl (lv_at hl 0 rfl) ?_
    refine lv_iload_n hx hb dJ3_add_2_12 rfl (lv_at hl 3 rfl) ?_
    refine lv_aload_n hx hb dJ3_add_2_13 rfl (lv_at hl 2 rfl) ?_
    refine gg_aast hx hb hG h_el1 hS hA1 (gg_any hG h_x) n hlt (by omega) rfl dJ3_add_2_14 (fun H locs h_el1 hbut hS => ?_)
    have h_al := h_al.but hbut hne1.symm
    refine lv_aload_n hx hb dJ3_add_2_15 rfl (lv_at hl 1 rfl) ?_
    refine lv_iload_n hx hb dJ3_add_2_16 rfl (lv_at hl 3 rfl) ?_
    refine lv_iconst (v := 1) hx hb dJ3_add_2_17 (by decide) ?_
    refine lv_iadd hx hb dJ3_add_2_18 ?_
    rw [nI_1 n]
    refine gg_put (ci := 3) (v := .int (nI (n + 1))) (C := RJ3) (T := TJ3) (N := 3) hx hb hts in_J3 tyJ3 tyJ3_ok nmJ3 hown hG h_al hS (Or.inl rfl) rfl 2 (by decide) q70 rfl rfl rfl rfl (Nat.le_of_ble_eq_true rfl) dJ3_add_2_19 (fun H locs h_al hbut hS => ?_)
    have h_al : va_at (gD g) bbCl (al, .inr (3, [.int mc, .ref el1, .int (nI (n + 1))])) H := h_al
    have h_el1 := h_el1.but hbut hne1
    refine W.widen (k := 1) (n := 60) hcl hsl ?_
    exact W.vret hx hb hr (fun t9 h9 hW9 => ⟨⟨(), rfl, trivial, by dsimp only; rw [h9]; exact ⟨el1, cap1, _, h_al, h_el1, fun k hk => by rw [va_up_ne _ _ (by omega)]; exact harr k hk, va_up_self _ _ _, hlt, hc1, hwh⟩⟩, hS.F h9⟩) hS.2.2 dJ3_add_2_22
  rcases Nat.eq_zero_or_pos n with hn0 | hn0
  · subst hn0
    have hE := hE rfl
    subst hE
    refine lv_iload_n hx hb dJ3_add_2_0 rfl (lv_at hl 3 rfl) ?_
    refine lv_aload_n hx hb dJ3_add_2_1 rfl (lv_at hl 2 rfl) ?_
    refine gg_lenE hx hb hG hS hAN dJ3_add_2_2 ?_
    refine lv_icmp_ne (tgt := 11) hx hb dJ3_add_2_3 (by decide) (fun c_3 => absurd rfl c_3) (fun c_3 => ?_)
    refine lv_aload_n hx hb dJ3_add_2_6 rfl (lv_at hl 0 rfl) ?_
    refine va_callr (va_runV (As := []) (rest := []) ⟨hx, hb, hml, hown, hts⟩ (met_J3_growE l g al sz mc) (cwV 0 hts (lw_V q401 q403 qs3 q20 q404) rfl rfl rfl (by decide +kernel) ⟨Nat.le_of_ble_eq_true rfl, Nat.le_of_ble_eq_true rfl⟩) (gg_preV hG (hS.kp hG hAN) (gg_recv hG h_al rfl) ⟨hsz, h_al, hgal⟩) rfl rfl hl.1 rfl (lv_room (Nat.le_of_ble_eq_true rfl)) dJ3_add_2_7 ⟨Nat.le_of_ble_eq_true rfl, Nat.le_of_ble_eq_true rfl⟩) hS (fun q _ e => e.elim Or.inl (fun e => Or.inr (Or.inr e))) (fun q e => e.elim Or.inl (fun e => Or.inr (Or.inr e))) (fun u ra t9 H1 locs ht hvm _ hB1 hz1 hk1 hS => ?_)
    rw [ht] at hB1
    obtain ⟨hsr, h_ra, h_al⟩ := hB1
    have h_x := h_x.kept (hk1 x (by rw [hsz]; exact hlx) (fun e => e.elim hxal (fun e => by omega)))
    generalize H1 = H at h_ra h_al h_x hS ⊢
    refine lv_astore_n (lv' := [(2, .ref ra), (0, .ref al), (1, .ref x), (3, .int (nI 0))]) hx hb dJ3_add_2_10 rfl hl (by decide) rfl (fun ls hl => ?_)
    exact fin ra 10 _ _ _ _ _ (by decide) (by decide) h_al h_ra (fun k hk => absurd hk (by omega)) (by decide) (by decide) (Or.inr hsr) (by omega) h_x hS ls (lv_sub hl [0, 1, 2, 3] rfl)
  · have hq_el := h_el hn0
    have hq_ge := hgel hn0
    have hlel : el < sz := by rw [← hsz]; exact hq_el.lt
    refine lv_iload_n hx hb dJ3_add_2_0 rfl (lv_at hl 3 rfl) ?_
    refine lv_aload_n hx hb dJ3_add_2_1 rfl (lv_at hl 2 rfl) ?_
    refine gg_len hx hb hG hq_el dJ3_add_2_2 ?_
    refine lv_icmp_ne (tgt := 11) hx hb dJ3_add_2_3 (by decide) (fun c_3 => ?_) (fun c_3 => ?_)
    · have hcn : n < cap := by rcases Nat.lt_or_ge n cap with q | q; exact q; exact absurd (by rw [show n = cap by omega]) c_3
      exact fin el cap arr _ _ _ _ (by decide) (by decide) h_al hq_el (fun k hk => rfl) hcn hc60 (Or.inl ⟨hn0, rfl⟩) hq_ge.2 h_x hS ls (lv_sub hl [2, 0, 1, 3] rfl)
    · have hcc : n = cap := (nI_eq (by omega) (by omega)).mp c_3
      subst hcc
      refine lv_aload_n hx hb dJ3_add_2_6 rfl (lv_at hl 0 rfl) ?_
      refine va_callr (va_runV (As := []) (rest := []) ⟨hx, hb, hml, hown, hts⟩ (met_J3_growF l g al el n sz mc arr hn0 hn) (cwV 0 hts (lw_V q401 q403 qs3 q20 q404) rfl rfl rfl (by decide +kernel) ⟨Nat.le_of_ble_eq_true rfl, Nat.le_of_ble_eq_true rfl⟩) (gg_preV hG (hS.kp hG hAN) (gg_recv hG h_al rfl) ⟨hsz, h_al, hq_el, hgal, hq_ge.1, hq_ge.2, hels⟩) rfl rfl hl.1 rfl (lv_room (Nat.le_of_ble_eq_true rfl)) dJ3_add_2_7 ⟨Nat.le_of_ble_eq_true rfl, Nat.le_of_ble_eq_true rfl⟩) hS (fun q _ e => e.elim Or.inl (fun e => e.elim (fun e => Or.inr (Or.inl ⟨hn0, e⟩)) (fun e => Or.inr (Or.inr e)))) (fun q e => e.elim Or.inl (fun e => e.elim (fun e => Or.inr (Or.inl ⟨hn0, e⟩)) (fun e => Or.inr (Or.inr e)))) (fun u ra t9 H1 locs ht hvm _ hB1 hz1 hk1 hS => ?_)
      rw [ht] at hB1
      obtain ⟨hsr, h_ra, h_al⟩ := hB1
      have h_x := h_x.kept (hk1 x (by rw [hsz]; exact hlx) (fun e => e.elim hxal (fun e => e.elim (hxel hn0) (fun e => by omega))))
      generalize H1 = H at h_ra h_al h_x hS ⊢
      refine lv_astore_n (lv' := [(2, .ref ra), (0, .ref al), (1, .ref x), (3, .int (nI n))]) hx hb dJ3_add_2_10 rfl hl (by decide) rfl (fun ls hl => ?_)
      exact fin ra (ncap n) _ _ _ _ _ (by decide) (by decide) h_al h_ra (fun k hk => cpy_lt hk) (ncap_in hn).1 (ncap_in hn).2 (Or.inr hsr) (by omega) h_x hS ls (lv_sub hl [0, 1, 2, 3] rfl)

theorem tv_ne_al {g : GT} {s : State} (hG : GG g s) {a el n : Nat} {mc : Int32} {t : TT} {H : Heap} (h1 : va_at (gD g) bbCl (a, tvE g t) H) (h2 : va_at (gD g) bbCl (a, alE mc el n) H) : False := by
  obtain ⟨r1, hr1, c1, g1, g2, -⟩ := h1
  obtain ⟨r2, hr2, c2, k1, k2, -⟩ := h2
  have e : c1 = c2 := Option.some.inj (g1.symm.trans k1)
  subst e
  have f1 := (hG.k.1 2 (RX6, TX6, 7) rfl).2.1
  have f2 := (hG.k.1 3 (RJ3, TJ3, 3) rfl).2.1
  have e2 : (gD g).1 2 = (gD g).1 3 := g2.symm.trans k2
  rw [e2] at f1
  obtain ⟨kA, hkA, hnA⟩ := Vm.findClass_spec f1
  obtain ⟨kB, hkB, hnB⟩ := Vm.findClass_spec f2
  cases hkA.symm.trans hkB
  exact absurd (hnA.symm.trans hnB) (by decide)
section GGPS
variable {p : Program} {l : Launch} {e : Env} {R : Room} {s : State} {m : MethodId} {args : Array Value} {below : List Frame} {meth : Method} {c : Code} {H H0 : Heap} {locs : List Loc} {cells slots : Nat} {Q : State → Prop}
variable {cc : ByteArray} {pc : Nat} {ls : Array Slot} {rest : List Value} {g : GT} {a : Nat} {A : Nat → Prop}
/-- a field under another class's name -/
theorem gg_putS (hx : p.tables.exec = Jvm.exec) (hb : c.code = cc) {own C : String} {T : u_T} {N ci index : Nat} (hts : ∀ w ∈ lw_all, w.before args s = true) (hin : ∀ w ∈ u_ws C T N, w ∈ lw_all) (ty0 : Nat → FieldType) (hty : ∀ k, k < N → parseFieldDescriptor (T k).2.2.1 = some (ty0 k)) (hnm : ∀ a, a < N → ∀ b, b < N → a ≠ b → (T a).2.1 ≠ (T b).2.1) (hown : s.vm.findClass own = some m.cls) (hG : GG g s) {fs : List Value} (hat : va_at (gD g) bbCl (a, .inr (ci, fs)) H) (hS0 : va_S A H0 H locs) (hA : A a) (hc : bbCl[ci]? = some (C, T, N)) (k : Nat) (hk : k < N) {ref : String} (hlink : Cond.fieldLink own index ref (T k).2.1 (T k).2.2.1 ∈ lw_all) (hsame : ∀ x, s.fieldFound? (T k).1 (T k).2.1 (T k).2.2.1 = some x → s.fieldFound? ref (T k).2.1 (T k).2.2.1 = some x) (hfin : (T k).2.2.2 = false) {v : Value} (hn : narrow (ty0 k) v = v) (hfit : fits (ty0 k) v = true) (hl : k < fs.length)
    (hdg : decode cc pc = .ok (.putfield index, 3)) (kk : ∀ (H1 : Heap) (locs1 : List Loc), va_at (gD g) bbCl (a, .inr (ci, fs.set k v)) H1 → But a H H1 → va_S A H0 H1 locs1 → W p l e R s m args below meth c H1 locs1 cells slots Q (F0 m (pc + 3) ls rest)) : W p l e R s m args below meth c H locs cells slots Q (F0 m pc ls (v :: .ref a :: rest)) := by
  have hap := va_apart (own := own) hts hin ty0 hty hnm hG.k hc
  obtain ⟨r, h1, cell, q1, q2, q3, q4⟩ := hat
  have hr : r = (C, T, N) := Option.some.inj (h1.symm.trans hc)
  subst hr
  obtain ⟨hS, hfc, kC, hkC, hkind⟩ := hG.k.1 ci _ hc
  obtain ⟨cf, kf, fi, f, hi, hsl⟩ := hS k hk
  have hlay := hts _ (hin _ (u_in_lay hk))
  unfold u_lay at hlay
  rw [if_neg (by rw [hfin]; decide)] at hlay
  have hst := (u_facts hfc hkC (u_lays hts hin hk) hi).1
  have h6 := u_store hfc hkC hkind hlay hi (hty k hk) hn hfit
  refine W.putK hx hb (f := f) ⟨hown, hts _ hlink, ⟨_, _, _, hsame _ hi⟩, hst⟩ (by rw [q2]; exact h6) q1 q3 (by rw [hsl]; exact k2_hasslot (q4 k hk)) rfl rfl hdg fun H' e1 e2 e3 => ?_
  rw [hsl] at e1 ⊢
  exact kk H' _ ⟨_, hc, t_OB.to (V := updV (vp_V fs) k v) ⟨_, e1, q2, q3, t_set q4 hap hk v⟩ (fun j _ => vp_updV_set hl v j)⟩ ⟨e2, e3⟩ (hS0.put e2 e3 hA)
end GGPS

set_option maxHeartbeats 4000000 in
theorem met_J3_add (l : Launch) (g : GT) (al el n cap x sz : Nat) (mc : Int32) (arr : Nat → Option Nat) (t : TT) (hn : n ≤ 39) : Met l yJ3_add (ws_ yJ3_add cJ3_add 2 (Option.some Jvm.ClassFile.FieldType.boolean)) ({ frames := 9, cells := 1, slots := 60, locals := 323 } : Room) (PcG g [.ref al, .ref x] (fun H => H.size = sz ∧ LX g al el n cap mc arr H ∧ va_at (gD g) bbCl (x, tvE g t) H ∧ x ≠ al ∧ (0 < n → x ≠ el))) (va_Qi (fun (r : Int32) (_ : Unit) => r = 1) (fun _ u => ∃ (el1 cap1 : Nat) (arr1 : Nat → Option Nat), va_at (gD g) bbCl (al, alE (mc + 1) el1 (n + 1)) u.heap ∧ va_at (gD g) bbCl (el1, rfA g cap1 arr1) u.heap ∧ (∀ k, k < n → arr1 k = arr k) ∧ arr1 n = some x ∧ n + 1 ≤ cap1 ∧ cap1 ≤ 60 ∧ ((0 < n ∧ el1 = el) ∨ sz ≤ el1)) (fun q => (q = al ∨ (0 < n ∧ q = el) ∨ sz ≤ q))) 1 60 (fun q => (q = al ∨ (0 < n ∧ q = el) ∨ sz ≤ q)) := by
  refine gg_met (cc := cJ3_add) (maxL := 2) (ret := (Option.some Jvm.ClassFile.FieldType.boolean)) (by decide) (Nat.le_of_ble_eq_true rfl) ?_
  intro p e s m below meth c hx hb hr hlk hin hml hown hts hG hB ls hl
  have hown : s.vm.findClass RJ3 = some m.cls := hown
  have hl : lv_has ls 2 [(0, .ref al), (1, .ref x)] := hl
  obtain ⟨hsz, ⟨h_al, h_el, hE, hels, hcap, hc60, hgal, hgel⟩, h_x, hxal, hxel⟩ := hB
  have hAN : ∀ q, (q = al ∨ (0 < n ∧ q = el) ∨ sz ≤ q) → gA g q := fun q e => by
    rcases e with e | ⟨e1, e⟩ | e
    · rw [e]; exact hgal
    · rw [e]; exact (hgel e1).1
    · exact Nat.le_trans (by rw [← hsz]; exact hG.sz) e
  have hS : va_S (fun q => q = al ∨ (0 < n ∧ q = el) ∨ sz ≤ q) s.heap s.heap [] := va_S.rf
  have hlal : al < sz := by rw [← hsz]; exact h_al.lt
  have hlx : x < sz := by rw [← hsz]; exact h_x.lt
  have h_al0 := h_al
  refine lv_aload_n hx hb dJ3_add_0 rfl (lv_at hl 0 rfl) ?_
  refine lv_dup hx hb dJ3_add_1 rfl ?_
  refine va_get (D := gD g) (ci := 3) (v := .int mc) (C := RJ3) (T := TJ3) (N := 3) hx hb hts in_J3 hown hG.k (P1 h_al) 0 rfl rfl 0 (by decide) (hts _ q72) (u_same (hts _ q73)) rfl dJ3_add_2 ?_
  refine lv_iconst (v := 1) hx hb dJ3_add_5 (by decide) ?_
  refine lv_iadd hx hb dJ3_add_6 ?_
  refine gg_putS (ci := 3) (v := .int (mc + 1)) (C := RJ3) (T := TJ3) (N := 3) hx hb hts in_J3 tyJ3 tyJ3_ok nmJ3 hown hG h_al hS (Or.inl rfl) rfl 0 (by decide) q72 (u_same (hts _ q73)) rfl rfl rfl (Nat.le_of_ble_eq_true rfl) dJ3_add_7 (fun H locs h_al hbut hS => ?_)
  have h_al : va_at (gD g) bbCl (al, alE (mc + 1) el n) H := h_al
  have h_x := h_x.but hbut hxal
  have h_el : 0 < n → va_at (gD g) bbCl (el, rfA g cap arr) H := fun h => (h_el h).but hbut (hgel h).2
  have hels : ∀ k, k < n → ∀ y, arr k = some y → ∃ t, va_at (gD g) bbCl (y, tvE g t) H := fun k hk y hy => ⟨_, (hels k hk y hy).choose_spec.but hbut (fun e => tv_ne_al hG (hels k hk y hy).choose_spec (e ▸ h_al0))⟩
  have hszH : H.size = sz := hbut.1.trans hsz
  refine lv_aload_n hx hb dJ3_add_10 rfl (lv_at hl 0 rfl) ?_
  refine lv_aload_n hx hb dJ3_add_11 rfl (lv_at hl 1 rfl) ?_
  refine lv_aload_n hx hb dJ3_add_12 rfl (lv_at hl 0 rfl) ?_
  refine gg_get (ci := 3) (C := RJ3) (T := TJ3) (N := 3) (v := .ref el) hx hb hts in_J3 hown hG h_al rfl 1 (by decide) q69 rfl rfl dJ3_add_13 ?_
  refine lv_aload_n hx hb dJ3_add_16 rfl (lv_at hl 0 rfl) ?_
  refine gg_get (ci := 3) (C := RJ3) (T := TJ3) (N := 3) (v := .int (nI n)) hx hb hts in_J3 hown hG h_al rfl 2 (by decide) q70 rfl rfl dJ3_add_17 ?_
  refine va_callv (va_runV (As := [.ref x, .ref el, .int (nI n)]) (rest := []) ⟨hx, hb, hml, hown, hts⟩ (met_J3_add_2 l g al el n cap x sz (mc + 1) arr t hn) (cwV 3 hts (lw_V q397 q399 qs2 q20 q400) rfl rfl rfl (by decide +kernel) ⟨Nat.le_of_ble_eq_true rfl, Nat.le_of_ble_eq_true rfl⟩) (gg_preV hG (hS.kp hG hAN) (gg_recv hG h_al rfl) ⟨hszH, ⟨h_al, h_el, hE, hels, hcap, hc60, hgal, hgel⟩, h_x, hxal, hxel⟩) rfl rfl hl.1 rfl (lv_room (Nat.le_of_ble_eq_true rfl)) dJ3_add_20 ⟨Nat.le_of_ble_eq_true rfl, Nat.le_of_ble_eq_true rfl⟩) hS (fun q _ e => e) (fun q e => e) (fun u t9 H1 locs ht hvm _ hB1 hz1 hk1 hS => ?_)
  rw [ht] at hB1
  generalize H1 = H at hB1 hS ⊢
  refine lv_iconst (v := 1) hx hb dJ3_add_23 (by decide) ?_
  refine W.widen (k := 1) (n := 60) (by decide) (by decide) ?_
  exact W.zret (v := 1) hx hb hr rfl (fun t9 h9 hW9 => ⟨⟨1, (), rfl, rfl, by dsimp only; rw [h9]; exact hB1⟩, hS.F h9⟩) hS.2.2 dJ3_add_24
