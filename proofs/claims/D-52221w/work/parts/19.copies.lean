/-! COPIES: a traveller's, a bridge's; their constructors. -/
set_option maxRecDepth 100000
def tt0 : TT := (0, 1, 0, 0, 0, 0, -1)
/-- a bridge as it is made -/
def bs0 : BS := ((0, 0, 15, 0, 0, 0), fun _ => 0, 0, fun _ => tt0)
theorem va_up_id {α : Type} (f : Nat → α) (k : Nat) : va_up f k (f k) = f := by
  funext j
  by_cases h : j = k
  · subst h; rw [va_up_self]
  · rw [va_up_ne _ _ h]
/-- one traveller more -/
theorem BX.add {g : GT} {F : Nat → Prop} {b cd al el cap : Nat} {mc : Int32} {arr : Nat → Option Nat} {ad : Nat → Nat} {S : BS} {H H1 : Heap} (h : BX g F b cd al el cap mc arr ad S H) {x el1 cap1 : Nat} {mc1 : Int32} {arr1 : Nat → Option Nat} {t : TT}
    (hal : va_at (gD g) bbCl (al, alE mc1 el1 (sN S + 1)) H1) (hel : va_at (gD g) bbCl (el1, rfA g cap1 arr1) H1) (harr : ∀ k, k < sN S → arr1 k = arr k) (harrn : arr1 (sN S) = some x) (hc1 : sN S + 1 ≤ cap1) (hc60 : cap1 ≤ 60) (hwh : (0 < sN S ∧ el1 = el) ∨ H.size ≤ el1) (hx : va_at (gD g) bbCl (x, tvE g t) H1)
    (hfr : ∀ q : Nat, q < H.size → ¬ (q = al ∨ (0 < sN S ∧ q = el) ∨ H.size ≤ q) → H1[q]? = H[q]?) (hxl : x < H.size) (hxb : x ≠ b) (hxc : x ≠ cd) (hxa : x ≠ al) (hxe : 0 < sN S → x ≠ el) (hxk : ∀ k, k < sN S → x ≠ ad k) (hFx : F x) (hFe : F el1) : BX g F b cd al el1 cap1 mc1 arr1 (va_up ad (sN S) x) (S.1, sCd S, sN S + 1, va_up (sTv S) (sN S) t) H1 := by
  obtain ⟨h1, h2, h3, h4, h5, h6, h7, h8, h9, h10, h11, h12⟩ := h
  have hne1 : el1 ≠ b ∧ el1 ≠ cd ∧ el1 ≠ al ∧ el1 ≠ x ∧ ∀ k, k < sN S → ad k ≠ el1 := by
    rcases hwh with ⟨hn, e⟩ | e
    · subst e
      exact ⟨(h10.2.2.2.1 hn).1, (h10.2.2.2.1 hn).2.1, (h10.2.2.2.1 hn).2.2, fun e => hxe hn e.symm, fun k hk => (h10.2.2.2.2 k hk).2.2.2⟩
    · have l1 := h1.lt
      have l2 := h2.lt
      have l3 := h3.lt
      dsimp only at l1 l2 l3
      refine ⟨by omega, by omega, by omega, by omega, fun k hk => ?_⟩
      have := (h5 k hk).2.lt
      dsimp only at this
      omega
  have keep : ∀ q : Nat, q < H.size → q ≠ al → (0 < sN S → q ≠ el) → H1[q]? = H[q]? := fun q a1 a2 a3 => hfr q a1 (fun z => by
    rcases z with z | ⟨z1, z2⟩ | z
    · exact a2 z
    · exact a3 z1 z2
    · omega)
  refine ⟨h1.kept (keep _ h1.lt h10.2.1 (fun hn => (h10.2.2.2.1 hn).1.symm)), h2.kept (keep _ h2.lt h10.2.2.1 (fun hn => (h10.2.2.2.1 hn).2.1.symm)), hal, fun _ => hel, fun k hk => ?_, hc1, hc60, ⟨h8.1, h8.2.1, h8.2.2.1, fun _ => hFe, fun k hk => ?_⟩, h9, ⟨h10.1, h10.2.1, h10.2.2.1, fun _ => ⟨hne1.1, hne1.2.1, hne1.2.2.1⟩, fun k hk => ?_⟩, fun i j hi hj e => ?_, fun e => absurd e (Nat.succ_ne_zero _)⟩
  · have hk : k < sN S + 1 := hk
    show arr1 k = some (va_up ad (sN S) x k) ∧ va_at (gD g) bbCl (va_up ad (sN S) x k, tvE g (va_up (sTv S) (sN S) t k)) H1
    by_cases e : k = sN S
    · subst e
      rw [va_up_self, va_up_self]
      exact ⟨harrn, hx⟩
    · have hk2 : k < sN S := by omega
      rw [va_up_ne _ _ e, va_up_ne _ _ e]
      exact ⟨(harr k hk2).trans (h5 k hk2).1, (h5 k hk2).2.kept (keep _ (h5 k hk2).2.lt (h10.2.2.2.2 k hk2).2.2.1 (fun _ => (h10.2.2.2.2 k hk2).2.2.2))⟩
  · have hk : k < sN S + 1 := hk
    show F (va_up ad (sN S) x k)
    by_cases e : k = sN S
    · subst e; rw [va_up_self]; exact hFx
    · rw [va_up_ne _ _ e]; exact h8.2.2.2.2 k (by omega)
  · have hk : k < sN S + 1 := hk
    show va_up ad (sN S) x k ≠ b ∧ va_up ad (sN S) x k ≠ cd ∧ va_up ad (sN S) x k ≠ al ∧ va_up ad (sN S) x k ≠ el1
    by_cases e : k = sN S
    · subst e; rw [va_up_self]; exact ⟨hxb, hxc, hxa, hne1.2.2.2.1.symm⟩
    · have hk2 : k < sN S := by omega
      rw [va_up_ne _ _ e]; exact ⟨(h10.2.2.2.2 k hk2).1, (h10.2.2.2.2 k hk2).2.1, (h10.2.2.2.2 k hk2).2.2.1, hne1.2.2.2.2 k hk2⟩
  · have hi : i < sN S + 1 := hi
    have hj : j < sN S + 1 := hj
    have e : va_up ad (sN S) x i = va_up ad (sN S) x j := e
    by_cases ei : i = sN S <;> by_cases ej : j = sN S
    · omega
    · subst ei
      rw [va_up_self, va_up_ne _ _ ej] at e
      exact absurd e (hxk j (by omega))
    · subst ej
      rw [va_up_self, va_up_ne _ _ ei] at e
      exact absurd e.symm (hxk i (by omega))
    · rw [va_up_ne _ _ ei, va_up_ne _ _ ej] at e
      exact h11 i j (by omega) (by omega) e

set_option maxHeartbeats 4000000 in
theorem met_X6_init (l : Launch) (g : GT) (a : Nat) (ba mi ca : Int32) (hba : ba = 0 ∨ ba = 1) : Met l yX6_init (ws_ yX6_init cX6_init 4 none) ({ frames := 1, cells := 0, slots := 0, locals := 20 } : Room) (PcG g [.ref a, .int ba, .int mi, .int ca] (fun H => va_at (gD g) bbCl (a, .inr (2, [.int 0, .int 0, .int 0, .null, .int 0, .int 0, .int 0])) H ∧ gA g a)) (va_Qv (fun _ : Unit => True) (fun _ u => va_at (gD g) bbCl (a, tvE g (ba, mi, ca, 0, 0, 0, -1)) u.heap) (fun q => q = a)) 0 0 (fun q => q = a) := by
  refine gg_met (cc := cX6_init) (maxL := 4) (ret := none) (by decide) (Nat.le_of_ble_eq_true rfl) ?_
  intro p e s m below meth c hx hb hr hlk hin hml hown hts hG hB ls hl
  have hown : s.vm.findClass RX6 = some m.cls := hown
  have hl : lv_has ls 4 [(0, .ref a), (1, .int ba), (2, .int mi), (3, .int ca)] := hl
  have hAN : ∀ q, q = a → gA g q := fun q e => by rw [e]; exact hB.2
  have hS : va_S (fun q => q = a) s.heap s.heap [] := va_S.rf
  have h_a := hB.1
  refine lv_aload_n hx hb dX6_init_0 rfl (lv_at hl 0 rfl) ?_
  refine W.objInit hx hb hown (hts _ q360) (hts _ q45) (hts _ q46) rfl (by rw [hml]; exact hl.1) rfl dX6_init_1 (Nat.le_of_ble_eq_true rfl) (Nat.le_of_ble_eq_true rfl) ?_
  refine W.eq (g2 := F0 m 4 ls []) rfl ?_
  refine lv_aload_n hx hb dX6_init_4 rfl (lv_at hl 0 rfl) ?_
  refine gg_getS hx hb hts hown hG (hS.kp hG hAN) 0 (by decide) rfl q361 dX6_init_5 ?_
  refine gg_put (ci := 2) (v := .ref (gS g 0)) (C := RX6) (T := TX6) (N := 7) hx hb hts in_X6 tyX6 tyX6_ok nmX6 hown hG h_a hS rfl rfl 3 (by decide) q369 rfl rfl rfl rfl (Nat.le_of_ble_eq_true rfl) dX6_init_8 (fun H locs h_a hbut hS => ?_)
  have h_a : va_at (gD g) bbCl (a, .inr (2, [.int 0, .int 0, .int 0, .ref (gS g 0), .int 0, .int 0, .int 0])) H := h_a
  refine lv_aload_n hx hb dX6_init_11 rfl (lv_at hl 0 rfl) ?_
  refine lv_iconst (v := (-1)) hx hb dX6_init_12 (by decide) ?_
  refine gg_put (ci := 2) (v := .int (-1)) (C := RX6) (T := TX6) (N := 7) hx hb hts in_X6 tyX6 tyX6_ok nmX6 hown hG h_a hS rfl rfl 6 (by decide) q376 rfl rfl rfl rfl (Nat.le_of_ble_eq_true rfl) dX6_init_13 (fun H locs h_a hbut hS => ?_)
  have h_a : va_at (gD g) bbCl (a, .inr (2, [.int 0, .int 0, .int 0, .ref (gS g 0), .int 0, .int 0, .int (-1)])) H := h_a
  refine lv_aload_n hx hb dX6_init_16 rfl (lv_at hl 0 rfl) ?_
  refine lv_iload_n hx hb dX6_init_17 rfl (lv_at hl 1 rfl) ?_
  refine gg_putF (ci := 2) (v := .int ba) (C := RX6) (T := TX6) (N := 7) hx hb hts in_X6 tyX6 tyX6_ok nmX6 hown hG h_a hS rfl rfl 0 (by decide) q362 rfl rfl hin (bool_n hba) (bool_f hba) (Nat.le_of_ble_eq_true rfl) dX6_init_18 (fun H locs h_a hbut hS => ?_)
  have h_a : va_at (gD g) bbCl (a, .inr (2, [.int ba, .int 0, .int 0, .ref (gS g 0), .int 0, .int 0, .int (-1)])) H := h_a
  refine lv_aload_n hx hb dX6_init_21 rfl (lv_at hl 0 rfl) ?_
  refine lv_iload_n hx hb dX6_init_22 rfl (lv_at hl 2 rfl) ?_
  refine gg_putF (ci := 2) (v := .int mi) (C := RX6) (T := TX6) (N := 7) hx hb hts in_X6 tyX6 tyX6_ok nmX6 hown hG h_a hS rfl rfl 1 (by decide) q365 rfl rfl hin rfl rfl (Nat.le_of_ble_eq_true rfl) dX6_init_23 (fun H locs h_a hbut hS => ?_)
  have h_a : va_at (gD g) bbCl (a, .inr (2, [.int ba, .int mi, .int 0, .ref (gS g 0), .int 0, .int 0, .int (-1)])) H := h_a
  refine lv_aload_n hx hb dX6_init_26 rfl (lv_at hl 0 rfl) ?_
  refine lv_iload_n hx hb dX6_init_27 rfl (lv_at hl 3 rfl) ?_
  refine gg_putF (ci := 2) (v := .int ca) (C := RX6) (T := TX6) (N := 7) hx hb hts in_X6 tyX6 tyX6_ok nmX6 hown hG h_a hS rfl rfl 2 (by decide) q367 rfl rfl hin rfl rfl (Nat.le_of_ble_eq_true rfl) dX6_init_28 (fun H locs h_a hbut hS => ?_)
  have h_a : va_at (gD g) bbCl (a, .inr (2, [.int ba, .int mi, .int ca, .ref (gS g 0), .int 0, .int 0, .int (-1)])) H := h_a
  exact W.vret hx hb hr (fun t9 h9 hW9 => ⟨⟨(), rfl, trivial, by dsimp only; rw [h9]; exact h_a⟩, hS.F h9⟩) hS.2.2 dX6_init_31

set_option maxHeartbeats 4000000 in
theorem met_X6_copy (l : Launch) (g : GT) (a sz : Nat) (t : TT) (hok : OKT t) : Met l yX6_copy (ws_ yX6_copy cX6_copy 2 (Option.some (Jvm.ClassFile.FieldType.object "BridgeBells$Traveller"))) ({ frames := 2, cells := 1, slots := 7, locals := 43 } : Room) (PcG g [.ref a] (fun H => H.size = sz ∧ va_at (gD g) bbCl (a, tvE g t) H)) (va_Qr (fun _ : Unit => True) (fun _ ra u => sz ≤ ra ∧ ra < u.heap.size ∧ va_at (gD g) bbCl (ra, tvE g t) u.heap) (fun q => sz ≤ q)) 1 7 (fun q => sz ≤ q) := by
  refine gg_met (cc := cX6_copy) (maxL := 2) (ret := (Option.some (Jvm.ClassFile.FieldType.object "BridgeBells$Traveller"))) (by decide) (Nat.le_of_ble_eq_true rfl) ?_
  intro p e s m below meth c hx hb hr hlk hin hml hown hts hG hB ls hl
  have hown : s.vm.findClass RX6 = some m.cls := hown
  have hl : lv_has ls 2 [(0, .ref a)] := hl
  obtain ⟨hsz, h_a⟩ := hB
  have hAN : ∀ q, sz ≤ q → gA g q := fun q e => Nat.le_trans (by rw [← hsz]; exact hG.sz) e
  have hS : va_S (fun q => sz ≤ q) s.heap s.heap [] := va_S.rf
  have h_a0 := h_a
  refine gg_new (C := RX6) (T := TX6) (N := 7) (ci := 2) (fs := [.int 0, .int 0, .int 0, .null, .int 0, .int 0, .int 0]) hx hb hts in_X6 tyX6 tyX6_ok hown q633 q356 q28 hG hS rfl (fun j hj => by rcases (show j = 0 ∨ j = 1 ∨ j = 2 ∨ j = 3 ∨ j = 4 ∨ j = 5 ∨ j = 6 by omega) with rfl | rfl | rfl | rfl | rfl | rfl | rfl <;> rfl) (Nat.le_of_ble_eq_true rfl) (Nat.le_of_ble_eq_true rfl) dX6_copy_0 (fun nq H hnq h_nq hgr hS => ?_)
  have h_a := h_a.grow hgr
  have hq : sz ≤ nq := by rw [hnq, hsz]; exact Nat.le_refl _
  have hane : a ≠ nq := by have := h_a0.lt; dsimp only at this; omega
  refine lv_dup hx hb dX6_copy_3 rfl ?_
  refine lv_aload_n hx hb dX6_copy_4 rfl (lv_at hl 0 rfl) ?_
  refine gg_get (ci := 2) (C := RX6) (T := TX6) (N := 7) (v := .int (tBa t)) hx hb hts in_X6 hown hG h_a rfl 0 (by decide) q362 rfl rfl dX6_copy_5 ?_
  refine lv_aload_n hx hb dX6_copy_8 rfl (lv_at hl 0 rfl) ?_
  refine gg_get (ci := 2) (C := RX6) (T := TX6) (N := 7) (v := .int (tMi t)) hx hb hts in_X6 hown hG h_a rfl 1 (by decide) q365 rfl rfl dX6_copy_9 ?_
  refine lv_aload_n hx hb dX6_copy_12 rfl (lv_at hl 0 rfl) ?_
  refine gg_get (ci := 2) (C := RX6) (T := TX6) (N := 7) (v := .int (tCa t)) hx hb hts in_X6 hown hG h_a rfl 2 (by decide) q367 rfl rfl dX6_copy_13 ?_
  refine va_callv (va_runI (As := [.int (tBa t), .int (tMi t), .int (tCa t)]) (rest := [.ref nq]) ⟨hx, hb, hml, hown, hts⟩ (met_X6_init l g nq (tBa t) (tMi t) (tCa t) hok.1) (cwI 3 hts (lw_meth q359) rfl rfl rfl (hts _ q28) (hts _ q634) (hts _ q358) rfl (by decide +kernel) ⟨Nat.le_of_ble_eq_true rfl, Nat.le_of_ble_eq_true rfl⟩) (gg_preS hG (hS.kp hG hAN) ⟨h_nq, hAN _ hq⟩) rfl rfl hl.1 rfl (lv_room (Nat.le_of_ble_eq_true rfl)) dX6_copy_16 ⟨Nat.le_of_ble_eq_true rfl, Nat.le_of_ble_eq_true rfl⟩) hS (fun q _ e => by rw [show q = nq from e]; exact hq) (fun q e => by rw [show q = nq from e]; exact hq) (fun u t9 H1 locs ht hvm _ h_nq hz1 hk1 hS => ?_)
  rw [ht] at h_nq
  have h_a := h_a.kept (hk1 a h_a.lt hane)
  generalize H1 = H at h_nq h_a hS ⊢
  refine lv_astore_n (lv' := [(1, .ref nq), (0, .ref a)]) hx hb dX6_copy_19 rfl hl (by decide) rfl (fun ls hl => ?_)
  refine lv_aload_n hx hb dX6_copy_20 rfl (lv_at hl 0 rfl) ?_
  refine lv_aload_n hx hb dX6_copy_21 rfl (lv_at hl 1 rfl) ?_
  refine gg_get (ci := 2) (C := RX6) (T := TX6) (N := 7) (v := .ref (gS g (tSt t))) hx hb hts in_X6 hown hG h_a rfl 3 (by decide) q369 rfl rfl dX6_copy_22 ?_
  refine gg_put (ci := 2) (v := .ref (gS g (tSt t))) (C := RX6) (T := TX6) (N := 7) hx hb hts in_X6 tyX6 tyX6_ok nmX6 hown hG h_nq hS hq rfl 3 (by decide) q369 rfl rfl rfl rfl (Nat.le_of_ble_eq_true rfl) dX6_copy_25 (fun H locs h_nq hbut hS => ?_)
  have h_nq : va_at (gD g) bbCl (nq, .inr (2, [.int (tBa t), .int (tMi t), .int (tCa t), .ref (gS g (tSt t)), .int 0, .int 0, .int (-1)])) H := h_nq
  have h_a := h_a.but hbut hane
  refine lv_aload_n hx hb dX6_copy_28 rfl (lv_at hl 0 rfl) ?_
  refine lv_aload_n hx hb dX6_copy_29 rfl (lv_at hl 1 rfl) ?_
  refine gg_get (ci := 2) (C := RX6) (T := TX6) (N := 7) (v := .int (tWa t)) hx hb hts in_X6 hown hG h_a rfl 4 (by decide) q371 rfl rfl dX6_copy_30 ?_
  refine gg_put (ci := 2) (v := .int (tWa t)) (C := RX6) (T := TX6) (N := 7) hx hb hts in_X6 tyX6 tyX6_ok nmX6 hown hG h_nq hS hq rfl 4 (by decide) q371 rfl rfl rfl rfl (Nat.le_of_ble_eq_true rfl) dX6_copy_33 (fun H locs h_nq hbut hS => ?_)
  have h_nq : va_at (gD g) bbCl (nq, .inr (2, [.int (tBa t), .int (tMi t), .int (tCa t), .ref (gS g (tSt t)), .int (tWa t), .int 0, .int (-1)])) H := h_nq
  have h_a := h_a.but hbut hane
  refine lv_aload_n hx hb dX6_copy_36 rfl (lv_at hl 0 rfl) ?_
  refine lv_aload_n hx hb dX6_copy_37 rfl (lv_at hl 1 rfl) ?_
  refine gg_get (ci := 2) (C := RX6) (T := TX6) (N := 7) (v := .int (tLe t)) hx hb hts in_X6 hown hG h_a rfl 5 (by decide) q374 rfl rfl dX6_copy_38 ?_
  refine gg_put (ci := 2) (v := .int (tLe t)) (C := RX6) (T := TX6) (N := 7) hx hb hts in_X6 tyX6 tyX6_ok nmX6 hown hG h_nq hS hq rfl 5 (by decide) q374 rfl rfl rfl rfl (Nat.le_of_ble_eq_true rfl) dX6_copy_41 (fun H locs h_nq hbut hS => ?_)
  have h_nq : va_at (gD g) bbCl (nq, .inr (2, [.int (tBa t), .int (tMi t), .int (tCa t), .ref (gS g (tSt t)), .int (tWa t), .int (tLe t), .int (-1)])) H := h_nq
  have h_a := h_a.but hbut hane
  refine lv_aload_n hx hb dX6_copy_44 rfl (lv_at hl 0 rfl) ?_
  refine lv_aload_n hx hb dX6_copy_45 rfl (lv_at hl 1 rfl) ?_
  refine gg_get (ci := 2) (C := RX6) (T := TX6) (N := 7) (v := .int (tPa t)) hx hb hts in_X6 hown hG h_a rfl 6 (by decide) q376 rfl rfl dX6_copy_46 ?_
  refine gg_put (ci := 2) (v := .int (tPa t)) (C := RX6) (T := TX6) (N := 7) hx hb hts in_X6 tyX6 tyX6_ok nmX6 hown hG h_nq hS hq rfl 6 (by decide) q376 rfl rfl rfl rfl (Nat.le_of_ble_eq_true rfl) dX6_copy_49 (fun H locs h_nq hbut hS => ?_)
  have h_nq : va_at (gD g) bbCl (nq, .inr (2, [.int (tBa t), .int (tMi t), .int (tCa t), .ref (gS g (tSt t)), .int (tWa t), .int (tLe t), .int (tPa t)])) H := h_nq
  have h_a := h_a.but hbut hane
  refine lv_aload_n hx hb dX6_copy_52 rfl (lv_at hl 0 rfl) ?_
  refine W.widen (k := 1) (n := 7) (by decide) (by decide) ?_
  exact W.aret hx hb hr (Or.inl ⟨_, rfl⟩) (Or.inr ⟨_, rfl⟩) (fun t9 h9 hW9 => ⟨⟨(), _, rfl, trivial, by dsimp only; rw [h9]; exact ⟨hq, h_nq.lt, h_nq⟩⟩, hS.F h9⟩) hS.2.2 dX6_copy_53

set_option maxHeartbeats 4000000 in
theorem met_X2_init (l : Launch) (g : GT) (b sz : Nat) : Met l yX2_init (ws_ yX2_init cX2_init 1 none) ({ frames := 4, cells := 2, slots := 11, locals := 80 } : Room) (PcG g [.ref b] (fun H => H.size = sz ∧ va_at (gD g) bbCl (b, .inr (1, [.int 0, .int 0, .int 0, .int 0, .null, .int 0, .null, .null])) H ∧ gA g b)) (va_Qv (fun _ : Unit => True) (fun _ u => BW g (fun q => q = b ∨ sz ≤ q) b bs0 u.heap) (fun q => q = b ∨ sz ≤ q)) 2 11 (fun q => q = b ∨ sz ≤ q) := by
  refine gg_met (cc := cX2_init) (maxL := 1) (ret := none) (by decide) (Nat.le_of_ble_eq_true rfl) ?_
  intro p e s m below meth c hx hb hr hlk hin hml hown hts hG hB ls hl
  have hown : s.vm.findClass RX2 = some m.cls := hown
  have hl : lv_has ls 1 [(0, .ref b)] := hl
  obtain ⟨hsz, h_b, hgb⟩ := hB
  have hAN : ∀ q, (q = b ∨ sz ≤ q) → gA g q := fun q e => e.elim (fun e => by rw [e]; exact hgb) (fun e => Nat.le_trans (by rw [← hsz]; exact hG.sz) e)
  have hS : va_S (fun q => q = b ∨ sz ≤ q) s.heap s.heap [] := va_S.rf
  have hlb : b < sz := by rw [← hsz]; exact h_b.lt
  have hszH : s.heap.size = sz := hsz
  refine lv_aload_n hx hb dX2_init_0 rfl (lv_at hl 0 rfl) ?_
  refine W.objInit hx hb hown (hts _ q52) (hts _ q45) (hts _ q46) rfl (by rw [hml]; exact hl.1) rfl dX2_init_1 (Nat.le_of_ble_eq_true rfl) (Nat.le_of_ble_eq_true rfl) ?_
  refine W.eq (g2 := F0 m 4 ls []) rfl ?_
  refine lv_aload_n hx hb dX2_init_4 rfl (lv_at hl 0 rfl) ?_
  refine lv_bipush (v := 15) hx hb dX2_init_5 (by decide) ?_
  refine gg_put (ci := 1) (v := .int 15) (C := RX2) (T := TX2) (N := 8) hx hb hts in_X2 tyX2 tyX2_ok nmX2 hown hG h_b hS (Or.inl rfl) rfl 2 (by decide) q86 rfl rfl rfl rfl (Nat.le_of_ble_eq_true rfl) dX2_init_7 (fun H locs h_b hbut hS => ?_)
  have h_b : va_at (gD g) bbCl (b, .inr (1, [.int 0, .int 0, .int 15, .int 0, .null, .int 0, .null, .null])) H := h_b
  have hszH := hbut.1.trans hszH
  refine lv_aload_n hx hb dX2_init_10 rfl (lv_at hl 0 rfl) ?_
  refine gg_getC hx hb hts hown hG (hS.kp hG hAN) 0 (by decide) rfl q53 dX2_init_11 ?_
  refine gg_put (ci := 1) (v := .ref (gC g 0)) (C := RX2) (T := TX2) (N := 8) hx hb hts in_X2 tyX2 tyX2_ok nmX2 hown hG h_b hS (Or.inl rfl) rfl 4 (by decide) q90 rfl rfl rfl rfl (Nat.le_of_ble_eq_true rfl) dX2_init_14 (fun H locs h_b hbut hS => ?_)
  have h_b : va_at (gD g) bbCl (b, .inr (1, [.int 0, .int 0, .int 15, .int 0, .ref (gC g 0), .int 0, .null, .null])) H := h_b
  have hszH := hbut.1.trans hszH
  refine lv_aload_n hx hb dX2_init_17 rfl (lv_at hl 0 rfl) ?_
  refine lv_bipush (v := 8) hx hb dX2_init_18 (by decide) ?_
  refine gg_newi hx hb hts hG hS (N' := 8) rfl (by omega) (Nat.le_of_ble_eq_true rfl) (Nat.le_of_ble_eq_true rfl) dX2_init_20 (fun cd H hcd h_cd hgr hS => ?_)
  have h_b := h_b.grow hgr
  rw [hszH] at hcd
  have hszH := hgr.1.trans (by rw [hszH])
  refine gg_putF (ci := 1) (v := .ref cd) (C := RX2) (T := TX2) (N := 8) hx hb hts in_X2 tyX2 tyX2_ok nmX2 hown hG h_b hS (Or.inl rfl) rfl 6 (by decide) q94 rfl rfl hin rfl rfl (Nat.le_of_ble_eq_true rfl) dX2_init_22 (fun H locs h_b hbut hS => ?_)
  have h_b : va_at (gD g) bbCl (b, .inr (1, [.int 0, .int 0, .int 15, .int 0, .ref (gC g 0), .int 0, .ref cd, .null])) H := h_b
  have hszH := hbut.1.trans hszH
  have h_cd := h_cd.but hbut (show cd ≠ b by omega)
  refine lv_aload_n hx hb dX2_init_25 rfl (lv_at hl 0 rfl) ?_
  refine gg_new (C := RJ3) (T := TJ3) (N := 3) (ci := 3) (fs := [.int 0, .null, .int 0]) hx hb hts in_J3 tyJ3 tyJ3_ok hown q55 q56 q20 hG hS rfl (fun j hj => by rcases (show j = 0 ∨ j = 1 ∨ j = 2 by omega) with rfl | rfl | rfl <;> rfl) (Nat.le_of_ble_eq_true rfl) (Nat.le_of_ble_eq_true rfl) dX2_init_26 (fun al H hal h_al hgr hS => ?_)
  have h_b := h_b.grow hgr
  have h_cd := h_cd.grow hgr
  rw [hszH] at hal
  have hszH := hgr.1.trans (by rw [hszH])
  refine lv_dup hx hb dX2_init_29 rfl ?_
  refine va_callv (va_runI (As := []) (rest := [.ref al, .ref b]) ⟨hx, hb, hml, hown, hts⟩ (met_J3_init l g al) (cwI 0 hts (lw_meth q59) rfl rfl rfl (hts _ q20) (hts _ q57) (hts _ q58) rfl (by decide +kernel) ⟨Nat.le_of_ble_eq_true rfl, Nat.le_of_ble_eq_true rfl⟩) (gg_preS hG (hS.kp hG hAN) ⟨h_al, hAN _ (Or.inr (by omega))⟩) rfl rfl hl.1 rfl (lv_room (Nat.le_of_ble_eq_true rfl)) dX2_init_30 ⟨Nat.le_of_ble_eq_true rfl, Nat.le_of_ble_eq_true rfl⟩) hS (fun q _ e => by rw [show q = al from e]; exact Or.inr (by omega)) (fun q e => by rw [show q = al from e]; exact Or.inr (by omega)) (fun u t9 H1 locs ht hvm _ h_al hz1 hk1 hS => ?_)
  rw [ht] at h_al
  have h_b := h_b.kept (hk1 b h_b.lt (show b ≠ al by omega))
  have h_cd := h_cd.kept (hk1 cd h_cd.lt (show cd ≠ al by omega))
  rw [hszH] at hz1
  generalize H1 = H at h_al h_b h_cd hS hz1 ⊢
  refine gg_putF (ci := 1) (v := .ref al) (C := RX2) (T := TX2) (N := 8) hx hb hts in_X2 tyX2 tyX2_ok nmX2 hown hG h_b hS (Or.inl rfl) rfl 7 (by decide) q96 rfl rfl hin rfl rfl (Nat.le_of_ble_eq_true rfl) dX2_init_33 (fun H locs h_b hbut hS => ?_)
  have h_b : va_at (gD g) bbCl (b, .inr (1, [.int 0, .int 0, .int 15, .int 0, .ref (gC g 0), .int 0, .ref cd, .ref al])) H := h_b
  have h_cd := h_cd.but hbut (show cd ≠ b by omega)
  have h_al := h_al.but hbut (show al ≠ b by omega)
  refine W.widen (k := 2) (n := 11) (by decide) (by decide) ?_
  exact W.vret hx hb hr (fun t9 h9 hW9 => ⟨⟨(), rfl, trivial, by dsimp only; rw [h9]; exact ⟨cd, al, gE g, 0, 0, fun _ => none, fun _ => 0, h_b, h_cd, h_al, fun h => absurd h (Nat.lt_irrefl 0), fun k hk => absurd hk (Nat.not_lt_zero k), Nat.le_refl 0, by decide, ⟨Or.inl rfl, Or.inr (by omega), Or.inr (by omega), fun h => absurd h (Nat.lt_irrefl 0), fun k hk => absurd hk (Nat.not_lt_zero k)⟩, hAN, ⟨by omega, by omega, by omega, fun h => absurd h (Nat.lt_irrefl 0), fun k hk => absurd hk (Nat.not_lt_zero k)⟩, fun i j hi => absurd hi (Nat.not_lt_zero i), fun _ => rfl⟩⟩, hS.F h9⟩) hS.2.2 dX2_init_36
