/-! LISTS: made, grown, added to. -/
set_option maxRecDepth 100000
/-- how long the array is behind a growth from n full places -/
def ncap (n : Nat) : Nat := n + (if 1 < n / 2 then n / 2 else 1)
theorem ncap_in {n : Nat} (h : n ≤ 39) : n < ncap n ∧ ncap n ≤ 60 := by
  unfold ncap
  split <;> omega

set_option maxHeartbeats 4000000 in
theorem met_J1_init (l : Launch) (g : GT) (a : Nat) : Met l yJ1_init (ws_ yJ1_init cJ1_init 1 none) ({ frames := 1, cells := 0, slots := 0, locals := 20 } : Room) (PcG g [.ref a] (fun _ => True)) (va_Sv (fun _ => True)) 0 0 (fun _ => False) := by
  refine gg_met (cc := cJ1_init) (maxL := 1) (ret := none) (by decide) (Nat.le_of_ble_eq_true rfl) ?_
  intro p e s m below meth c hx hb hr hlk hin hml hown hts hG hB ls hl
  have hown : s.vm.findClass RJ1 = some m.cls := hown
  have hl : lv_has ls 1 [(0, .ref a)] := hl
  refine lv_aload_n hx hb dJ1_init_0 rfl (lv_at hl 0 rfl) ?_
  refine W.objInit hx hb hown (hts _ q66) (hts _ q45) (hts _ q46) rfl (by rw [hml]; exact hl.1) rfl dJ1_init_1 (Nat.le_of_ble_eq_true rfl) (Nat.le_of_ble_eq_true rfl) ?_
  refine W.eq (g2 := F0 m 4 ls []) rfl ?_
  exact W.vret hx hb hr (fun t9 h9 hW9 => ⟨rfl, trivial, h9⟩) (fun _ h => absurd h List.not_mem_nil) dJ1_init_4

set_option maxHeartbeats 4000000 in
theorem met_J2_init (l : Launch) (g : GT) (a : Nat) (m0 : Int32) (v1 v2 : Value) : Met l yJ2_init (ws_ yJ2_init cJ2_init 1 none) ({ frames := 2, cells := 0, slots := 0, locals := 40 } : Room) (PcG g [.ref a] (fun H => va_at (gD g) bbCl (a, .inr (3, [.int m0, v1, v2])) H ∧ gA g a)) (va_Qv (fun _ : Unit => True) (fun _ u => va_at (gD g) bbCl (a, .inr (3, [.int 0, v1, v2])) u.heap) (fun q => q = a)) 0 0 (fun q => q = a) := by
  refine gg_met (cc := cJ2_init) (maxL := 1) (ret := none) (by decide) (Nat.le_of_ble_eq_true rfl) ?_
  intro p e s m below meth c hx hb hr hlk hin hml hown hts hG hB ls hl
  have hown : s.vm.findClass RJ2 = some m.cls := hown
  have hl : lv_has ls 1 [(0, .ref a)] := hl
  have hAN : ∀ q, q = a → gA g q := fun q e => by rw [e]; exact hB.2
  have hS : va_S (fun q => q = a) s.heap s.heap [] := va_S.rf
  have h_a := hB.1
  refine lv_aload_n hx hb dJ2_init_0 rfl (lv_at hl 0 rfl) ?_
  refine va_csv (va_Run.run (va_runI (As := []) (rest := []) ⟨hx, hb, hml, hown, hts⟩ (met_J1_init l g a) (cwI 0 hts (lw_meth q65) rfl rfl rfl (hts _ q18) (hts _ q63) (hts _ q64) rfl (by decide +kernel) ⟨Nat.le_of_ble_eq_true rfl, Nat.le_of_ble_eq_true rfl⟩) (gg_preS hG (hS.kp hG hAN) trivial) rfl rfl hl.1 rfl (lv_room (Nat.le_of_ble_eq_true rfl)) dJ2_init_1 ⟨Nat.le_of_ble_eq_true rfl, Nat.le_of_ble_eq_true rfl⟩)) (fun _ => ?_)
  refine lv_aload_n hx hb dJ2_init_4 rfl (lv_at hl 0 rfl) ?_
  refine lv_iconst (v := 0) hx hb dJ2_init_5 (by decide) ?_
  refine gg_put (ci := 3) (v := .int 0) (C := RJ3) (T := TJ3) (N := 3) hx hb hts in_J3 tyJ3 tyJ3_ok nmJ3 hown hG h_a hS rfl rfl 0 (by decide) q71 rfl rfl rfl rfl (Nat.le_of_ble_eq_true rfl) dJ2_init_6 (fun H locs h_a hbut hS => ?_)
  have h_a : va_at (gD g) bbCl (a, .inr (3, [.int 0, v1, v2])) H := h_a
  exact W.vret hx hb hr (fun t9 h9 hW9 => ⟨⟨(), rfl, trivial, by dsimp only; rw [h9]; exact h_a⟩, hS.F h9⟩) hS.2.2 dJ2_init_9

set_option maxHeartbeats 4000000 in
theorem met_J3_init (l : Launch) (g : GT) (a : Nat) : Met l yJ3_init (ws_ yJ3_init cJ3_init 1 none) ({ frames := 3, cells := 0, slots := 0, locals := 60 } : Room) (PcG g [.ref a] (fun H => va_at (gD g) bbCl (a, .inr (3, [.int 0, .null, .int 0])) H ∧ gA g a)) (va_Qv (fun _ : Unit => True) (fun _ u => va_at (gD g) bbCl (a, alE 0 (gE g) 0) u.heap) (fun q => q = a)) 0 0 (fun q => q = a) := by
  refine gg_met (cc := cJ3_init) (maxL := 1) (ret := none) (by decide) (Nat.le_of_ble_eq_true rfl) ?_
  intro p e s m below meth c hx hb hr hlk hin hml hown hts hG hB ls hl
  have hown : s.vm.findClass RJ3 = some m.cls := hown
  have hl : lv_has ls 1 [(0, .ref a)] := hl
  have hAN : ∀ q, q = a → gA g q := fun q e => by rw [e]; exact hB.2
  have hS : va_S (fun q => q = a) s.heap s.heap [] := va_S.rf
  have h_a := hB.1
  refine lv_aload_n hx hb dJ3_init_0 rfl (lv_at hl 0 rfl) ?_
  refine va_callv (va_runI (As := []) (rest := []) ⟨hx, hb, hml, hown, hts⟩ (met_J2_init l g a 0 .null (.int 0)) (cwI 0 hts (lw_meth q62) rfl rfl rfl (hts _ q19) (hts _ q60) (hts _ q61) rfl (by decide +kernel) ⟨Nat.le_of_ble_eq_true rfl, Nat.le_of_ble_eq_true rfl⟩) (gg_preS hG (hS.kp hG hAN) ⟨h_a, hB.2⟩) rfl rfl hl.1 rfl (lv_room (Nat.le_of_ble_eq_true rfl)) dJ3_init_1 ⟨Nat.le_of_ble_eq_true rfl, Nat.le_of_ble_eq_true rfl⟩) hS (fun q _ e => e) (fun q e => e) (fun u t H1 locs ht hvm _ h_a hz1 hk1 hS => ?_)
  rw [ht] at h_a
  generalize H1 = H at h_a hS ⊢
  refine lv_aload_n hx hb dJ3_init_4 rfl (lv_at hl 0 rfl) ?_
  refine gg_getE hx hb hts hown hG (hS.kp hG hAN) q67 dJ3_init_5 ?_
  refine gg_put (ci := 3) (v := .ref (gE g)) (C := RJ3) (T := TJ3) (N := 3) hx hb hts in_J3 tyJ3 tyJ3_ok nmJ3 hown hG h_a hS rfl rfl 1 (by decide) q69 rfl rfl rfl rfl (Nat.le_of_ble_eq_true rfl) dJ3_init_8 (fun H locs h_a hbut hS => ?_)
  have h_a : va_at (gD g) bbCl (a, .inr (3, [.int 0, .ref (gE g), .int 0])) H := h_a
  exact W.vret hx hb hr (fun t9 h9 hW9 => ⟨⟨(), rfl, trivial, by dsimp only; rw [h9]; exact h_a⟩, hS.F h9⟩) hS.2.2 dJ3_init_11

set_option maxHeartbeats 4000000 in
theorem met_J9_newLength (l : Launch) (g : GT) (n : Nat) (hn : n ≤ 39) : Met l yJ9_newLength (ws_ yJ9_newLength cJ9_newLength 4 (Option.some Jvm.ClassFile.FieldType.int)) ({ frames := 1, cells := 0, slots := 0, locals := 21 } : Room) (PcG g [.int (nI n), .int 1, .int (nI (n / 2))] (fun _ => True)) (vp_Si (fun r => r = nI (ncap n))) 0 0 (fun _ => False) := by
  refine gg_met (cc := cJ9_newLength) (maxL := 4) (ret := (Option.some Jvm.ClassFile.FieldType.int)) (by decide) (Nat.le_of_ble_eq_true rfl) ?_
  intro p e s m below meth c hx hb hr hlk hin hml hown hts hG hB ls hl
  have hown : s.vm.findClass RJ9 = some m.cls := hown
  have hl : lv_has ls 4 [(0, .int (nI n)), (1, .int 1), (2, .int (nI (n / 2)))] := hl
  refine lv_iload_n hx hb dJ9_newLength_0 rfl (lv_at hl 0 rfl) ?_
  refine lv_iload_n hx hb dJ9_newLength_1 rfl (lv_at hl 1 rfl) ?_
  refine lv_iload_n hx hb dJ9_newLength_2 rfl (lv_at hl 2 rfl) ?_
  refine va_mmax hx hb (by rw [hml]; exact hl.1.symm) hown (hts _ q412) (hts _ q124) (hts _ q31) (hts _ q125) (Nat.le_of_ble_eq_true rfl) (Nat.le_of_ble_eq_true rfl) (Nat.zero_le _) (Nat.zero_le _) dJ9_newLength_3 ?_
  refine lv_iadd hx hb dJ9_newLength_6 ?_
  have hv : (nI n + (if 1 < nI (n / 2) then nI (n / 2) else 1)) = nI (ncap n) := by
    unfold ncap
    by_cases h : 1 < n / 2
    · rw [if_pos (show (1 : Int32) < nI (n / 2) from nI_lt (a := 1) h (by omega)), if_pos h, nI_add]
    · rw [if_neg (show ¬ (1 : Int32) < nI (n / 2) from nI_nlt (a := 1) (by omega) (by omega)), if_neg h]; exact nI_add n 1
  rw [hv]
  refine lv_istore_n (lv' := [(3, .int (nI (ncap n))), (0, .int (nI n)), (1, .int 1), (2, .int (nI (n / 2)))]) hx hb dJ9_newLength_7 rfl hl (by decide) rfl (fun ls hl => ?_)
  refine lv_iconst (v := 0) hx hb dJ9_newLength_8 (by decide) ?_
  refine lv_iload_n hx hb dJ9_newLength_9 rfl (lv_at hl 0 rfl) ?_
  refine lv_icmp_ge (tgt := 21) hx hb dJ9_newLength_10 (by decide) (fun c_10 => absurd c_10 (nI_nle (by have := (ncap_in hn).1; omega) (by have := (ncap_in hn).2; omega))) (fun c_10 => ?_)
  refine lv_iload_n hx hb dJ9_newLength_13 rfl (lv_at hl 0 rfl) ?_
  refine lv_ldc (v := 2147483639) hx hb hown (hts _ q413) dJ9_newLength_14 ?_
  refine lv_icmp_gt (tgt := 21) hx hb dJ9_newLength_16 (by decide) (fun c_16 => absurd c_16 (nI_nlt (b := ncap n) (a := 2147483639) (by have := (ncap_in hn).2; omega) (by decide))) (fun c_16 => ?_)
  refine lv_iload_n hx hb dJ9_newLength_19 rfl (lv_at hl 0 rfl) ?_
  exact W.iret (v := (nI (ncap n))) hx hb hr (fun t9 h9 hW9 => ⟨_, rfl, rfl, h9⟩) (fun _ h => absurd h List.not_mem_nil) dJ9_newLength_20

set_option maxHeartbeats 4000000 in
theorem met_J11_copyOf_2 (l : Launch) (g : GT) (el n N sz : Nat) (arr : Nat → Option Nat) (hnN : n ≤ N) (hN : N ≤ 60) : Met l yJ11_copyOf_2 (ws_ yJ11_copyOf_2 cJ11_copyOf_2 4 (Option.some (Jvm.ClassFile.FieldType.array (Jvm.ClassFile.FieldType.object "java/lang/Object")))) ({ frames := 1, cells := 1, slots := 60, locals := 40 } : Room) (PcG g [.ref el, .int (nI N), .ref (gM g)] (fun H => H.size = sz ∧ va_at (gD g) bbCl (el, rfA g n arr) H ∧ gA g el ∧ ∀ k, k < n → ∀ y, arr k = some y → ∃ t, va_at (gD g) bbCl (y, tvE g t) H)) (va_Qr (fun _ : Unit => True) (fun _ ra u => sz ≤ ra ∧ va_at (gD g) bbCl (ra, rfA g N (va_cpy arr (fun _ => none) 0 0 n)) u.heap ∧ va_at (gD g) bbCl (el, rfA g n arr) u.heap) (fun q => q = el ∨ sz ≤ q)) 1 60 (fun q => q = el ∨ sz ≤ q) := by
  refine gg_met (cc := cJ11_copyOf_2) (maxL := 4) (ret := (Option.some (Jvm.ClassFile.FieldType.array (Jvm.ClassFile.FieldType.object "java/lang/Object")))) (by decide) (Nat.le_of_ble_eq_true rfl) ?_
  intro p e s m below meth c hx hb hr hlk hin hml hown hts hG hB ls hl
  have hown : s.vm.findClass RJ11 = some m.cls := hown
  have hl : lv_has ls 4 [(0, .ref el), (1, .int (nI N)), (2, .ref (gM g))] := hl
  obtain ⟨hsz, h_el, hgel, hels⟩ := hB
  have hAN : ∀ q, q = el ∨ sz ≤ q → gA g q := fun q e => e.elim (fun e => by rw [e]; exact hgel) (fun e => Nat.le_trans (by rw [← hsz]; exact hG.sz) e)
  have hS : va_S (fun q => q = el ∨ sz ≤ q) s.heap s.heap [] := va_S.rf
  have hle : el < sz := by rw [← hsz]; exact h_el.lt
  refine lv_aload_n hx hb dJ11_copyOf_2_0 rfl (lv_at hl 2 rfl) ?_
  refine va_ldcM hx hb hown (hts _ q443) hG.1.2.2.2.1 dJ11_copyOf_2_1 ?_
  refine gg_acmp_ne (tgt := 13) hx hb dJ11_copyOf_2_3 (by decide) (fun c_3 => absurd rfl c_3) (fun c_3 => ?_)
  refine lv_iload_n hx hb dJ11_copyOf_2_6 rfl (lv_at hl 1 rfl) ?_
  refine gg_newo hx hb hts hown q445 hG hS (N' := N) rfl (by omega) (Nat.le_of_ble_eq_true rfl) (by show 0 + N ≤ 60; omega) dJ11_copyOf_2_7 (fun ra H hra h_ra hgr hS => ?_)
  have h_el := h_el.grow hgr
  have hels : ∀ k, k < n → ∀ y, arr k = some y → ∃ t, va_at (gD g) bbCl (y, tvE g t) H := fun k hk y hy => ⟨_, (hels k hk y hy).choose_spec.grow hgr⟩
  have hsr : sz ≤ ra := by rw [hra, hsz]; exact Nat.le_refl _
  refine lv_goto (tgt := 24) hx hb dJ11_copyOf_2_10 (by decide) ?_
  refine lv_astore_n (lv' := [(3, .ref ra), (0, .ref el), (1, .int (nI N)), (2, .ref (gM g))]) hx hb dJ11_copyOf_2_24 rfl hl (by decide) rfl (fun ls hl => ?_)
  refine lv_aload_n hx hb dJ11_copyOf_2_25 rfl (lv_at hl 1 rfl) ?_
  refine lv_iconst (v := 0) hx hb dJ11_copyOf_2_26 (by decide) ?_
  refine lv_aload_n hx hb dJ11_copyOf_2_27 rfl (lv_at hl 0 rfl) ?_
  refine lv_iconst (v := 0) hx hb dJ11_copyOf_2_28 (by decide) ?_
  refine lv_aload_n hx hb dJ11_copyOf_2_29 rfl (lv_at hl 1 rfl) ?_
  refine gg_len hx hb hG h_el dJ11_copyOf_2_30 ?_
  refine lv_iload_n hx hb dJ11_copyOf_2_31 rfl (lv_at hl 2 rfl) ?_
  refine va_mmin hx hb (by rw [hml]; exact hl.1.symm) hown (hts _ q446) (hts _ q225) (hts _ q31) (hts _ q226) (Nat.le_of_ble_eq_true rfl) (Nat.le_of_ble_eq_true rfl) (Nat.le_of_ble_eq_true rfl) (by show 0 + N ≤ 60; omega) dJ11_copyOf_2_32 ?_
  rw [if_neg (show ¬ nI N < nI n from nI_nlt hnN (by omega))]
  refine gg_copyq hx hb (by rw [hml]; exact hl.1.symm) hts hown q447 hG h_el h_ra (by omega) hS (Or.inl rfl) (Or.inr hsr) (Nat.le_refl n) hnN (by omega) (fun i y hi hy => gg_any hG (hels i hi y hy).choose_spec) rfl (Nat.le_of_ble_eq_true rfl) (by decide +kernel) dJ11_copyOf_2_35 (fun H locs h_el h_ra hfr hS => ?_)
  refine lv_aload_n hx hb dJ11_copyOf_2_38 rfl (lv_at hl 0 rfl) ?_
  refine W.widen (k := 1) (n := 60) (by decide) (by show 0 + N ≤ 60; omega) ?_
  exact W.aret hx hb hr (Or.inr ⟨_, rfl⟩) (Or.inr ⟨_, rfl⟩) (fun t9 h9 hW9 => ⟨⟨(), _, rfl, trivial, by dsimp only; rw [h9]; exact ⟨hsr, h_ra, h_el⟩⟩, hS.F h9⟩) hS.2.2 dJ11_copyOf_2_39

set_option maxHeartbeats 4000000 in
theorem met_J11_copyOf (l : Launch) (g : GT) (el n N sz : Nat) (arr : Nat → Option Nat) (hnN : n ≤ N) (hN : N ≤ 60) : Met l yJ11_copyOf (ws_ yJ11_copyOf cJ11_copyOf 2 (Option.some (Jvm.ClassFile.FieldType.array (Jvm.ClassFile.FieldType.object "java/lang/Object")))) ({ frames := 2, cells := 1, slots := 60, locals := 63 } : Room) (PcG g [.ref el, .int (nI N)] (fun H => H.size = sz ∧ va_at (gD g) bbCl (el, rfA g n arr) H ∧ gA g el ∧ ∀ k, k < n → ∀ y, arr k = some y → ∃ t, va_at (gD g) bbCl (y, tvE g t) H)) (va_Qr (fun _ : Unit => True) (fun _ ra u => sz ≤ ra ∧ va_at (gD g) bbCl (ra, rfA g N (va_cpy arr (fun _ => none) 0 0 n)) u.heap ∧ va_at (gD g) bbCl (el, rfA g n arr) u.heap) (fun q => q = el ∨ sz ≤ q)) 1 60 (fun q => q = el ∨ sz ≤ q) := by
  refine gg_met (cc := cJ11_copyOf) (maxL := 2) (ret := (Option.some (Jvm.ClassFile.FieldType.array (Jvm.ClassFile.FieldType.object "java/lang/Object")))) (by decide) (Nat.le_of_ble_eq_true rfl) ?_
  intro p e s m below meth c hx hb hr hlk hin hml hown hts hG hB ls hl
  have hown : s.vm.findClass RJ11 = some m.cls := hown
  have hl : lv_has ls 2 [(0, .ref el), (1, .int (nI N))] := hl
  obtain ⟨hsz, h_el, hgel, hels⟩ := hB
  have hAN : ∀ q, q = el ∨ sz ≤ q → gA g q := fun q e => e.elim (fun e => by rw [e]; exact hgel) (fun e => Nat.le_trans (by rw [← hsz]; exact hG.sz) e)
  have hS : va_S (fun q => q = el ∨ sz ≤ q) s.heap s.heap [] := va_S.rf
  have hle : el < sz := by rw [← hsz]; exact h_el.lt
  refine lv_aload_n hx hb dJ11_copyOf_0 rfl (lv_at hl 0 rfl) ?_
  refine lv_iload_n hx hb dJ11_copyOf_1 rfl (lv_at hl 1 rfl) ?_
  refine lv_aload_n hx hb dJ11_copyOf_2 rfl (lv_at hl 0 rfl) ?_
  refine va_getC (C := "[Ljava/lang/Object;") hx hb (by rw [hml]; exact hl.1.symm) hown (hts _ q420) (hG.nb q916 rfl) (hts _ q915) (hts _ q421) (hts _ q439) hG.1.2.2.2.1 ⟨_, h_el, rfl, va_nmO (hG.k.2 1 _ rfl).2 rfl⟩ (Nat.le_of_ble_eq_true rfl) (Nat.le_of_ble_eq_true rfl) dJ11_copyOf_3 ?_
  refine va_callr (va_runS (As := [.ref el, .int (nI N), .ref (gM g)]) (rest := []) ⟨hx, hb, hml, hown, hts⟩ (met_J11_copyOf_2 l g el n N sz arr hnN hN) (va_cwS 3 hts (lw_S q440 q441 q32 q442) rfl rfl rfl (by decide +kernel) ⟨Nat.le_of_ble_eq_true rfl, Nat.le_of_ble_eq_true rfl⟩) (gg_preS hG (hS.kp hG hAN) ⟨hsz, h_el, hgel, hels⟩) rfl rfl hl.1 rfl (lv_room (Nat.le_of_ble_eq_true rfl)) dJ11_copyOf_6 ⟨Nat.le_of_ble_eq_true rfl, Nat.le_of_ble_eq_true rfl⟩) hS (fun q _ e => e) (fun q e => e) (fun u ra t H1 locs ht hvm _ hB1 hz1 hk1 hS => ?_)
  rw [ht] at hB1
  obtain ⟨hsr, h_ra, h_el⟩ := hB1
  generalize H1 = H at h_ra h_el hS ⊢
  refine W.widen (k := 1) (n := 60) (by decide) (by decide) ?_
  exact W.aret hx hb hr (Or.inr ⟨_, rfl⟩) (Or.inr ⟨_, rfl⟩) (fun t9 h9 hW9 => ⟨⟨(), _, rfl, trivial, by dsimp only; rw [h9]; exact ⟨hsr, h_ra, h_el⟩⟩, hS.F h9⟩) hS.2.2 dJ11_copyOf_9

set_option maxHeartbeats 4000000 in
theorem met_J3_grow2E (l : Launch) (g : GT) (al sz : Nat) (mc : Int32) : Met l yJ3_grow_2 (ws_ yJ3_grow_2 cJ3_grow_2 4 (Option.some (Jvm.ClassFile.FieldType.array (Jvm.ClassFile.FieldType.object "java/lang/Object")))) ({ frames := 1, cells := 1, slots := 60, locals := 21 } : Room) (PcG g [.ref al, .int (nI 1)] (fun H => H.size = sz ∧ va_at (gD g) bbCl (al, alE mc (gE g) 0) H ∧ gA g al)) (va_Qr (fun _ : Unit => True) (fun _ ra u => sz ≤ ra ∧ va_at (gD g) bbCl (ra, rfA g 10 (fun _ => none)) u.heap ∧ va_at (gD g) bbCl (al, alE mc ra 0) u.heap) (fun q => q = al ∨ sz ≤ q)) 1 60 (fun q => q = al ∨ sz ≤ q) := by
  refine gg_met (cc := cJ3_grow_2) (maxL := 4) (ret := (Option.some (Jvm.ClassFile.FieldType.array (Jvm.ClassFile.FieldType.object "java/lang/Object")))) (by decide) (Nat.le_of_ble_eq_true rfl) ?_
  intro p e s m below meth c hx hb hr hlk hin hml hown hts hG hB ls hl
  have hown : s.vm.findClass RJ3 = some m.cls := hown
  have hl : lv_has ls 4 [(0, .ref al), (1, .int (nI 1))] := hl
  obtain ⟨hsz, h_al, hgal⟩ := hB
  have hAN : ∀ q, (q = al ∨ sz ≤ q) → gA g q := fun q e => e.elim (fun e => by rw [e]; exact hgal) (fun e => Nat.le_trans (by rw [← hsz]; exact hG.sz) e)
  have hS : va_S (fun q => q = al ∨ sz ≤ q) s.heap s.heap [] := va_S.rf
  have hlal : al < sz := by rw [← hsz]; exact h_al.lt
  refine lv_aload_n hx hb dJ3_grow_2_0 rfl (lv_at hl 0 rfl) ?_
  refine gg_get (ci := 3) (C := RJ3) (T := TJ3) (N := 3) (v := .ref (gE g)) hx hb hts in_J3 hown hG h_al rfl 1 (by decide) q69 rfl rfl dJ3_grow_2_1 ?_
  refine gg_lenE hx hb hG hS hAN dJ3_grow_2_4 ?_
  refine lv_istore_n (lv' := [(2, .int (nI 0)), (0, .ref al), (1, .int (nI 1))]) hx hb dJ3_grow_2_5 rfl hl (by decide) rfl (fun ls hl => ?_)
  refine lv_iload_n hx hb dJ3_grow_2_6 rfl (lv_at hl 0 rfl) ?_
  refine lv_if_gt (tgt := 20) hx hb dJ3_grow_2_7 (by decide) (fun c_7 => absurd c_7 (by decide)) (fun c_7 => ?_)
  refine lv_aload_n hx hb dJ3_grow_2_10 rfl (lv_at hl 1 rfl) ?_
  refine gg_get (ci := 3) (C := RJ3) (T := TJ3) (N := 3) (v := .ref (gE g)) hx hb hts in_J3 hown hG h_al rfl 1 (by decide) q69 rfl rfl dJ3_grow_2_11 ?_
  refine gg_getE hx hb hts hown hG (hS.kp hG hAN) q67 dJ3_grow_2_14 ?_
  refine gg_acmp_eq (tgt := 45) hx hb dJ3_grow_2_17 (by decide) (fun c_17 => ?_) (fun c_17 => absurd rfl c_17)
  refine lv_aload_n hx hb dJ3_grow_2_45 rfl (lv_at hl 1 rfl) ?_
  refine lv_bipush (v := 10) hx hb dJ3_grow_2_46 (by decide) ?_
  refine lv_iload_n hx hb dJ3_grow_2_48 rfl (lv_at hl 2 rfl) ?_
  refine va_mmax hx hb (by rw [hml]; exact hl.1.symm) hown (hts _ q450) (hts _ q124) (hts _ q31) (hts _ q125) (Nat.le_of_ble_eq_true rfl) (Nat.le_of_ble_eq_true rfl) (Nat.zero_le _) (Nat.zero_le _) dJ3_grow_2_49 ?_
  rw [show (if (10 : Int32) < nI 1 then nI 1 else 10) = nI 10 from rfl]
  refine gg_newo hx hb hts hown q451 hG hS (N' := 10) rfl (by omega) (Nat.le_of_ble_eq_true rfl) (Nat.le_of_ble_eq_true rfl) dJ3_grow_2_52 (fun ra H hra h_ra hgr hS => ?_)
  have h_al := h_al.grow hgr
  have hsr : sz ≤ ra := by rw [hra, hsz]; exact Nat.le_refl _
  refine lv_dup_x1 hx hb dJ3_grow_2_55 rfl rfl ?_
  refine gg_put (ci := 3) (v := .ref ra) (C := RJ3) (T := TJ3) (N := 3) hx hb hts in_J3 tyJ3 tyJ3_ok nmJ3 hown hG h_al hS (Or.inl rfl) rfl 1 (by decide) q69 rfl rfl rfl rfl (Nat.le_of_ble_eq_true rfl) dJ3_grow_2_56 (fun H locs h_al hbut hS => ?_)
  have h_al : va_at (gD g) bbCl (al, .inr (3, [.int mc, .ref ra, .int (nI 0)])) H := h_al
  have h_ra := h_ra.but hbut (show ra ≠ al by omega)
  refine W.widen (k := 1) (n := 60) (by decide) (by decide) ?_
  exact W.aret hx hb hr (Or.inr ⟨_, rfl⟩) (Or.inr ⟨_, rfl⟩) (fun t9 h9 hW9 => ⟨⟨(), _, rfl, trivial, by dsimp only; rw [h9]; exact ⟨hsr, h_ra, h_al⟩⟩, hS.F h9⟩) hS.2.2 dJ3_grow_2_59

set_option maxHeartbeats 4000000 in
theorem met_J3_growE (l : Launch) (g : GT) (al sz : Nat) (mc : Int32) : Met l yJ3_grow (ws_ yJ3_grow cJ3_grow 1 (Option.some (Jvm.ClassFile.FieldType.array (Jvm.ClassFile.FieldType.object "java/lang/Object")))) ({ frames := 2, cells := 1, slots := 60, locals := 44 } : Room) (PcG g [.ref al] (fun H => H.size = sz ∧ va_at (gD g) bbCl (al, alE mc (gE g) 0) H ∧ gA g al)) (va_Qr (fun _ : Unit => True) (fun _ ra u => sz ≤ ra ∧ va_at (gD g) bbCl (ra, rfA g 10 (fun _ => none)) u.heap ∧ va_at (gD g) bbCl (al, alE mc ra 0) u.heap) (fun q => q = al ∨ sz ≤ q)) 1 60 (fun q => q = al ∨ sz ≤ q) := by
  refine gg_met (cc := cJ3_grow) (maxL := 1) (ret := (Option.some (Jvm.ClassFile.FieldType.array (Jvm.ClassFile.FieldType.object "java/lang/Object")))) (by decide) (Nat.le_of_ble_eq_true rfl) ?_
  intro p e s m below meth c hx hb hr hlk hin hml hown hts hG hB ls hl
  have hown : s.vm.findClass RJ3 = some m.cls := hown
  have hl : lv_has ls 1 [(0, .ref al)] := hl
  obtain ⟨hsz, h_al, hgal⟩ := hB
  have hAN : ∀ q, (q = al ∨ sz ≤ q) → gA g q := fun q e => e.elim (fun e => by rw [e]; exact hgal) (fun e => Nat.le_trans (by rw [← hsz]; exact hG.sz) e)
  have hS : va_S (fun q => q = al ∨ sz ≤ q) s.heap s.heap [] := va_S.rf
  have hlal : al < sz := by rw [← hsz]; exact h_al.lt
  refine lv_aload_n hx hb dJ3_grow_0 rfl (lv_at hl 0 rfl) ?_
  refine lv_aload_n hx hb dJ3_grow_1 rfl (lv_at hl 0 rfl) ?_
  refine gg_get (ci := 3) (C := RJ3) (T := TJ3) (N := 3) (v := .int (nI 0)) hx hb hts in_J3 hown hG h_al rfl 2 (by decide) q70 rfl rfl dJ3_grow_2 ?_
  refine lv_iconst (v := 1) hx hb dJ3_grow_5 (by decide) ?_
  refine lv_iadd hx hb dJ3_grow_6 ?_
  rw [show nI 0 + 1 = nI 1 from rfl]
  refine va_callr (va_runV (As := [.int (nI 1)]) (rest := []) ⟨hx, hb, hml, hown, hts⟩ (met_J3_grow2E l g al sz mc) (cwV 1 hts (lw_V q405 q407 qs4 q20 q408) rfl rfl rfl (by decide +kernel) ⟨Nat.le_of_ble_eq_true rfl, Nat.le_of_ble_eq_true rfl⟩) (gg_preV hG (hS.kp hG hAN) (gg_recv hG h_al rfl) ⟨hsz, h_al, hgal⟩) rfl rfl hl.1 rfl (lv_room (Nat.le_of_ble_eq_true rfl)) dJ3_grow_7 ⟨Nat.le_of_ble_eq_true rfl, Nat.le_of_ble_eq_true rfl⟩) hS (fun q _ e => e) (fun q e => e) (fun u ra t H1 locs ht hvm _ hB1 hz1 hk1 hS => ?_)
  rw [ht] at hB1
  obtain ⟨hsr, h_ra, h_al⟩ := hB1
  generalize H1 = H at h_ra h_al hS ⊢
  refine W.widen (k := 1) (n := 60) (by decide) (by decide) ?_
  exact W.aret hx hb hr (Or.inr ⟨_, rfl⟩) (Or.inr ⟨_, rfl⟩) (fun t9 h9 hW9 => ⟨⟨(), _, rfl, trivial, by dsimp only; rw [h9]; exact ⟨hsr, h_ra, h_al⟩⟩, hS.F h9⟩) hS.2.2 dJ3_grow_10

set_option maxHeartbeats 4000000 in
theorem met_J3_grow2F (l : Launch) (g : GT) (al el n sz : Nat) (mc : Int32) (arr : Nat → Option Nat) (h0 : 0 < n) (hn : n ≤ 39) : Met l yJ3_grow_2 (ws_ yJ3_grow_2 cJ3_grow_2 4 (Option.some (Jvm.ClassFile.FieldType.array (Jvm.ClassFile.FieldType.object "java/lang/Object")))) ({ frames := 3, cells := 1, slots := 60, locals := 84 } : Room) (PcG g [.ref al, .int (nI (n + 1))] (fun H => H.size = sz ∧ va_at (gD g) bbCl (al, alE mc el n) H ∧ va_at (gD g) bbCl (el, rfA g n arr) H ∧ gA g al ∧ gA g el ∧ el ≠ al ∧ ∀ k, k < n → ∀ y, arr k = some y → ∃ t, va_at (gD g) bbCl (y, tvE g t) H)) (va_Qr (fun _ : Unit => True) (fun _ ra u => sz ≤ ra ∧ va_at (gD g) bbCl (ra, rfA g (ncap n) (va_cpy arr (fun _ => none) 0 0 n)) u.heap ∧ va_at (gD g) bbCl (al, alE mc ra n) u.heap) (fun q => q = al ∨ q = el ∨ sz ≤ q)) 1 60 (fun q => q = al ∨ q = el ∨ sz ≤ q) := by
  refine gg_met (cc := cJ3_grow_2) (maxL := 4) (ret := (Option.some (Jvm.ClassFile.FieldType.array (Jvm.ClassFile.FieldType.object "java/lang/Object")))) (by decide) (Nat.le_of_ble_eq_true rfl) ?_
  intro p e s m below meth c hx hb hr hlk hin hml hown hts hG hB ls hl
  have hown : s.vm.findClass RJ3 = some m.cls := hown
  have hl : lv_has ls 4 [(0, .ref al), (1, .int (nI (n + 1)))] := hl
  obtain ⟨hsz, h_al, h_el, hgal, hgel, hne, hels⟩ := hB
  have hAN : ∀ q, (q = al ∨ q = el ∨ sz ≤ q) → gA g q := fun q e => e.elim (fun e => by rw [e]; exact hgal) (fun e => e.elim (fun e => by rw [e]; exact hgel) (fun e => Nat.le_trans (by rw [← hsz]; exact hG.sz) e))
  have hS : va_S (fun q => q = al ∨ q = el ∨ sz ≤ q) s.heap s.heap [] := va_S.rf
  have hlal : al < sz := by rw [← hsz]; exact h_al.lt
  have hlel : el < sz := by rw [← hsz]; exact h_el.lt
  refine lv_aload_n hx hb dJ3_grow_2_0 rfl (lv_at hl 0 rfl) ?_
  refine gg_get (ci := 3) (C := RJ3) (T := TJ3) (N := 3) (v := .ref el) hx hb hts in_J3 hown hG h_al rfl 1 (by decide) q69 rfl rfl dJ3_grow_2_1 ?_
  refine gg_len hx hb hG h_el dJ3_grow_2_4 ?_
  refine lv_istore_n (lv' := [(2, .int (nI n)), (0, .ref al), (1, .int (nI (n + 1)))]) hx hb dJ3_grow_2_5 rfl hl (by decide) rfl (fun ls hl => ?_)
  refine lv_iload_n hx hb dJ3_grow_2_6 rfl (lv_at hl 0 rfl) ?_
  refine lv_if_gt (tgt := 20) hx hb dJ3_grow_2_7 (by decide) (fun c_7 => ?_) (fun c_7 => absurd (show (0 : Int32) < nI n from nI_lt (a := 0) h0 (by omega)) c_7)
  refine lv_iload_n hx hb dJ3_grow_2_20 rfl (lv_at hl 0 rfl) ?_
  refine lv_iload_n hx hb dJ3_grow_2_21 rfl (lv_at hl 2 rfl) ?_
  refine lv_iload_n hx hb dJ3_grow_2_22 rfl (lv_at hl 0 rfl) ?_
  refine lv_isub hx hb dJ3_grow_2_23 ?_
  refine lv_iload_n hx hb dJ3_grow_2_24 rfl (lv_at hl 0 rfl) ?_
  refine lv_iconst (v := 1) hx hb dJ3_grow_2_25 (by decide) ?_
  refine lv_ishr hx hb dJ3_grow_2_26 ?_
  rw [show nI n >>> ((1 : Int32) &&& 31) = nI (n / 2) from pk_shrN (by omega) _ 1 (by decide), show nI (n + 1) - nI n = 1 from (pk_sub (by omega)).trans (by rw [Nat.add_sub_cancel_left]; rfl)]
  refine vp_callSi (va_Run.run (va_runS (As := [.int (nI n), .int 1, .int (nI (n / 2))]) (rest := []) ⟨hx, hb, hml, hown, hts⟩ (met_J9_newLength l g n hn) (va_cwS 3 hts (lw_S q409 q410 q30 q411) rfl rfl rfl (by decide +kernel) ⟨Nat.le_of_ble_eq_true rfl, Nat.le_of_ble_eq_true rfl⟩) (gg_preS hG (hS.kp hG hAN) trivial) rfl rfl hl.1 rfl (lv_room (Nat.le_of_ble_eq_true rfl)) dJ3_grow_2_27 ⟨Nat.le_of_ble_eq_true rfl, Nat.le_of_ble_eq_true rfl⟩)) (fun r_n hr_n => ?_)
  subst hr_n
  refine lv_istore_n (lv' := [(3, .int (nI (ncap n))), (2, .int (nI n)), (0, .ref al), (1, .int (nI (n + 1)))]) hx hb dJ3_grow_2_30 rfl hl (by decide) rfl (fun ls hl => ?_)
  refine lv_aload_n hx hb dJ3_grow_2_31 rfl (lv_at hl 2 rfl) ?_
  refine lv_aload_n hx hb dJ3_grow_2_32 rfl (lv_at hl 2 rfl) ?_
  refine gg_get (ci := 3) (C := RJ3) (T := TJ3) (N := 3) (v := .ref el) hx hb hts in_J3 hown hG h_al rfl 1 (by decide) q69 rfl rfl dJ3_grow_2_33 ?_
  refine lv_iload_n hx hb dJ3_grow_2_36 rfl (lv_at hl 0 rfl) ?_
  refine va_callr (va_runS (As := [.ref el, .int (nI (ncap n))]) (rest := [.ref al]) ⟨hx, hb, hml, hown, hts⟩ (met_J11_copyOf l g el n (ncap n) sz arr (Nat.le_of_lt (ncap_in hn).1) (ncap_in hn).2) (va_cwS 2 hts (lw_S q417 q418 q32 q419) rfl rfl rfl (by decide +kernel) ⟨Nat.le_of_ble_eq_true rfl, Nat.le_of_ble_eq_true rfl⟩) (gg_preS hG (hS.kp hG hAN) ⟨hsz, h_el, hgel, hels⟩) rfl rfl hl.1 rfl (lv_room (Nat.le_of_ble_eq_true rfl)) dJ3_grow_2_37 ⟨Nat.le_of_ble_eq_true rfl, Nat.le_of_ble_eq_true rfl⟩) hS (fun q _ e => Or.inr e) (fun q e => Or.inr e) (fun u ra t H1 locs ht hvm _ hB1 hz1 hk1 hS => ?_)
  rw [ht] at hB1
  obtain ⟨hsr, h_ra, h_el⟩ := hB1
  have h_al := h_al.kept (hk1 al (by rw [hsz]; exact hlal) (fun e => e.elim (fun e => hne e.symm) (fun e => by omega)))
  generalize H1 = H at h_ra h_el h_al hS ⊢
  refine lv_dup_x1 hx hb dJ3_grow_2_40 rfl rfl ?_
  refine gg_put (ci := 3) (v := .ref ra) (C := RJ3) (T := TJ3) (N := 3) hx hb hts in_J3 tyJ3 tyJ3_ok nmJ3 hown hG h_al hS (Or.inl rfl) rfl 1 (by decide) q69 rfl rfl rfl rfl (Nat.le_of_ble_eq_true rfl) dJ3_grow_2_41 (fun H locs h_al hbut hS => ?_)
  have h_al : va_at (gD g) bbCl (al, .inr (3, [.int mc, .ref ra, .int (nI n)])) H := h_al
  have h_ra := h_ra.but hbut (show ra ≠ al by omega)
  refine W.widen (k := 1) (n := 60) (by decide) (by decide) ?_
  exact W.aret hx hb hr (Or.inr ⟨_, rfl⟩) (Or.inr ⟨_, rfl⟩) (fun t9 h9 hW9 => ⟨⟨(), _, rfl, trivial, by dsimp only; rw [h9]; exact ⟨hsr, h_ra, h_al⟩⟩, hS.F h9⟩) hS.2.2 dJ3_grow_2_44

set_option maxHeartbeats 4000000 in
theorem met_J3_growF (l : Launch) (g : GT) (al el n sz : Nat) (mc : Int32) (arr : Nat → Option Nat) (h0 : 0 < n) (hn : n ≤ 39) : Met l yJ3_grow (ws_ yJ3_grow cJ3_grow 1 (Option.some (Jvm.ClassFile.FieldType.array (Jvm.ClassFile.FieldType.object "java/lang/Object")))) ({ frames := 4, cells := 1, slots := 60, locals := 107 } : Room) (PcG g [.ref al] (fun H => H.size = sz ∧ va_at (gD g) bbCl (al, alE mc el n) H ∧ va_at (gD g) bbCl (el, rfA g n arr) H ∧ gA g al ∧ gA g el ∧ el ≠ al ∧ ∀ k, k < n → ∀ y, arr k = some y → ∃ t, va_at (gD g) bbCl (y, tvE g t) H)) (va_Qr (fun _ : Unit => True) (fun _ ra u => sz ≤ ra ∧ va_at (gD g) bbCl (ra, rfA g (ncap n) (va_cpy arr (fun _ => none) 0 0 n)) u.heap ∧ va_at (gD g) bbCl (al, alE mc ra n) u.heap) (fun q => q = al ∨ q = el ∨ sz ≤ q)) 1 60 (fun q => q = al ∨ q = el ∨ sz ≤ q) := by
  refine gg_met (cc := cJ3_grow) (maxL := 1) (ret := (Option.some (Jvm.ClassFile.FieldType.array (Jvm.ClassFile.FieldType.object "java/lang/Object")))) (by decide) (Nat.le_of_ble_eq_true rfl) ?_
  intro p e s m below meth c hx hb hr hlk hin hml hown hts hG hB ls hl
  have hown : s.vm.findClass RJ3 = some m.cls := hown
  have hl : lv_has ls 1 [(0, .ref al)] := hl
  obtain ⟨hsz, h_al, h_el, hgal, hgel, hne, hels⟩ := hB
  have hAN : ∀ q, (q = al ∨ q = el ∨ sz ≤ q) → gA g q := fun q e => e.elim (fun e => by rw [e]; exact hgal) (fun e => e.elim (fun e => by rw [e]; exact hgel) (fun e => Nat.le_trans (by rw [← hsz]; exact hG.sz) e))
  have hS : va_S (fun q => q = al ∨ q = el ∨ sz ≤ q) s.heap s.heap [] := va_S.rf
  have hlal : al < sz := by rw [← hsz]; exact h_al.lt
  have hlel : el < sz := by rw [← hsz]; exact h_el.lt
  refine lv_aload_n hx hb dJ3_grow_0 rfl (lv_at hl 0 rfl) ?_
  refine lv_aload_n hx hb dJ3_grow_1 rfl (lv_at hl 0 rfl) ?_
  refine gg_get (ci := 3) (C := RJ3) (T := TJ3) (N := 3) (v := .int (nI n)) hx hb hts in_J3 hown hG h_al rfl 2 (by decide) q70 rfl rfl dJ3_grow_2 ?_
  refine lv_iconst (v := 1) hx hb dJ3_grow_5 (by decide) ?_
  refine lv_iadd hx hb dJ3_grow_6 ?_
  rw [nI_1 n]
  refine va_callr (va_runV (As := [.int (nI (n + 1))]) (rest := []) ⟨hx, hb, hml, hown, hts⟩ (met_J3_grow2F l g al el n sz mc arr h0 hn) (cwV 1 hts (lw_V q405 q407 qs4 q20 q408) rfl rfl rfl (by decide +kernel) ⟨Nat.le_of_ble_eq_true rfl, Nat.le_of_ble_eq_true rfl⟩) (gg_preV hG (hS.kp hG hAN) (gg_recv hG h_al rfl) ⟨hsz, h_al, h_el, hgal, hgel, hne, hels⟩) rfl rfl hl.1 rfl (lv_room (Nat.le_of_ble_eq_true rfl)) dJ3_grow_7 ⟨Nat.le_of_ble_eq_true rfl, Nat.le_of_ble_eq_true rfl⟩) hS (fun q _ e => e) (fun q e => e) (fun u ra t H1 locs ht hvm _ hB1 hz1 hk1 hS => ?_)
  rw [ht] at hB1
  obtain ⟨hsr, h_ra, h_al⟩ := hB1
  generalize H1 = H at h_ra h_al hS ⊢
  refine W.widen (k := 1) (n := 60) (by decide) (by decide) ?_
  exact W.aret hx hb hr (Or.inr ⟨_, rfl⟩) (Or.inr ⟨_, rfl⟩) (fun t9 h9 hW9 => ⟨⟨(), _, rfl, trivial, by dsimp only; rw [h9]; exact ⟨hsr, h_ra, h_al⟩⟩, hS.F h9⟩) hS.2.2 dJ3_grow_10
