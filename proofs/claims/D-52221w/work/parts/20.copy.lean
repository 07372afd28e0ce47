/-! Bridge.copy -/
set_option maxRecDepth 100000
theorem inA_ext {g : GT} {n a : Nat} {f f1 : Nat → Int32} {H : Heap} (h : va_at (gD g) bbCl (a, inA g n f) H) (hf : ∀ j, j < n → f j = f1 j) : va_at (gD g) bbCl (a, inA g n f1) H := by
  have e : H[a]? = some (vp_cell (gI g) (n, .inl f)) := h
  show H[a]? = some (vp_cell (gI g) (n, .inl f1))
  rw [e, vp_cell_i, vp_cell_i]
  congr 1
  unfold arrV
  congr 2
  funext j
  show Value.int (f j.val) = Value.int (f1 j.val)
  rw [hf j.val j.isLt]
theorem BX.monoF {g : GT} {F F1 : Nat → Prop} {b cd al el cap : Nat} {mc : Int32} {arr : Nat → Option Nat} {ad : Nat → Nat} {S : BS} {H : Heap} (h : BX g F b cd al el cap mc arr ad S H) (hF : ∀ q, F q → F1 q) (hG : ∀ q, F1 q → gA g q) : BX g F1 b cd al el cap mc arr ad S H := by
  obtain ⟨h1, h2, h3, h4, h5, h6, h7, h8, h9, h10⟩ := h
  exact ⟨h1, h2, h3, h4, h5, h6, h7, ⟨hF _ h8.1, hF _ h8.2.1, hF _ h8.2.2.1, fun hn => hF _ (h8.2.2.2.1 hn), fun k hk => hF _ (h8.2.2.2.2 k hk)⟩, hG, h10⟩
theorem BX.keptL {g : GT} {F : Nat → Prop} {b cd al el cap : Nat} {mc : Int32} {arr : Nat → Option Nat} {ad : Nat → Nat} {S : BS} {H H1 : Heap} (h : BX g F b cd al el cap mc arr ad S H) (hq : ∀ q, q < H.size → F q → H1[q]? = H[q]?) : BX g F b cd al el cap mc arr ad S H1 := by
  obtain ⟨h1, h2, h3, h4, h5, h6, h7, h8, h9⟩ := h
  exact ⟨h1.kept (hq _ h1.lt h8.1), h2.kept (hq _ h2.lt h8.2.1), h3.kept (hq _ h3.lt h8.2.2.1), fun hn => (h4 hn).kept (hq _ (h4 hn).lt (h8.2.2.2.1 hn)), fun k hk => ⟨(h5 k hk).1, (h5 k hk).2.kept (hq _ (h5 k hk).2.lt (h8.2.2.2.2 k hk))⟩, h6, h7, h8, h9⟩
theorem BX.cold {g : GT} {F : Nat → Prop} {b cd al el cap : Nat} {mc : Int32} {arr : Nat → Option Nat} {ad : Nat → Nat} {S : BS} {f : Nat → Int32} {H H1 : Heap} (h : BX g F b cd al el cap mc arr ad S H) (hat : va_at (gD g) bbCl (cd, inA g 8 f) H1) (hfr : Frm cd H H1) : BX g F b cd al el cap mc arr ad (S.1, f, S.2.2) H1 := by
  obtain ⟨h1, h2, h3, h4, h5, h6, h7, h8, h9, h10, h11⟩ := h
  exact ⟨h1.frm hfr h10.1, hat, h3.frm hfr h10.2.2.1.symm, fun hn => (h4 hn).frm hfr (h10.2.2.2.1 hn).2.1, fun k hk => ⟨(h5 k hk).1, (h5 k hk).2.frm hfr (h10.2.2.2.2 k hk).2.1⟩, h6, h7, h8, h9, h10, h11⟩
theorem BX.lx {g : GT} {F : Nat → Prop} {b cd al el cap : Nat} {mc : Int32} {arr : Nat → Option Nat} {ad : Nat → Nat} {S : BS} {H : Heap} (h : BX g F b cd al el cap mc arr ad S H) : LX g al el (sN S) cap mc arr H := by
  obtain ⟨h1, h2, h3, h4, h5, h6, h7, h8, h9, h10, h11, h12⟩ := h
  exact ⟨h3, h4, h12, fun k hk y hy => ⟨sTv S k, by have e := (h5 k hk).1.symm.trans hy; rw [← Option.some.inj e]; exact (h5 k hk).2⟩, h6, h7, h9 _ h8.2.2.1, fun hn => ⟨h9 _ (h8.2.2.2.1 hn), (h10.2.2.2.1 hn).2.2⟩⟩

set_option maxHeartbeats 4000000 in
theorem met_X2_copy (l : Launch) (g : GT) (T b sz : Nat) (S : BS) (F : Nat → Prop) (hok : OKS T S) (hFsz : ∀ q, F q → q < sz) : Met l yX2_copy (ws_ yX2_copy cX2_copy 3 (Option.some (Jvm.ClassFile.FieldType.object "BridgeBells$Bridge"))) ({ frames := 10, cells := 83, slots := 2699, locals := 344 } : Room) (PcG g [.ref b] (fun H => H.size = sz ∧ BW g F b S H)) (va_Qr (fun _ : Unit => True) (fun _ ra u => BW g F b S u.heap ∧ BW g (fun q => sz ≤ q) ra S u.heap) (fun q => (F q ∨ sz ≤ q))) 83 2699 (fun q => (F q ∨ sz ≤ q)) := by
  refine gg_met (cc := cX2_copy) (maxL := 3) (ret := (Option.some (Jvm.ClassFile.FieldType.object "BridgeBells$Bridge"))) (by decide) (Nat.le_of_ble_eq_true rfl) ?_
  intro p e s m below meth c hx hb hr hlk hin hml hown hts hG hB ls hl
  have hown : s.vm.findClass RX2 = some m.cls := hown
  have hl : lv_has ls 3 [(0, .ref b)] := hl
  obtain ⟨hsz, cd, al, el, cap, mc, arr, ad, hX⟩ := hB
  have hN : ∀ q, sz ≤ q → gA g q := fun q e => Nat.le_trans (by rw [← hsz]; exact hG.sz) e
  have hAN : ∀ q, sz ≤ q → gA g q := hN
  have hS : va_S (fun q => sz ≤ q) s.heap s.heap [] := va_S.rf
  have hn40 : sN S ≤ 40 := hok.2.2.2.2.2.2.2.1
  have hla := hok.2.2.2.2.2.1
  have hszH : s.heap.size = sz := hsz
  refine gg_new (C := RX2) (T := TX2) (N := 8) (ci := 1) (fs := [.int 0, .int 0, .int 0, .int 0, .null, .int 0, .null, .null]) hx hb hts in_X2 tyX2 tyX2_ok hown q626 q48 q15 hG hS rfl (fun j hj => by rcases (show j = 0 ∨ j = 1 ∨ j = 2 ∨ j = 3 ∨ j = 4 ∨ j = 5 ∨ j = 6 ∨ j = 7 by omega) with rfl | rfl | rfl | rfl | rfl | rfl | rfl | rfl <;> rfl) (Nat.le_of_ble_eq_true rfl) (Nat.le_of_ble_eq_true rfl) dX2_copy_0 (fun nb H hnb h_nb hgr hS => ?_)
  rw [hszH] at hnb
  have hX := hX.keptL (fun q h _ => hgr.2 q h)
  have hszH : H.size = sz + 1 := by rw [hgr.1, hszH]
  refine lv_dup hx hb dX2_copy_3 rfl ?_
  refine va_callv (va_runI (As := []) (rest := [.ref nb]) ⟨hx, hb, hml, hown, hts⟩ (met_X2_init l g nb (sz + 1)) (cwI 0 hts (lw_meth q51) rfl rfl rfl (hts _ q15) (hts _ q627) (hts _ q50) rfl (by decide +kernel) ⟨Nat.le_of_ble_eq_true rfl, Nat.le_of_ble_eq_true rfl⟩) (gg_preS hG (hS.kp hG hAN) ⟨hszH, h_nb, hN _ (by omega)⟩) rfl rfl hl.1 rfl (lv_room (Nat.le_of_ble_eq_true rfl)) dX2_copy_4 ⟨Nat.le_of_ble_eq_true rfl, Nat.le_of_ble_eq_true rfl⟩) hS (fun q _ e => by rcases (show q = nb ∨ sz + 1 ≤ q from e) with e | e <;> (show sz ≤ q; omega)) (fun (q : Nat) e => by rcases (show q = nb ∨ sz + 1 ≤ q from e) with e | e <;> (show sz ≤ q; omega)) (fun u t9 H1 locs ht hvm _ hY hz1 hk1 hS => ?_)
  rw [ht] at hY
  have hX := hX.keptL (fun q h hF => hk1 q h (fun e => by have := hFsz q hF; rcases e with e | e <;> omega))
  obtain ⟨cd1, al1, el1, cap1, mc1, arr1, ad1, hY⟩ := hY
  have hY := hY.monoF (F1 := fun q => sz ≤ q) (fun q e => by rcases (show q = nb ∨ sz + 1 ≤ q from e) with e | e <;> (show sz ≤ q; omega)) hN
  rw [hszH] at hz1
  have hz : sz ≤ H1.size := by omega
  generalize H1 = H at hX hY hS hz ⊢
  refine lv_astore_n (lv' := [(1, .ref nb), (0, .ref b)]) hx hb dX2_copy_7 rfl hl (by decide) rfl (fun ls hl => ?_)
  refine lv_aload_n hx hb dX2_copy_8 rfl (lv_at hl 0 rfl) ?_
  refine lv_aload_n hx hb dX2_copy_9 rfl (lv_at hl 1 rfl) ?_
  refine gg_get (ci := 1) (C := RX2) (T := TX2) (N := 8) (v := .int (sMi S)) hx hb hts in_X2 hown hG hX.1 rfl 0 (by decide) q82 rfl rfl dX2_copy_10 ?_
  refine gg_put (ci := 1) (v := .int (sMi S)) (C := RX2) (T := TX2) (N := 8) hx hb hts in_X2 tyX2 tyX2_ok nmX2 hown hG hY.1 hS (show sz ≤ nb by omega) rfl 0 (by decide) q82 rfl rfl rfl rfl (Nat.le_of_ble_eq_true rfl) dX2_copy_13 (fun H locs h_nb hbut hS => ?_)
  have h_nb : va_at (gD g) bbCl (nb, .inr (1, [.int (sMi S), .int 0, .int 15, .int 0, .ref (gC g 0), .int 0, .ref cd1, .ref al1])) H := h_nb
  have hY := hY.putB (S1 := ((sMi S, 0, 15, 0, 0, 0), bs0.2)) hbut h_nb rfl
  have hX := hX.kept (fun q hF => hbut.2 q (by have := hFsz q hF; omega))
  have hz : sz ≤ H.size := by rw [hbut.1]; exact hz
  refine lv_aload_n hx hb dX2_copy_16 rfl (lv_at hl 0 rfl) ?_
  refine lv_aload_n hx hb dX2_copy_17 rfl (lv_at hl 1 rfl) ?_
  refine gg_get (ci := 1) (C := RX2) (T := TX2) (N := 8) (v := .int (sAn S)) hx hb hts in_X2 hown hG hX.1 rfl 1 (by decide) q84 rfl rfl dX2_copy_18 ?_
  refine gg_put (ci := 1) (v := .int (sAn S)) (C := RX2) (T := TX2) (N := 8) hx hb hts in_X2 tyX2 tyX2_ok nmX2 hown hG hY.1 hS (show sz ≤ nb by omega) rfl 1 (by decide) q84 rfl rfl rfl rfl (Nat.le_of_ble_eq_true rfl) dX2_copy_21 (fun H locs h_nb hbut hS => ?_)
  have h_nb : va_at (gD g) bbCl (nb, .inr (1, [.int (sMi S), .int (sAn S), .int 15, .int 0, .ref (gC g 0), .int 0, .ref cd1, .ref al1])) H := h_nb
  have hY := hY.putB (S1 := ((sMi S, sAn S, 15, 0, 0, 0), bs0.2)) hbut h_nb rfl
  have hX := hX.kept (fun q hF => hbut.2 q (by have := hFsz q hF; omega))
  have hz : sz ≤ H.size := by rw [hbut.1]; exact hz
  refine lv_aload_n hx hb dX2_copy_24 rfl (lv_at hl 0 rfl) ?_
  refine lv_aload_n hx hb dX2_copy_25 rfl (lv_at hl 1 rfl) ?_
  refine gg_get (ci := 1) (C := RX2) (T := TX2) (N := 8) (v := .int (sPo S)) hx hb hts in_X2 hown hG hX.1 rfl 2 (by decide) q86 rfl rfl dX2_copy_26 ?_
  refine gg_put (ci := 1) (v := .int (sPo S)) (C := RX2) (T := TX2) (N := 8) hx hb hts in_X2 tyX2 tyX2_ok nmX2 hown hG hY.1 hS (show sz ≤ nb by omega) rfl 2 (by decide) q86 rfl rfl rfl rfl (Nat.le_of_ble_eq_true rfl) dX2_copy_29 (fun H locs h_nb hbut hS => ?_)
  have h_nb : va_at (gD g) bbCl (nb, .inr (1, [.int (sMi S), .int (sAn S), .int (sPo S), .int 0, .ref (gC g 0), .int 0, .ref cd1, .ref al1])) H := h_nb
  have hY := hY.putB (S1 := ((sMi S, sAn S, sPo S, 0, 0, 0), bs0.2)) hbut h_nb rfl
  have hX := hX.kept (fun q hF => hbut.2 q (by have := hFsz q hF; omega))
  have hz : sz ≤ H.size := by rw [hbut.1]; exact hz
  refine lv_aload_n hx hb dX2_copy_32 rfl (lv_at hl 0 rfl) ?_
  refine lv_aload_n hx hb dX2_copy_33 rfl (lv_at hl 1 rfl) ?_
  refine gg_get (ci := 1) (C := RX2) (T := TX2) (N := 8) (v := .int (sIc S)) hx hb hts in_X2 hown hG hX.1 rfl 3 (by decide) q88 rfl rfl dX2_copy_34 ?_
  refine gg_put (ci := 1) (v := .int (sIc S)) (C := RX2) (T := TX2) (N := 8) hx hb hts in_X2 tyX2 tyX2_ok nmX2 hown hG hY.1 hS (show sz ≤ nb by omega) rfl 3 (by decide) q88 rfl rfl rfl rfl (Nat.le_of_ble_eq_true rfl) dX2_copy_37 (fun H locs h_nb hbut hS => ?_)
  have h_nb : va_at (gD g) bbCl (nb, .inr (1, [.int (sMi S), .int (sAn S), .int (sPo S), .int (sIc S), .ref (gC g 0), .int 0, .ref cd1, .ref al1])) H := h_nb
  have hY := hY.putB (S1 := ((sMi S, sAn S, sPo S, sIc S, 0, 0), bs0.2)) hbut h_nb rfl
  have hX := hX.kept (fun q hF => hbut.2 q (by have := hFsz q hF; omega))
  have hz : sz ≤ H.size := by rw [hbut.1]; exact hz
  refine lv_aload_n hx hb dX2_copy_40 rfl (lv_at hl 0 rfl) ?_
  refine lv_aload_n hx hb dX2_copy_41 rfl (lv_at hl 1 rfl) ?_
  refine gg_get (ci := 1) (C := RX2) (T := TX2) (N := 8) (v := .ref (gC g (sCo S))) hx hb hts in_X2 hown hG hX.1 rfl 4 (by decide) q90 rfl rfl dX2_copy_42 ?_
  refine gg_put (ci := 1) (v := .ref (gC g (sCo S))) (C := RX2) (T := TX2) (N := 8) hx hb hts in_X2 tyX2 tyX2_ok nmX2 hown hG hY.1 hS (show sz ≤ nb by omega) rfl 4 (by decide) q90 rfl rfl rfl rfl (Nat.le_of_ble_eq_true rfl) dX2_copy_45 (fun H locs h_nb hbut hS => ?_)
  have h_nb : va_at (gD g) bbCl (nb, .inr (1, [.int (sMi S), .int (sAn S), .int (sPo S), .int (sIc S), .ref (gC g (sCo S)), .int 0, .ref cd1, .ref al1])) H := h_nb
  have hY := hY.putB (S1 := ((sMi S, sAn S, sPo S, sIc S, (sCo S), 0), bs0.2)) hbut h_nb rfl
  have hX := hX.kept (fun q hF => hbut.2 q (by have := hFsz q hF; omega))
  have hz : sz ≤ H.size := by rw [hbut.1]; exact hz
  refine lv_aload_n hx hb dX2_copy_48 rfl (lv_at hl 0 rfl) ?_
  refine lv_aload_n hx hb dX2_copy_49 rfl (lv_at hl 1 rfl) ?_
  refine gg_get (ci := 1) (C := RX2) (T := TX2) (N := 8) (v := .int (sLa S)) hx hb hts in_X2 hown hG hX.1 rfl 5 (by decide) q93 rfl rfl dX2_copy_50 ?_
  refine gg_put (ci := 1) (v := .int (sLa S)) (C := RX2) (T := TX2) (N := 8) hx hb hts in_X2 tyX2 tyX2_ok nmX2 hown hG hY.1 hS (show sz ≤ nb by omega) rfl 5 (by decide) q93 rfl rfl (bool_n hla) (bool_f hla) (Nat.le_of_ble_eq_true rfl) dX2_copy_53 (fun H locs h_nb hbut hS => ?_)
  have h_nb : va_at (gD g) bbCl (nb, .inr (1, [.int (sMi S), .int (sAn S), .int (sPo S), .int (sIc S), .ref (gC g (sCo S)), .int (sLa S), .ref cd1, .ref al1])) H := h_nb
  have hY := hY.putB (S1 := ((sMi S, sAn S, sPo S, sIc S, (sCo S), sLa S), bs0.2)) hbut h_nb rfl
  have hX := hX.kept (fun q hF => hbut.2 q (by have := hFsz q hF; omega))
  have hz : sz ≤ H.size := by rw [hbut.1]; exact hz
  refine lv_aload_n hx hb dX2_copy_56 rfl (lv_at hl 1 rfl) ?_
  refine gg_get (ci := 1) (C := RX2) (T := TX2) (N := 8) (v := .ref cd) hx hb hts in_X2 hown hG hX.1 rfl 6 (by decide) q94 rfl rfl dX2_copy_57 ?_
  refine lv_iconst (v := 0) hx hb dX2_copy_60 (by decide) ?_
  refine lv_aload_n hx hb dX2_copy_61 rfl (lv_at hl 0 rfl) ?_
  refine gg_get (ci := 1) (C := RX2) (T := TX2) (N := 8) (v := .ref cd1) hx hb hts in_X2 hown hG hY.1 rfl 6 (by decide) q94 rfl rfl dX2_copy_62 ?_
  refine lv_iconst (v := 0) hx hb dX2_copy_65 (by decide) ?_
  refine lv_bipush (v := 8) hx hb dX2_copy_66 (by decide) ?_
  refine va_forget (fun q hq => by rw [hsz]; exact hS.2.2 q hq) ?_
  have hS : va_S (fun q => (F q ∨ sz ≤ q)) s.heap H [] := ⟨hS.1, fun q h1 h2 => hS.2.1 q h1 (fun e => h2 (Or.inr e)), fun _ h => absurd h List.not_mem_nil⟩
  have hAN : ∀ q, (F q ∨ sz ≤ q) → gA g q := fun q e => e.elim (hX.2.2.2.2.2.2.2.2.1 q) (hN q)
  have hcn : cd < sz := hFsz _ hX.2.2.2.2.2.2.2.1.2.1
  have hc1 : sz ≤ cd1 := hY.2.2.2.2.2.2.2.1.2.1
  refine gg_copyi hx hb (by rw [hml]; exact hl.1.symm) hts hown q628 hG hX.2.1 hY.2.1 (by omega) hS (Or.inl hX.2.2.2.2.2.2.2.1.2.1) (Or.inr hc1) (Nat.le_refl 8) (Nat.le_refl 8) (by decide) rfl (Nat.le_of_ble_eq_true rfl) (by decide +kernel) dX2_copy_68 (fun H locs h_c1 hfr hS => ?_)
  have h_c1 := inA_ext (f1 := sCd S) h_c1 (fun j hj => by rw [pk_cpy_in (Nat.zero_le _) (by omega)]; simp)
  have hY := hY.cold h_c1 hfr
  have hX := hX.keptL (fun q h hF => hfr.2 q h (by have := hFsz q hF; omega))
  have hz := Nat.le_trans hz hfr.1
  refine lv_iconst (v := 0) hx hb dX2_copy_71 (by decide) ?_
  refine lv_istore_n (lv' := [(2, .int 0), (1, .ref nb), (0, .ref b)]) hx hb dX2_copy_72 rfl hl (by decide) rfl (fun ls hl => ?_)
  have loop : ∀ (d k : Nat), k ≤ sN S → sN S + 1 ≤ k + d → ∀ (el1 cap1 : Nat) (mc1 : Int32) (arr1 : Nat → Option Nat) (ad1 : Nat → Nat) (H : Heap) (locs : List Loc) (cl9 sl9 : Nat), cl9 ≤ 3 + 2 * k → sl9 ≤ 19 + 67 * k → sz ≤ H.size → BX g F b cd al el cap mc arr ad S H → BX g (fun q => sz ≤ q) nb cd1 al1 el1 cap1 mc1 arr1 ad1 (S.1, sCd S, k, sTv S) H → va_S (fun q => (F q ∨ sz ≤ q)) s.heap H locs → ∀ ls : Array Slot, lv_has ls 3 [(2, .int (nI k)), (0, .ref b), (1, .ref nb)] → W p l e ({ frames := 10, cells := 83, slots := 2699, locals := 344 } : Room) s m ([.ref b] : List Value).toArray below meth c H locs cl9 sl9 (MQ below (va_Qr (fun _ : Unit => True) (fun _ ra u => BW g F b S u.heap ∧ BW g (fun q => sz ≤ q) ra S u.heap) (fun q => (F q ∨ sz ≤ q))) ([.ref b] : List Value).toArray s 83 2699 (fun q => (F q ∨ sz ≤ q))) (F0 m 73 ls []) := by
    intro d
    induction d with
    | zero => intro k h1 h2; exact absurd h2 (by omega)
    | succ d ih =>
      intro k hkn hkd el1 cap1 mc1 arr1 ad1 H locs cl9 sl9 hcl9 hsl9 hz hX hY hS ls hl
      refine lv_iload_n hx hb dX2_copy_73 rfl (lv_at hl 0 rfl) ?_
      refine lv_aload_n hx hb dX2_copy_74 rfl (lv_at hl 1 rfl) ?_
      refine gg_get (ci := 1) (C := RX2) (T := TX2) (N := 8) (v := .ref al) hx hb hts in_X2 hown hG hX.1 rfl 7 (by decide) q96 rfl rfl dX2_copy_75 ?_
      refine vp_callSi (va_Run.run (va_runV (As := []) (rest := [.int (nI k)]) ⟨hx, hb, hml, hown, hts⟩ (met_J3_size l g al el (sN S) mc) (cwV 0 hts (lw_V q147 q148 q149 q20 q150) rfl rfl rfl (by decide +kernel) ⟨Nat.le_of_ble_eq_true rfl, Nat.le_of_ble_eq_true rfl⟩) (gg_preV hG (hS.kp hG hAN) (gg_recv hG hX.2.2.1 rfl) hX.2.2.1) rfl rfl hl.1 rfl (lv_room (Nat.le_of_ble_eq_true rfl)) dX2_copy_78 ⟨by show cl9 + 0 ≤ 83; omega, by show sl9 + 0 ≤ 2699; omega⟩)) (fun z_ hz_ => ?_)
      refine lv_icmp_ge (tgt := 112) hx hb dX2_copy_81 (by decide) (fun c_81 => ?_) (fun c_81 => ?_)
      · have hk : k = sN S := by rcases Nat.lt_or_ge k (sN S) with q | q; exact absurd (by rw [← hz_]; exact c_81) (nI_ge q (by omega)); omega
        subst hk
        refine lv_aload_n hx hb dX2_copy_112 rfl (lv_at hl 2 rfl) ?_
        refine W.widen (k := 83) (n := 2699) (by omega) (by omega) ?_
        exact W.aret hx hb hr (Or.inl ⟨_, rfl⟩) (Or.inr ⟨_, rfl⟩) (fun t9 h9 hW9 => ⟨⟨(), _, rfl, trivial, by dsimp only; rw [h9]; exact ⟨⟨_, _, _, _, _, _, _, hX⟩, ⟨_, _, _, _, _, _, _, hY⟩⟩⟩, hS.F h9⟩) hS.2.2 dX2_copy_113
      · have hk : k < sN S := by rcases Nat.lt_or_ge k (sN S) with q | q; exact q; exact absurd (by rw [hz_]; exact nI_le q (by omega)) c_81
        refine lv_aload_n hx hb dX2_copy_84 rfl (lv_at hl 2 rfl) ?_
        refine gg_get (ci := 1) (C := RX2) (T := TX2) (N := 8) (v := .ref al1) hx hb hts in_X2 hown hG hY.1 rfl 7 (by decide) q96 rfl rfl dX2_copy_85 ?_
        refine lv_aload_n hx hb dX2_copy_88 rfl (lv_at hl 1 rfl) ?_
        refine gg_get (ci := 1) (C := RX2) (T := TX2) (N := 8) (v := .ref al) hx hb hts in_X2 hown hG hX.1 rfl 7 (by decide) q96 rfl rfl dX2_copy_89 ?_
        refine lv_iload_n hx hb dX2_copy_92 rfl (lv_at hl 0 rfl) ?_
        refine va_csr (va_Run.run (va_runV (As := [.int (nI k)]) (rest := [.ref al1]) ⟨hx, hb, hml, hown, hts⟩ (met_J3_get l g al el (sN S) cap k (ad k) mc arr hk hX.2.2.2.2.2.1 (by have := hX.2.2.2.2.2.2.1; omega) (hX.2.2.2.2.1 k hk).1) (cwV 1 hts (lw_V q151 q152 q153 q20 q154) rfl rfl rfl (by decide +kernel) ⟨Nat.le_of_ble_eq_true rfl, Nat.le_of_ble_eq_true rfl⟩) (gg_preV hG (hS.kp hG hAN) (gg_recv hG hX.2.2.1 rfl) ⟨hX.2.2.1, hX.2.2.2.1 (by omega)⟩) rfl rfl hl.1 rfl (lv_room (Nat.le_of_ble_eq_true rfl)) dX2_copy_93 ⟨by show cl9 + 0 ≤ 83; omega, by show sl9 + 0 ≤ 2699; omega⟩)) (fun a_1 ha_1 => ?_)
        subst ha_1
        refine va_castS hx hb hown (hts _ q165) (hG.k.1 2 _ rfl).2 (gg_recv hG (hX.2.2.2.2.1 k hk).2 rfl) dX2_copy_96 ?_
        refine va_callr (va_runV (As := []) (rest := [.ref al1]) ⟨hx, hb, hml, hown, hts⟩ (met_X6_copy l g (ad k) H.size (sTv S k) (hok.2.2.2.2.2.2.2.2.1 k hk)) (cwV 0 hts (lw_V q629 q630 q631 q28 q632) rfl rfl rfl (by decide +kernel) ⟨Nat.le_of_ble_eq_true rfl, Nat.le_of_ble_eq_true rfl⟩) (gg_preV hG (hS.kp hG hAN) (gg_recv hG (hX.2.2.2.2.1 k hk).2 rfl) ⟨rfl, (hX.2.2.2.2.1 k hk).2⟩) rfl rfl hl.1 rfl (lv_room (Nat.le_of_ble_eq_true rfl)) dX2_copy_99 ⟨by show cl9 + 1 ≤ 83; omega, by show sl9 + 7 ≤ 2699; omega⟩) hS (fun q _ e => Or.inr (Nat.le_trans hz e)) (fun q e => Or.inr (Nat.le_trans hz e)) (fun u x t9 H1 locs ht hvm _ hB1 hz1 hk1 hS => ?_)
        rw [ht] at hB1
        obtain ⟨hx1, hx2, h_x⟩ := hB1
        have hX := hX.keptL (fun q h _ => hk1 q h (by omega))
        have hYl := hY
        have hY := hY.keptL (fun q h _ => hk1 q h (by omega))
        have hxb : x ≠ nb := by have := hYl.1.lt; dsimp only at this; omega
        have hxc : x ≠ cd1 := by have := hYl.2.1.lt; dsimp only at this; omega
        have hxa : x ≠ al1 := by have := hYl.2.2.1.lt; dsimp only at this; omega
        have hxe : 0 < k → x ≠ el1 := fun h => by have := (hYl.2.2.2.1 h).lt; dsimp only at this; omega
        have hxk : ∀ i, i < k → x ≠ ad1 i := fun i hi => by have := (hYl.2.2.2.2.1 i hi).2.lt; dsimp only at this; omega
        have hz1 : sz ≤ H1.size := Nat.le_trans hz hz1
        have hxz : sz ≤ x := Nat.le_trans hz hx1
        clear hYl
        generalize H1 = H at hX hY hS hz1 h_x hx2 ⊢
        have hFa : sz ≤ al1 := hY.2.2.2.2.2.2.2.1.2.2.1
        have hFe : 0 < k → sz ≤ el1 := hY.2.2.2.2.2.2.2.1.2.2.2.1
        refine va_calli (va_runV (As := [.ref x]) (rest := []) ⟨hx, hb, hml, hown, hts⟩ (met_J3_add l g al1 el1 k cap1 x H.size mc1 arr1 (sTv S k) (by omega)) (cwV 1 hts (lw_V q635 q394 q395 q20 q396) rfl rfl rfl (by decide +kernel) ⟨Nat.le_of_ble_eq_true rfl, Nat.le_of_ble_eq_true rfl⟩) (gg_preV hG (hS.kp hG hAN) (gg_recv hG hY.2.2.1 rfl) ⟨rfl, hY.lx, h_x, hxa, hxe⟩) rfl rfl hl.1 rfl (lv_room (Nat.le_of_ble_eq_true rfl)) dX2_copy_102 ⟨by show cl9 + 1 + 1 ≤ 83; omega, by show sl9 + 7 + 60 ≤ 2699; omega⟩) hS (fun q _ e => by rcases (show q = al1 ∨ (0 < k ∧ q = el1) ∨ H.size ≤ q from e) with e | ⟨e1, e⟩ | e; exact Or.inr (by rw [e]; exact hFa); exact Or.inr (by rw [e]; exact hFe e1); exact Or.inr (Nat.le_trans hz1 e)) (fun q e => by rcases (show q = al1 ∨ (0 < k ∧ q = el1) ∨ H.size ≤ q from e) with e | ⟨e1, e⟩ | e; exact Or.inr (by rw [e]; exact hFa); exact Or.inr (by rw [e]; exact hFe e1); exact Or.inr (Nat.le_trans hz1 e)) (fun r_a u t9 H1 locs ht hvm _ hB1 hz2 hk1 hS => ?_)
        rw [ht] at hB1
        obtain ⟨el2, cap2, arr2, e1, e2, e3, e4, e5, e6, e7⟩ := hB1
        have hX := hX.keptL (fun q h hF => hk1 q h (fun e => by have := hFsz q hF; rcases e with e | ⟨f1, e⟩ | e; omega; have := hFe f1; omega; omega))
        have h_x := h_x.kept (hk1 x hx2 (fun e => by rcases e with e | ⟨f1, e⟩ | e; exact hxa e; exact hxe f1 e; omega))
        have hY := hY.add e1 e2 e3 e4 e5 e6 e7 h_x hk1 hx2 hxb hxc hxa hxe hxk hxz (by rcases e7 with ⟨f1, e⟩ | e; exact e ▸ hFe f1; exact Nat.le_trans hz1 e)
        have hY : BX g (fun q => sz ≤ q) nb cd1 al1 el2 cap2 (mc1 + 1) arr2 (va_up ad1 k x) (S.1, sCd S, k + 1, sTv S) H1 := by have e := va_up_id (sTv S) k; simp only [e] at hY; exact hY
        have hz := Nat.le_trans hz1 hz2
        generalize H1 = H at hX hY hS hz ⊢
        refine lv_pop hx hb dX2_copy_105 rfl ?_
        refine lv_iinc (v := nI (k + 1)) (lv' := [(2, .int (nI (k + 1))), (0, .ref b), (1, .ref nb)]) hx hb dX2_copy_106 hl (k := 0) rfl (nI_1 k) (by decide) rfl (fun ls hl => ?_)
        refine lv_goto (tgt := 73) hx hb dX2_copy_109 (by decide) ?_
        exact ih (k + 1) (by omega) (by omega) _ _ _ _ _ _ _ _ _ (by omega) (by omega) hz hX hY hS ls (lv_sub hl [0, 1, 2] rfl)
  exact loop (sN S + 1) 0 (Nat.zero_le _) (by omega) _ _ _ _ _ _ _ _ _ (by decide) (by decide) hz hX (hY.ext (sTv S) (fun k hk => absurd hk (Nat.not_lt_zero k))) hS ls (lv_sub hl [0, 2, 1] rfl)
