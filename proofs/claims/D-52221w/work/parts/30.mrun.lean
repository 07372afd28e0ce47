/-! THE MODEL STATE, on. -/
set_option maxRecDepth 100000
set_option maxHeartbeats 4000000 in
theorem met_X5_pass (l : Launch) (g : GT) (T s0 a0 : Nat) (M B : Nat → Nat) (th : Int32) (S : BS) (hok : OKS T S) (hi : Inj5 B) (hd : Apart B M) (hN : ∀ i, i < 5 → gA g (B i)) (n : Nat) (hT : T < 2 ^ 29) (hn : n ≤ 500) : Met l yX5_pass (ws_ yX5_pass cX5_pass 3 none) ({ frames := 4, cells := 0, slots := 0, locals := 87 } : Room) (PcG g [.ref (B 0), .int (nI n)] (fun H => MO g M s0 a0 th S H ∧ SP g B (M 0) S H)) (va_Qv (fun _ : Unit => True) (fun _ u => SP g B (M 0) (bRun S n) u.heap) (In5 B)) 0 0 (In5 B) := by
  refine gg_met (cc := cX5_pass) (maxL := 3) (ret := none) (by decide) (Nat.le_of_ble_eq_true rfl) ?_
  intro p e s m below meth c hx hb hr hlk hin hml hown hts hG hB ls hl
  have hown : s.vm.findClass RX5 = some m.cls := hown
  have hl : lv_has ls 3 [(0, .ref (B 0)), (1, .int (nI n))] := hl
  have hAN : ∀ q, In5 B q → gA g q := fun q ⟨i, h1, h2⟩ => by rw [h2]; exact hN i h1
  have hS : va_S (In5 B) s.heap s.heap [] := va_S.rf
  refine lv_iconst (v := 0) hx hb dX5_pass_0 (by decide) ?_
  refine lv_istore_n (lv' := [(2, .int 0), (0, .ref (B 0)), (1, .int (nI n))]) hx hb dX5_pass_1 rfl hl (by decide) rfl (fun ls hl => ?_)
  have loop : ∀ (d k : Nat), k ≤ n → n + 1 ≤ k + d → ∀ (H : Heap) (locs : List Loc), MO g M s0 a0 th S H → SP g B (M 0) (bRun S k) H → va_S (In5 B) s.heap H locs → ∀ ls : Array Slot, lv_has ls 3 [(2, .int (nI k)), (0, .ref (B 0)), (1, .int (nI n))] → W p l e ({ frames := 4, cells := 0, slots := 0, locals := 87 } : Room) s m ([.ref (B 0), .int (nI n)] : List Value).toArray below meth c H locs 0 0 (MQ below (va_Qv (fun _ : Unit => True) (fun _ u => SP g B (M 0) (bRun S n) u.heap) (In5 B)) ([.ref (B 0), .int (nI n)] : List Value).toArray s 0 0 (In5 B)) (F0 m 2 ls []) := by
    intro d
    induction d with
    | zero => intro k h1 h2; exact absurd h2 (by omega)
    | succ d ih =>
      intro k hkn hkd H locs hMO hW hS ls hl
      refine lv_iload_n hx hb dX5_pass_2 rfl (lv_at hl 0 rfl) ?_
      refine lv_iload_n hx hb dX5_pass_3 rfl (lv_at hl 2 rfl) ?_
      refine lv_icmp_ge (tgt := 17) hx hb dX5_pass_4 (by decide) (fun c_4 => ?_) (fun c_4 => ?_)
      · have hk : k = n := by rcases Nat.lt_or_ge k n with q | q; exact absurd c_4 (nI_ge q (by omega)); omega
        rw [hk] at hW
        exact W.vret hx hb hr (fun t9 h9 hW9 => ⟨⟨(), rfl, trivial, by dsimp only; rw [h9]; exact hW⟩, hS.F h9⟩) hS.2.2 dX5_pass_17
      · have hk : k < n := by rcases Nat.lt_or_ge k n with q | q; exact q; exact absurd (nI_le q (by omega)) c_4
        refine lv_aload_n hx hb dX5_pass_7 rfl (lv_at hl 1 rfl) ?_
        refine va_callv (va_runV (As := []) (rest := []) ⟨hx, hb, hml, hown, hts⟩ (met_X5_pass_2 l g (T + k) s0 a0 M B th (bRun S k) (OKS_run hok k) hi hd hN (by omega)) (cwV 0 hts (lw_V q835 q836 q837 q22 q838) rfl rfl rfl (by decide +kernel) ⟨Nat.le_of_ble_eq_true rfl, Nat.le_of_ble_eq_true rfl⟩) (gg_preV hG (hS.kp hG hAN) (gg_recv hG hW.choose_spec.choose_spec.choose_spec.choose_spec.1.1 rfl) ⟨hMO.run k, hW⟩) rfl rfl hl.1 rfl (lv_room (Nat.le_of_ble_eq_true rfl)) dX5_pass_8 ⟨Nat.le_of_ble_eq_true rfl, Nat.le_of_ble_eq_true rfl⟩) hS (fun q _ e => e) (fun q e => e) (fun u t9 H1 locs ht hvm _ hW hz1 hk1 hS => ?_)
        rw [ht] at hW
        have hMO := hMO.kept (fun i hi9 hl9 => hk1 _ hl9 (hd.symm.out hi9))
        generalize H1 = H at hMO hW hS ⊢
        refine lv_iinc (v := nI (k + 1)) (lv' := [(2, .int (nI (k + 1))), (0, .ref (B 0)), (1, .int (nI n))]) hx hb dX5_pass_11 hl (k := 0) rfl (nI_1 k) (by decide) rfl (fun ls hl => ?_)
        refine lv_goto (tgt := 2) hx hb dX5_pass_14 (by decide) ?_
        exact ih (k + 1) (by omega) (by omega) _ _ hMO hW hS ls (lv_sub hl [0, 1, 2] rfl)
  exact loop (n + 1) 0 (Nat.zero_le _) (by omega) _ _ hB.1 hB.2 hS ls (lv_sub hl [0, 1, 2] rfl)
