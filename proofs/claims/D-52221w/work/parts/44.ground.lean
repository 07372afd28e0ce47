/-! THE GROUND AT THE START. -/
set_option maxRecDepth 100000
theorem ar_of {s : State} {cA : ClassId} {ty : FieldType} {kA : Class} {comp : ClassId} (f2 : s.vm.classes[cA]? = some kA) (f3 : kA.kind = .array comp ty) : ArrOfT s cA ty := fun n z => ⟨fun k h => (by cases h), kA, f2, comp, f3⟩
theorem fold_all (f : Nat → Option Bool) : ∀ (l : List Nat) (acc : Option Bool), l.foldl (fun acc i => match acc with | some true => f i | x => x) acc = some true → acc = some true ∧ ∀ i ∈ l, f i = some true
  | [], acc, h => ⟨h, fun i hi => absurd hi List.not_mem_nil⟩
  | j :: l, acc, h => by
    obtain ⟨h1, h2⟩ := fold_all f l _ h
    cases acc with
    | none => exact absurd h1 (by simp)
    | some b =>
      cases b with
      | false => exact absurd h1 (by simp)
      | true => exact ⟨rfl, fun i hi => (List.mem_cons.mp hi).elim (fun e => by rw [e]; exact h1) (h2 i)⟩
theorem all_at {args : Array Value} {s : State} {t : Term} {c : Cond} {a : Addr} {cell : Cell} (ht : t.eval args s none [] s = some (.ref a)) (hc : s.arrayAt? a = some cell) (h : (Cond.all t c).before args s = true) : ∀ i, i < cell.slots.size → c.value args s none s [i] = some true := by
  simp only [Cond.before, Cond.holds, Cond.value, ht, hc, beq_iff_eq] at h
  intro i hi
  exact (fold_all (fun i => c.value args s none s [i]) _ _ h).2 i (List.mem_range.mpr hi)
theorem GG_of {s : State} {args : Array Value} (hts : ∀ w ∈ lw_tbl, w.before args s = true) (hgv : (Jvm.Cond.and given_1 narrow_1).before args s = true) : ∃ g : GT, gN g = s.heap.size ∧ GG g s := by
  have hs := flat_of_before _ hgv
  have hta : ∀ w ∈ lw_all, w.before args s = true := fun w h => hts w (lw_all_tbl h)
  obtain ⟨c0, i0, k0⟩ := u_known hta in_X1 (n := 1) (hta _ q40)
  obtain ⟨c1, i1, k1⟩ := u_known hta in_X2 (n := 8) (hta _ q48)
  obtain ⟨c2, i2, k2⟩ := u_known hta in_X6 (n := 7) (hta _ q356)
  obtain ⟨c3, i3, k3⟩ := u_known hta in_J3 (n := 3) (hta _ q56)
  obtain ⟨c4, i4, k4⟩ := u_known hta in_X4 (n := 8) (hta _ q659)
  obtain ⟨c5, i5, k5⟩ := u_known hta in_X5 (n := 12) (hta _ q665)
  obtain ⟨cI, kI, pI, fI1, fI2, fI3⟩ := Cond.arrayClass_spec (hta _ q81)
  obtain ⟨cJ, kJ, pJ, fJ1, fJ2, fJ3⟩ := Cond.arrayClass_spec (hta _ q886)
  obtain ⟨pO, cO, kO, fO0, -, fO1, fO2, fO3⟩ := Cond.arrayOver_spec (hts _ q444)
  obtain ⟨pK, cK, kK, fK0, -, fK1, fK2, fK3⟩ := Cond.arrayOver_spec (hts _ q550)
  obtain ⟨mi, hmi⟩ := va_Mi.of (C := "[Ljava/lang/Object;") (hs _ (by decide +kernel))
  have hA : ∀ a : Nat, a < s.heap.size → ¬ s.heap.size ≤ a := fun a h => Nat.not_le.mpr h
  obtain ⟨aS, hEn⟩ := va_Enof (A := fun q => s.heap.size ≤ q) (E := "BridgeBells$State") (d := "LBridgeBells$State;") (nm := gSn) (F := [("java/lang/Enum", "ordinal", "I", [0, 1, 2, 3])]) (args := args) (s := s)
    (fun i hi => by rcases (show i = 0 ∨ i = 1 ∨ i = 2 ∨ i = 3 by have : i < 4 := hi; omega) with rfl | rfl | rfl | rfl; exact hts _ q219; exact hts _ q202; exact hts _ q192; exact hts _ q531)
    (hta _ q29)
    (fun i hi => by rcases (show i = 0 ∨ i = 1 ∨ i = 2 ∨ i = 3 by have : i < 4 := hi; omega) with rfl | rfl | rfl | rfl <;> exact hs _ (by decide +kernel))
    (fun q hq i hi => by rw [List.mem_singleton.mp hq]; rcases (show i = 0 ∨ i = 1 ∨ i = 2 ∨ i = 3 by have : i < 4 := hi; omega) with rfl | rfl | rfl | rfl <;> exact hs _ (by decide +kernel))
    (fun i j hi hj hij => by
      rcases (show i = 0 ∨ i = 1 ∨ i = 2 ∨ i = 3 by have : i < 4 := hi; omega) with rfl | rfl | rfl | rfl <;> rcases (show j = 0 ∨ j = 1 ∨ j = 2 ∨ j = 3 by have : j < 4 := hj; omega) with rfl | rfl | rfl | rfl <;> first | exact absurd rfl hij | exact Or.inl (hs _ (by decide +kernel)) | exact Or.inr (hs _ (by decide +kernel))) hA
  have hx0 : (Cond.exactly (.static "BridgeBells$Code" "FIRST" "LBridgeBells$Code;") "BridgeBells$Code$1").before args s = true := hs _ (by decide +kernel)
  obtain ⟨a0, -, -, -, t0, -⟩ := Cond.exactly_spec hx0
  have hx1 : (Cond.exactly (.static "BridgeBells$Code" "BARGES" "LBridgeBells$Code;") "BridgeBells$Code$2").before args s = true := hs _ (by decide +kernel)
  obtain ⟨a1, -, -, -, t1, -⟩ := Cond.exactly_spec hx1
  have hx2 : (Cond.exactly (.static "BridgeBells$Code" "CARTS" "LBridgeBells$Code;") "BridgeBells$Code$3").before args s = true := hs _ (by decide +kernel)
  obtain ⟨a2, -, -, -, t2, -⟩ := Cond.exactly_spec hx2
  have hx3 : (Cond.exactly (.static "BridgeBells$Code" "BY_TURNS" "LBridgeBells$Code;") "BridgeBells$Code$4").before args s = true := hs _ (by decide +kernel)
  obtain ⟨a3, -, -, -, t3, -⟩ := Cond.exactly_spec hx3
  have hx4 : (Cond.exactly (.static "BridgeBells$Code" "NOBODY" "LBridgeBells$Code;") "BridgeBells$Code$5").before args s = true := hs _ (by decide +kernel)
  obtain ⟨a4, -, -, -, t4, -⟩ := Cond.exactly_spec hx4
  have ht : ∀ i, i < 5 → (Term.static "BridgeBells$Code" (gCn.getD i "") "LBridgeBells$Code;").eval args s none [] s = some (.ref ([a0, a1, a2, a3, a4].getD i 0)) := fun i hi => by
    rcases (show i = 0 ∨ i = 1 ∨ i = 2 ∨ i = 3 ∨ i = 4 by omega) with rfl | rfl | rfl | rfl | rfl
    · exact t0
    · exact t1
    · exact t2
    · exact t3
    · exact t4
  have hEf := va_Efof (A := fun q => s.heap.size ≤ q) (N := 5) (o := "java/lang/Enum") (n := "ordinal") (d := "I") (v := fun i => .int (nI i)) (tm := fun i => .int (nI i)) ht (fun i hi => by
    rcases (show i = 0 ∨ i = 1 ∨ i = 2 ∨ i = 3 ∨ i = 4 by omega) with rfl | rfl | rfl | rfl | rfl <;> exact hs _ (by decide +kernel)) (fun i _ => rfl) hA
  have hlay : ∀ i, i < 5 → (Cond.laysStatic "BridgeBells$Code" (gCn.getD i "") "LBridgeBells$Code;").before args s = true := fun i hi => by
    rcases (show i = 0 ∨ i = 1 ∨ i = 2 ∨ i = 3 ∨ i = 4 by omega) with rfl | rfl | rfl | rfl | rfl
    · exact hts _ q54
    · exact hts _ q923
    · exact hts _ q924
    · exact hts _ q925
    · exact hts _ q926
  have hex : ∀ i, i < 5 → (Cond.exactly (.static "BridgeBells$Code" (gCn.getD i "") "LBridgeBells$Code;") (gCx.getD i "")).before args s = true := fun i hi => by
    rcases (show i = 0 ∨ i = 1 ∨ i = 2 ∨ i = 3 ∨ i = 4 by omega) with rfl | rfl | rfl | rfl | rfl
    · exact hx0
    · exact hx1
    · exact hx2
    · exact hx3
    · exact hx4
  have hVx : (Cond.exactly (.static "BridgeBells$Code" "$VALUES" "[LBridgeBells$Code;") "[LBridgeBells$Code;").before args s = true := hs _ (by decide +kernel)
  have hVa : (Cond.arrayOf (.static "BridgeBells$Code" "$VALUES" "[LBridgeBells$Code;") (.object "BridgeBells$Code")).before args s = true := hs _ (by decide +kernel)
  have hVl : (Cond.all (.static "BridgeBells$Code" "$VALUES" "[LBridgeBells$Code;") (.le (.index 0) (.int 4))).before args s = true := hs _ (by decide +kernel)
  have hVe : ∀ i, i < 5 → (Term.elem (.static "BridgeBells$Code" "$VALUES" "[LBridgeBells$Code;") (.int (nI i))).eval args s none [] s = some (.ref ([a0, a1, a2, a3, a4].getD i 0)) := fun i hi => by
    refine Cond.eq_refs (b := .static "BridgeBells$Code" (gCn.getD i "") "LBridgeBells$Code;") ?_ (ht i hi) rfl
    rcases (show i = 0 ∨ i = 1 ∨ i = 2 ∨ i = 3 ∨ i = 4 by omega) with rfl | rfl | rfl | rfl | rfl <;> exact hs _ (by decide +kernel)
  obtain ⟨v, cV, cellV, kV, tV, fV, hcV, -, hstV, hclV, -⟩ := Cond.exactly_spec hVx
  have hcK : cV = cK := Option.some.inj (fV.symm.trans fK3)
  obtain ⟨-, hknV⟩ := Cond.arrayOf_spec hVa tV hcV
  have hkey : ∀ j : Nat, j < 5 → s.arrayAt? v = some cellV ∧ j < cellV.slots.size ∧ cellV.slots[j]? = some (.ref ([a0, a1, a2, a3, a4].getD j 0)) := by
    intro j hj
    obtain ⟨a, i, cell2, h1, h2, h3, h4, h5⟩ := Term.elem_spec (hVe j hj)
    cases tV.symm.trans h1
    obtain ⟨hcell, -, -, -⟩ := State.arrayAt?_spec h3
    cases hcV.symm.trans hcell
    have hi : i = nI j := by
      have e : (Term.int (nI j)).eval args s none [] s = some (.int (nI j)) := rfl
      cases h2.symm.trans e
      rfl
    rw [hi, nI_clamp (by omega)] at h4 h5
    exact ⟨h3, Nat.not_le.mp fun q => h4 (Or.inr q), h5⟩
  have hszV : cellV.slots.size = 5 := by
    have h4 := (hkey 4 (by decide)).2.1
    rcases Nat.lt_or_ge 5 cellV.slots.size with q | q
    · exfalso
      have hv := all_at tV (hkey 0 (by decide)).1 hVl 5 q
      rw [Cond.le_ints (x := nI 5) (y := 4) rfl rfl] at hv
      exact absurd hv (by decide)
    · omega
  have hEl := va_eqv (t := .length (.static "java/util/ArrayList" "DEFAULTCAPACITY_EMPTY_ELEMENTDATA" "[Ljava/lang/Object;")) (show (Cond.eq (.length (.static "java/util/ArrayList" "DEFAULTCAPACITY_EMPTY_ELEMENTDATA" "[Ljava/lang/Object;")) (.int 0)).before args s = true from hs _ (by decide +kernel)) (show (Term.int 0).eval args s none [] s = some (.int 0) from rfl)
  obtain ⟨eE, tE, hTE⟩ := va_Tof (A := fun q => s.heap.size ≤ q) (N := 0) (f := fun _ => .null) (tm := .static "java/util/ArrayList" "DEFAULTCAPACITY_EMPTY_ELEMENTDATA" "[Ljava/lang/Object;") (ty := .object "java/lang/Object") (by decide) (hs _ (by decide +kernel)) hEl (fun j hj => absurd hj (Nat.not_lt_zero _)) hA
  refine ⟨((fun c => [c0, c1, c2, c3, c4, c5].getD c c0, fun c => [i0, i1, i2, i3, i4, i5].getD c i0), (cI, cO, cJ, cK), aS, (fun i => [a0, a1, a2, a3, a4].getD i 0), v, eE, mi, s.heap.size), rfl, ⟨⟨?_, ?_⟩, va_AO.of (hts _ q444), va_AO.of (hts _ q550), hmi, va_Fw.of (hts _ q498) (hts _ q497) (hts _ q502) (hts _ q501) (hts _ q499), va_Fw.of (hts _ q524) (hts _ q523) (hts _ q527) (hts _ q526) (hts _ q499), va_Nc.of (hs _ (by decide +kernel)), va_Nc.of (hs _ (by decide +kernel)), va_Nc.of (hs _ (by decide +kernel)), va_Nc.of (hs _ (by decide +kernel)), va_Nc.of (hs _ (by decide +kernel)), va_Nc.of (hs _ (by decide +kernel))⟩, fun w hw => va_Nw.of (nw_tab (List.mem_filter.mp hw).2) (hts w (List.mem_filter.mp hw).1), ⟨hEn, fun i hi => ⟨va_Zof (hlay i hi) (hta _ q17) (ht i hi) hA, va_Oof (hex i hi) (ht i hi) hA, hEf i hi⟩, va_Zof (hts _ q543) (hta _ q17) tV hA, ⟨cellV, hcV, hclV.trans hcK, ?_, hknV, hstV, hA _ (Array.getElem?_eq_some_iff.mp hcV).1⟩, va_Zof (hts _ q68) (hta _ q20) tE hA, hTE, vx_Zqof (hts _ q300) (hta _ q23) (hs _ (by decide +kernel)) hA, vx_Zqof (hts _ q302) (hta _ q23) (hs _ (by decide +kernel)) hA⟩, Nat.le_refl _⟩
  · intro c q hq
    match c, hq with
    | 0, hq => cases hq; exact k0
    | 1, hq => cases hq; exact k1
    | 2, hq => cases hq; exact k2
    | 3, hq => cases hq; exact k3
    | 4, hq => cases hq; exact k4
    | 5, hq => cases hq; exact k5
    | c + 6, hq => simp at hq
  · intro k q hq
    match k, hq with
    | 0, hq => cases hq; exact ⟨ar_of fI2 fI3, fI1⟩
    | 1, hq => cases hq; exact ⟨ar_of fO1 fO2, kO, pO, fO1, fO2, fO0, fO3⟩
    | 2, hq => cases hq; exact ⟨ar_of fJ2 fJ3, fJ1⟩
    | 3, hq => cases hq; exact ⟨ar_of fK1 fK2, kK, pK, fK1, fK2, fK0, fK3⟩
    | k + 4, hq => simp at hq
  · refine Array.ext_getElem? (fun i => ?_)
    rw [vp_cell_q]
    by_cases hi : i < 5
    · rw [(hkey i hi).2.2, arrV_read _ _ hi]
      rfl
    · rw [Array.getElem?_eq_none (by omega), Array.getElem?_eq_none (by rw [arrV_size]; omega)]
