/-! MAKING CELLS, reference arrays, array copies, more constants. -/
set_option maxRecDepth 100000
/-- one cell more, all others as they were -/
def Grow (H H1 : Heap) : Prop := H1.size = H.size + 1 ∧ ∀ q : Nat, q < H.size → H1[q]? = H[q]?
/-- all cells but a stay -/
def Frm (a : Nat) (H H1 : Heap) : Prop := H.size ≤ H1.size ∧ ∀ q : Nat, q < H.size → q ≠ a → H1[q]? = H[q]?
theorem But.frm {a : Nat} {H H1 : Heap} (h : But a H H1) : Frm a H H1 := ⟨Nat.le_of_eq h.1.symm, fun q _ hq => h.2 q hq⟩
theorem va_at.grow {D : va_G} {cl : List vw_C} {q : Nat × va_E} {H H1 : Heap} (h : va_at D cl q H) (hb : Grow H H1) : va_at D cl q H1 := h.kept (hb.2 q.1 h.lt)
theorem va_at.frm {D : va_G} {cl : List vw_C} {q : Nat × va_E} {a : Nat} {H H1 : Heap} (h : va_at D cl q H) (hb : Frm a H H1) (hne : q.1 ≠ a) : va_at D cl q H1 := h.kept (hb.2 q.1 h.lt hne)
theorem va_S.grow {A : Nat → Prop} {H0 H H1 : Heap} {locs : List Loc} (hS : va_S A H0 H locs) (hg : Grow H H1) : va_S A H0 H1 locs := ⟨Nat.le_trans hS.1 (by rw [hg.1]; omega), fun x h1 h2 => (hg.2 x (Nat.lt_of_lt_of_le h1 hS.1)).trans (hS.2.1 x h1 h2), hS.2.2⟩
theorem va_S.mono {A B : Nat → Prop} {H0 H : Heap} {locs : List Loc} (hS : va_S A H0 H locs) (hAB : ∀ q, A q → B q) : va_S B H0 H locs := ⟨hS.1, fun q h1 h2 => hS.2.1 q h1 (fun z => h2 (hAB q z)), fun l hl => hAB _ (hS.2.2 l hl)⟩
section GGM
variable {p : Program} {l : Launch} {e : Env} {R : Room} {s : State} {m : MethodId} {args : Array Value} {below : List Frame} {meth : Method} {c : Code} {H H0 : Heap} {locs : List Loc} {cells slots : Nat} {Q : State → Prop}
variable {cc : ByteArray} {pc : Nat} {ls : Array Slot} {rest : List Value} {g : GT} {a : Nat} {A : Nat → Prop}
theorem gg_new (hx : p.tables.exec = Jvm.exec) (hb : c.code = cc) {own C : String} {T : u_T} {N ci index : Nat} (hts : ∀ w ∈ lw_all, w.before args s = true) (hin : ∀ w ∈ u_ws C T N, w ∈ lw_all) (ty : Nat → FieldType) (hty : ∀ k, k < N → parseFieldDescriptor (T k).2.2.1 = some (ty k)) (hown : s.vm.findClass own = some m.cls) (hcl : Cond.classLink own index C ∈ lw_all) (hinst : Cond.instantiable C N ∈ lw_all) (hini : Cond.initialized C ∈ lw_all) (hG : GG g s) (hS : va_S A H0 H locs) (hc : bbCl[ci]? = some (C, T, N)) {fs : List Value} (hfs : ∀ j, j < N → defaultValue (ty j) = vp_V fs j) (hcells : cells + 1 ≤ R.cells) (hslots : slots + N ≤ R.slots) (hdg : decode cc pc = .ok (.new index, 3))
    (kk : ∀ (q : Nat) (H1 : Heap), q = H.size → va_at (gD g) bbCl (q, .inr (ci, fs)) H1 → Grow H H1 → va_S A H0 H1 locs → W p l e R s m args below meth c H1 locs (cells + 1) (slots + N) Q (F0 m (pc + 3) ls (.ref q :: rest))) : W p l e R s m args below meth c H locs cells slots Q (F0 m pc ls rest) := by
  have hKn := hG.k.1 ci _ hc
  refine W.newcK hx hb hown (hts _ hcl) (hts _ hinst) (hts _ hini) rfl hdg hcells hslots hKn.2.1 rfl fun H1 kC hkC e1 z1 o1 => ?_
  exact kk H.size H1 rfl ⟨_, hc, (u_born ty hts hin hKn hkC e1 hty).to hfs⟩ ⟨z1, o1⟩ (hS.grow ⟨z1, o1⟩)
theorem gg_newi (hx : p.tables.exec = Jvm.exec) (hb : c.code = cc) (hts : ∀ w ∈ lw_all, w.before args s = true) (hG : GG g s) (hS : va_S A H0 H locs) {n : Int32} {N' : Nat} (hn : n = nI N') (hN' : N' ≤ 1000) (hcells : cells + 1 ≤ R.cells) (hslots : slots + N' ≤ R.slots) (hdg : decode cc pc = .ok (.newarray .int, 2))
    (kk : ∀ (q : Nat) (H1 : Heap), q = H.size → va_at (gD g) bbCl (q, inA g N' (fun _ => 0)) H1 → Grow H H1 → va_S A H0 H1 locs → W p l e R s m args below meth c H1 locs (cells + 1) (slots + N') Q (F0 m (pc + 2) ls (.ref q :: rest))) : W p l e R s m args below meth c H locs cells slots Q (F0 m pc ls (.int n :: rest)) := by
  subst hn
  refine va_newaK hx hb (atype := .int) (hts _ q81) rfl hdg rfl (nI_pos (by omega)) (nI_clamp (by omega)) (by show N' * 4 ≤ _; omega) hcells hslots rfl fun H1 cA e1 z1 o1 hAr hNm => ?_
  have hc : cA = gI g := Option.some.inj (hNm.symm.trans ((hG.k.2 0 _ rfl).2))
  subst hc
  exact kk H.size H1 rfl e1 ⟨z1, o1⟩ (hS.grow ⟨z1, o1⟩)
theorem gg_newj (hx : p.tables.exec = Jvm.exec) (hb : c.code = cc) (hts : ∀ w ∈ lw_all, w.before args s = true) (hG : GG g s) (hS : va_S A H0 H locs) {n : Int32} {N' : Nat} (hn : n = nI N') (hN' : N' ≤ 1000) (hcells : cells + 1 ≤ R.cells) (hslots : slots + N' ≤ R.slots) (hdg : decode cc pc = .ok (.newarray .long, 2))
    (kk : ∀ (q : Nat) (H1 : Heap), q = H.size → va_at (gD g) bbCl (q, .inl (gJ g, N', .inr (.inl (fun _ => 0)))) H1 → Grow H H1 → va_S A H0 H1 locs → W p l e R s m args below meth c H1 locs (cells + 1) (slots + N') Q (F0 m (pc + 2) ls (.ref q :: rest))) : W p l e R s m args below meth c H locs cells slots Q (F0 m pc ls (.int n :: rest)) := by
  subst hn
  refine va_newaK hx hb (atype := .long) (hts _ q886) rfl hdg rfl (nI_pos (by omega)) (nI_clamp (by omega)) (by show N' * 8 ≤ _; omega) hcells hslots rfl fun H1 cA e1 z1 o1 hAr hNm => ?_
  have hc : cA = gJ g := Option.some.inj (hNm.symm.trans ((hG.k.2 2 _ rfl).2))
  subst hc
  exact kk H.size H1 rfl e1 ⟨z1, o1⟩ (hS.grow ⟨z1, o1⟩)
theorem gg_newo (hx : p.tables.exec = Jvm.exec) (hb : c.code = cc) {own : String} {index : Nat} (hts : ∀ w ∈ lw_all, w.before args s = true) (hown : s.vm.findClass own = some m.cls) (hcl : Cond.classLink own index "java/lang/Object" ∈ lw_all) (hG : GG g s) (hS : va_S A H0 H locs) {n : Int32} {N' : Nat} (hn : n = nI N') (hN' : N' ≤ 1000) (hcells : cells + 1 ≤ R.cells) (hslots : slots + N' ≤ R.slots) (hdg : decode cc pc = .ok (.anewarray index, 3))
    (kk : ∀ (q : Nat) (H1 : Heap), q = H.size → va_at (gD g) bbCl (q, rfA g N' (fun _ => none)) H1 → Grow H H1 → va_S A H0 H1 locs → W p l e R s m args below meth c H1 locs (cells + 1) (slots + N') Q (F0 m (pc + 3) ls (.ref q :: rest))) : W p l e R s m args below meth c H locs cells slots Q (F0 m pc ls (.int n :: rest)) := by
  subst hn
  have hN : (nI N').toNatClampNeg = N' := nI_clamp (by omega)
  refine W.anew hx hb hown (hts _ hcl) (va_AO.use hG.1.2.1) rfl hdg rfl (nI_pos (by omega)) (by rw [hN]; omega) hcells (by rw [hN]; exact hslots) fun cA kA comp f1 f2 f3 f4 => ?_
  rw [hN]
  generalize hH1 : H.push ({ cls := cA, slots := Array.replicate N' .null, vm := .none } : Cell) = H1
  have z1 : H1.size = H.size + 1 := by rw [← hH1, Array.size_push]
  have e1 : H1[H.size]? = some (arrV cA N' (fun _ => .null)) := by rw [← hH1, Array.getElem?_push_size, ← arrV_new]
  have o1 : ∀ q : Nat, q < H.size → H1[q]? = H[q]? := fun q hq => by rw [← hH1, Array.getElem?_push, if_neg (Nat.ne_of_lt hq)]
  obtain ⟨_, _, _, _, _, h4⟩ := (hG.k.2 1 _ rfl).2
  have hc : cA = gO g := Option.some.inj (f1.symm.trans h4)
  subst hc
  exact kk H.size H1 rfl e1 ⟨z1, o1⟩ (hS.grow ⟨z1, o1⟩)
/-- a traveller may stand in an Object[] -/
theorem gg_any (hG : GG g s) {t : TT} (h : va_at (gD g) bbCl (a, tvE g t) H) : va_Any "java/lang/Object" s H a := by
  refine va_rAny hG.k (P1 h) (q0 := 0) rfl (ci := 2) (r := (RX6, TX6, 7)) rfl ?_
  intro comp c0 h1 h2
  obtain ⟨c9, t9, f1, f2, f3⟩ := Cond.castable_spec (hG.nb (a := #[]) q899 rfl)
  cases h2.symm.trans f1
  cases h1.symm.trans f2
  exact f3
theorem gg_aast (hx : p.tables.exec = Jvm.exec) (hb : c.code = cc) (hG : GG g s) {n v : Nat} {f : Nat → Option Nat} (hat : va_at (gD g) bbCl (a, rfA g n f) H) (hS0 : va_S A H0 H locs) (hA : A a) (hv : va_Any "java/lang/Object" s H v) {i : Int32} (j : Nat) (hj : j < n) (hn : n < 2 ^ 31) (hi : i = nI j) (hdg : decode cc pc = .ok (.aastore, 1))
    (kk : ∀ (H1 : Heap) (locs1 : List Loc), va_at (gD g) bbCl (a, rfA g n (va_up f j (some v))) H1 → But a H H1 → va_S A H0 H1 locs1 → W p l e R s m args below meth c H1 locs1 cells slots Q (F0 m (pc + 1) ls rest)) : W p l e R s m args below meth c H locs cells slots Q (F0 m pc ls (.ref v :: .int i :: .ref a :: rest)) := by
  subst hi
  have h00 : H[a]? = some (vp_cell (gO g) (n, .inr (.inr (.inr (.inr f))))) := hat
  obtain ⟨cellV, g1, g3, ⟨kC, hkC⟩, hasg⟩ := hv
  obtain ⟨kA, comp, k1, k2, k3, -⟩ := (hG.k.2 1 _ rfl).2
  obtain ⟨kE, hkE, -⟩ := Vm.findClass_spec k3
  have hcl : (nI j).toNatClampNeg = j := nI_clamp (Nat.lt_trans hj hn)
  refine W.aast hx hb h00 (fun q h => by cases h) (fun h => by cases h) k1 k2 rfl hkE ⟨nI_pos (Nat.lt_trans hj hn), by show _ < (arrV _ _ _).slots.size; rw [arrV_size, hcl]; exact hj⟩ g1 (fun q h => by rw [h] at g3; cases g3) hkC (hasg _ k3) rfl rfl hdg fun H1 e z oq => ?_
  refine kk H1 _ ?_ ⟨z, oq⟩ (hS0.put z oq hA)
  show H1[a]? = some (vp_cell _ _)
  rw [e]
  rw [vp_cell_q, vp_cell_q, arrV_store, hcl]
  congr 2
  funext q
  by_cases hq : q = j
  · subst hq
    simp [updV, va_up, va_rf]
  · simp [updV, va_up, hq]
/-- System.arraycopy between two int arrays, from 0 to 0 -/
theorem gg_copyi (hx : p.tables.exec = Jvm.exec) (hb : c.code = cc) (hml : c.maxLocals = ls.size) {own : String} {index : Nat} (hts : ∀ w ∈ lw_all, w.before args s = true) (hown : s.vm.findClass own = some m.cls) (hlink : Cond.methodLink own index arraycopyName ∈ lw_all) (hG : GG g s) {a0 n0 n1 n : Nat} {f f1 : Nat → Int32} (h0 : va_at (gD g) bbCl (a0, inA g n0 f) H) (h1 : va_at (gD g) bbCl (a, inA g n1 f1) H) (hne : a0 ≠ a) (hS : va_S A s.heap H []) (hA0 : A a0) (hA1 : A a) (hn0 : n ≤ n0) (hn1 : n ≤ n1) (hn31 : n < 2 ^ 31) {w : Int32} (hw : w = nI n)
    (hframes : 1 ≤ R.frames) (hlocals : (rest.map fun v => v.category).sum + (nativeFrameWords "java/lang/System" "arraycopy" 5 + 11) ≤ R.locals) (hdg : decode cc pc = .ok (.invokestatic index, 3))
    (kk : ∀ (H1 : Heap) (locs1 : List Loc), va_at (gD g) bbCl (a, inA g n1 (va_cpy f f1 0 0 n)) H1 → Frm a H H1 → va_S A s.heap H1 locs1 → W p l e R s m args below meth c H1 locs1 cells slots Q (F0 m (pc + 3) ls rest)) : W p l e R s m args below meth c H [] cells slots Q (F0 m pc ls (.int w :: .int 0 :: .ref a :: .int 0 :: .ref a0 :: rest)) := by
  subst hw
  have hP : va_P (gD g) bbCl [(a0, inA g n0 f), (a, inA g n1 f1)] H := va_P.app (P1 h0) (P1 h1)
  have hD : va_D (fun q => q = a0 ∨ q = a) [(a0, inA g n0 f), (a, inA g n1 f1)] := by
    refine ⟨fun i j x y hi hj e => ?_, fun k q hk => ?_⟩
    · match i, j, hi, hj with
      | 0, 0, _, _ => rfl
      | 1, 1, _, _ => rfl
      | 0, 1, hi, hj => cases hi; cases hj; exact absurd e hne
      | 1, 0, hi, hj => cases hi; cases hj; exact absurd e.symm hne
      | i + 2, _, hi, _ => simp at hi
      | 0, j + 2, _, hj => simp at hj
      | 1, j + 2, _, hj => simp at hj
    · match k, hk with
      | 0, hk => cases hk; exact Or.inl rfl
      | 1, hk => cases hk; exact Or.inr rfl
      | k + 2, hk => simp at hk
  have hcn : (nI n).toNatClampNeg = n := nI_clamp hn31
  have hc0 : (0 : Int32).toNatClampNeg = 0 := by decide
  refine va_copyi hx hb hml hown (hts _ hlink) (hts _ q449) (hts _ q448) (hts _ q33) hG.k hP hD (va_S.rf (H0 := H)) 0 1 0 0 rfl rfl rfl rfl rfl (by decide) (by decide) (nI_pos hn31) (by rw [hcn, hc0]; omega) (by rw [hcn, hc0]; omega) (fun _ _ => rfl) hframes hlocals hdg (fun H1 locs1 hP1 _ hS1 => ?_)
  rw [hcn, hc0] at hP1
  have e0 : va_at (gD g) bbCl (a0, inA g n0 f) H1 := hP1 0 _ rfl
  have e1 : va_at (gD g) bbCl (a, inA g n1 (va_cpy f f1 0 0 n)) H1 := hP1 1 _ rfl
  have hF : Frm a H H1 := ⟨hS1.1, fun q h2 h3 => by
    by_cases hq : q = a0
    · subst hq
      exact (show H1[q]? = _ from e0).trans (show H[q]? = _ from h0).symm
    · exact hS1.2.1 q h2 (fun z => z.elim hq h3)⟩
  refine kk H1 locs1 e1 hF ⟨Nat.le_trans hS.1 hF.1, fun q h2 h3 => ?_, fun l hl => ?_⟩
  · rw [hF.2 q (Nat.lt_of_lt_of_le h2 hS.1) (fun e => h3 (by rw [e]; exact hA1))]
    exact hS.2.1 q h2 h3
  · rcases hS1.2.2 l hl with h | h
    · rw [h]; exact hA0
    · rw [h]; exact hA1
/-- System.arraycopy between two Object arrays, from 0 to 0 -/
theorem gg_copyq (hx : p.tables.exec = Jvm.exec) (hb : c.code = cc) (hml : c.maxLocals = ls.size) {own : String} {index : Nat} (hts : ∀ w ∈ lw_all, w.before args s = true) (hown : s.vm.findClass own = some m.cls) (hlink : Cond.methodLink own index arraycopyName ∈ lw_all) (hG : GG g s) {a0 n0 n1 n : Nat} {f f1 : Nat → Option Nat} (h0 : va_at (gD g) bbCl (a0, rfA g n0 f) H) (h1 : va_at (gD g) bbCl (a, rfA g n1 f1) H) (hne : a0 ≠ a) (hS : va_S A s.heap H []) (hA0 : A a0) (hA1 : A a) (hn0 : n ≤ n0) (hn1 : n ≤ n1) (hn31 : n < 2 ^ 31) (hel : ∀ i y : Nat, i < n → f i = some y → va_Any "java/lang/Object" s H y) {w : Int32} (hw : w = nI n)
    (hframes : 1 ≤ R.frames) (hlocals : (rest.map fun v => v.category).sum + (nativeFrameWords "java/lang/System" "arraycopy" 5 + 11) ≤ R.locals) (hdg : decode cc pc = .ok (.invokestatic index, 3))
    (kk : ∀ (H1 : Heap) (locs1 : List Loc), va_at (gD g) bbCl (a0, rfA g n0 f) H1 → va_at (gD g) bbCl (a, rfA g n1 (va_cpy f f1 0 0 n)) H1 → Frm a H H1 → va_S A s.heap H1 locs1 → W p l e R s m args below meth c H1 locs1 cells slots Q (F0 m (pc + 3) ls rest)) : W p l e R s m args below meth c H [] cells slots Q (F0 m pc ls (.int w :: .int 0 :: .ref a :: .int 0 :: .ref a0 :: rest)) := by
  subst hw
  have hP : va_P (gD g) bbCl [(a0, rfA g n0 f), (a, rfA g n1 f1)] H := va_P.app (P1 h0) (P1 h1)
  have hD : va_D (fun q => q = a0 ∨ q = a) [(a0, rfA g n0 f), (a, rfA g n1 f1)] := by
    refine ⟨fun i j x y hi hj e => ?_, fun k q hk => ?_⟩
    · match i, j, hi, hj with
      | 0, 0, _, _ => rfl
      | 1, 1, _, _ => rfl
      | 0, 1, hi, hj => cases hi; cases hj; exact absurd e hne
      | 1, 0, hi, hj => cases hi; cases hj; exact absurd e.symm hne
      | i + 2, _, hi, _ => simp at hi
      | 0, j + 2, _, hj => simp at hj
      | 1, j + 2, _, hj => simp at hj
    · match k, hk with
      | 0, hk => cases hk; exact Or.inl rfl
      | 1, hk => cases hk; exact Or.inr rfl
      | k + 2, hk => simp at hk
  have hcn : (nI n).toNatClampNeg = n := nI_clamp hn31
  have hc0 : (0 : Int32).toNatClampNeg = 0 := by decide
  refine va_copyM hx hb hml hown (hts _ hlink) (hts _ q449) (hts _ q448) (hts _ q33) hG.k hP hD (va_S.rf (H0 := H)) 0 1 1 1 rfl rfl rfl rfl (by decide) (by decide) (nI_pos hn31) (by rw [hcn, hc0]; omega) (by rw [hcn, hc0]; omega) (fun i hi y hy => hel i y (by rw [hcn] at hi; exact hi) (by rw [hc0, Nat.zero_add] at hy; exact hy)) hframes hlocals hdg (fun H1 locs1 hP1 _ hS1 => ?_)
  rw [hcn, hc0] at hP1
  have e0 : va_at (gD g) bbCl (a0, rfA g n0 f) H1 := hP1 0 _ rfl
  have e1 : va_at (gD g) bbCl (a, rfA g n1 (va_cpy f f1 0 0 n)) H1 := hP1 1 _ rfl
  have hF : Frm a H H1 := ⟨hS1.1, fun q h2 h3 => by
    by_cases hq : q = a0
    · subst hq
      exact (show H1[q]? = _ from e0).trans (show H[q]? = _ from h0).symm
    · exact hS1.2.1 q h2 (fun z => z.elim hq h3)⟩
  refine kk H1 locs1 e0 e1 hF ⟨Nat.le_trans hS.1 hF.1, fun q h2 h3 => ?_, fun l hl => ?_⟩
  · rw [hF.2 q (Nat.lt_of_lt_of_le h2 hS.1) (fun e => h3 (by rw [e]; exact hA1))]
    exact hS.2.1 q h2 h3
  · rcases hS1.2.2 l hl with h | h
    · rw [h]; exact hA0
    · rw [h]; exact hA1
/-- Code's constants; the empty array of lists -/
theorem gg_getC (hx : p.tables.exec = Jvm.exec) (hb : c.code = cc) {own : String} {index : Nat} (hts : ∀ w ∈ lw_all, w.before args s = true) (hown : s.vm.findClass own = some m.cls) (hG : GG g s) (hq : Kp g s H) (i : Nat) (hi : i < 5) {nm : String} (hn : gCn.getD i "" = nm) (hlink : Cond.fieldLink own index "BridgeBells$Code" nm "LBridgeBells$Code;" ∈ lw_all) (hdg : decode cc pc = .ok (.getstatic index, 3))
    (kk : W p l e R s m args below meth c H locs cells slots Q (F0 m (pc + 3) ls (.ref (gC g i) :: rest))) : W p l e R s m args below meth c H locs cells slots Q (F0 m pc ls rest) := by
  subst hn
  obtain ⟨cf, kf, fi, f, a, cell, h1, h2, h3, h4, h5, h6, h7, h8⟩ := ((hG.co hi).1).kept hq.2
  exact W.gets hx hb hown (hts _ hlink) h1 h2 h3 h4 h5 (fun e => by rw [e] at h6; cases h6) h7 rfl hdg kk
theorem gg_getE (hx : p.tables.exec = Jvm.exec) (hb : c.code = cc) {own : String} {index : Nat} (hts : ∀ w ∈ lw_all, w.before args s = true) (hown : s.vm.findClass own = some m.cls) (hG : GG g s) (hq : Kp g s H) (hlink : Cond.fieldLink own index "java/util/ArrayList" "DEFAULTCAPACITY_EMPTY_ELEMENTDATA" "[Ljava/lang/Object;" ∈ lw_all) (hdg : decode cc pc = .ok (.getstatic index, 3))
    (kk : W p l e R s m args below meth c H locs cells slots Q (F0 m (pc + 3) ls (.ref (gE g) :: rest))) : W p l e R s m args below meth c H locs cells slots Q (F0 m pc ls rest) := by
  obtain ⟨cf, kf, fi, f, a, cell, h1, h2, h3, h4, h5, h6, h7, h8⟩ := (hG.2.2.1.2.2.2.2.1).kept hq.2
  exact W.gets hx hb hown (hts _ hlink) h1 h2 h3 h4 h5 (fun e => by rw [e] at h6; cases h6) h7 rfl hdg kk
theorem gg_lenE (hx : p.tables.exec = Jvm.exec) (hb : c.code = cc) (hG : GG g s) (hS : va_S A s.heap H locs) (hAN : ∀ q, A q → gA g q) (hdg : decode cc pc = .ok (.arraylength, 1))
    (kk : W p l e R s m args below meth c H locs cells slots Q (F0 m (pc + 1) ls (.int (nI 0) :: rest))) : W p l e R s m args below meth c H locs cells slots Q (F0 m pc ls (.ref (gE g) :: rest)) :=
  va_tlen hx hb ((hG.2.2.1.2.2.2.2.2.1).narrow hAN) hS rfl hdg kk
theorem gg_len (hx : p.tables.exec = Jvm.exec) (hb : c.code = cc) (hG : GG g s) {n : Nat} {f : Nat → Option Nat} (h : va_at (gD g) bbCl (a, rfA g n f) H) (hdg : decode cc pc = .ok (.arraylength, 1))
    (kk : W p l e R s m args below meth c H locs cells slots Q (F0 m (pc + 1) ls (.int (nI n) :: rest))) : W p l e R s m args below meth c H locs cells slots Q (F0 m pc ls (.ref a :: rest)) :=
  va_alen hx hb hG.k (P1 h) 0 1 rfl rfl rfl hdg kk
theorem gg_leni (hx : p.tables.exec = Jvm.exec) (hb : c.code = cc) (hG : GG g s) {n : Nat} {f : Nat → Int32} (h : va_at (gD g) bbCl (a, inA g n f) H) (hdg : decode cc pc = .ok (.arraylength, 1))
    (kk : W p l e R s m args below meth c H locs cells slots Q (F0 m (pc + 1) ls (.int (nI n) :: rest))) : W p l e R s m args below meth c H locs cells slots Q (F0 m pc ls (.ref a :: rest)) :=
  va_alen hx hb hG.k (P1 h) 0 0 rfl rfl rfl hdg kk
end GGM
