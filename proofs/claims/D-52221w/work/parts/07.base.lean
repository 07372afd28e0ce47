/-! THE COMMON GROUND of all walks: the classes of the worlds, what is known of tables and constants (GG), the head of a contract, calls. -/
set_option maxRecDepth 100000
abbrev bbCl : List vw_C := [(RX1, TX1, 1), (RX2, TX2, 8), (RX6, TX6, 7), (RJ3, TJ3, 3), (RX4, TX4, 8), (RX5, TX5, 12)]
/-- the classes' numbers and slots; the array classes int[], Object[], long[], Code[]; State's constants, Code's constants; Code.$VALUES, ArrayList's empty array, Object[]'s class object; the first address that is ours -/
abbrev GT : Type := va_G × (ClassId × ClassId × ClassId × ClassId) × (Nat → Nat) × (Nat → Nat) × Nat × Nat × Nat × Nat
abbrev gD (g : GT) : va_G := g.1
abbrev gI (g : GT) : ClassId := g.2.1.1
abbrev gO (g : GT) : ClassId := g.2.1.2.1
abbrev gJ (g : GT) : ClassId := g.2.1.2.2.1
abbrev gK (g : GT) : ClassId := g.2.1.2.2.2
abbrev gS (g : GT) : Nat → Nat := g.2.2.1
abbrev gC (g : GT) : Nat → Nat := g.2.2.2.1
abbrev gV (g : GT) : Nat := g.2.2.2.2.1
abbrev gE (g : GT) : Nat := g.2.2.2.2.2.1
abbrev gM (g : GT) : Nat := g.2.2.2.2.2.2.1
abbrev gN (g : GT) : Nat := g.2.2.2.2.2.2.2
def gA (g : GT) : Nat → Prop := fun q => gN g ≤ q
abbrev gT (g : GT) : List (ClassId × FieldType) := [(gI g, .int), (gO g, .object "java/lang/Object"), (gJ g, .long), (gK g, .object "BridgeBells$Code")]
/-- words of the tables that don't ride in the lists -/
def isN : Cond → Bool
  | .fieldLinkNest _ _ _ _ _ _ => true
  | .methodLinkNest _ _ _ _ => true
  | .castable _ _ => true
  | .declares _ => true
  | _ => false
def lw_nw : List Cond := lw_tbl.filter isN
theorem lw_n {w : Cond} (h : w ∈ lw_tbl) (k : isN w = true) : w ∈ lw_nw := List.mem_filter.mpr ⟨h, k⟩
theorem nw_warm {w : Cond} (h : isN w = true) {s U : State} (hW : s.WarmedH U.vm) (hZ : va_Nw w s) : va_Nw w U := by
  cases w <;> first | exact va_Nw.warmF hW hZ | exact va_Nw.warmM hW hZ | exact va_Nw.warmC hW hZ | exact va_Nw.warmD hW hZ | (exact absurd h (by simp [isN]))
theorem nw_tab {w : Cond} (h : isN w = true) : w.onTables = true := by
  cases w <;> first | rfl | (exact absurd h (by simp [isN]))
abbrev gSn : List String := ["WAITS", "PASSES", "PASSED", "GONE"]
abbrev gCn : List String := ["FIRST", "BARGES", "CARTS", "BY_TURNS", "NOBODY"]
abbrev gCx : List String := ["BridgeBells$Code$1", "BridgeBells$Code$2", "BridgeBells$Code$3", "BridgeBells$Code$4", "BridgeBells$Code$5"]
abbrev yL_size : MethodName := ⟨"java/util/List", "size", "()I"⟩
abbrev yL_get : MethodName := ⟨"java/util/List", "get", "(I)Ljava/lang/Object;"⟩
abbrev xIAE : String := "java/lang/IllegalArgumentException"
abbrev xISE : String := "java/lang/IllegalStateException"
abbrev xIOB : String := "java/lang/IndexOutOfBoundsException"
/-- what is known of a state's tables -/
def GK (g : GT) (U : State) : Prop :=
  va_K (gD g) bbCl (gT g) U ∧ va_AO "java/lang/Object" U ∧ va_AO "BridgeBells$Code" U ∧ va_Mi "[Ljava/lang/Object;" (gM g) U ∧ va_Fw RJ3 yL_size yJ3_size U ∧ va_Fw RJ3 yL_get yJ3_get U ∧ va_Nc xISE xIAE U ∧ va_Nc xIOB xIAE U ∧ va_Nc xIAE xISE U ∧ va_Nc xIOB xISE U ∧ va_Nc xIAE xIOB U ∧ va_Nc xISE xIOB U
/-- Code.$VALUES' cell, but for what the machine keeps beside it -/
def vaV (g : GT) (H : Heap) : Prop := ∃ cell : Cell, H[gV g]? = some cell ∧ cell.cls = gK g ∧ cell.slots = (vp_cell (gK g) (5, .inr (.inr (.inr (.inr (fun i => some (gC g i))))))).slots ∧ cell.vm ≠ .unknown ∧ cell.vm.isStatics = false ∧ ¬ gA g (gV g)
/-- what is known of the constants in a heap -/
def GH (g : GT) (U : State) (H : Heap) : Prop :=
  va_En "BridgeBells$State" "LBridgeBells$State;" gSn [("java/lang/Enum", "ordinal", "I", [0, 1, 2, 3])] (gS g) (gA g) U H ∧
  (∀ i, i < 5 → va_Z "BridgeBells$Code" (gCn.getD i "") "LBridgeBells$Code;" (.ref (gC g i)) (gA g) U H ∧ va_O (gCx.getD i "") (gC g i) (gA g) U H ∧ va_OF "java/lang/Enum" "ordinal" "I" (.int (nI i)) (gC g i) (gA g) U H) ∧
  va_Z "BridgeBells$Code" "$VALUES" "[LBridgeBells$Code;" (.ref (gV g)) (gA g) U H ∧
  vaV g H ∧
  va_Z "java/util/ArrayList" "DEFAULTCAPACITY_EMPTY_ELEMENTDATA" "[Ljava/lang/Object;" (.ref (gE g)) (gA g) U H ∧
  va_T (.object "java/lang/Object") (gE g) 0 (fun _ => .null) (gA g) U H ∧
  vx_Zq Bundle.tN "UNASSIGNED_STACK" Bundle.steD (gA g) U H ∧ vx_Zq Bundle.tN "SUPPRESSED_SENTINEL" Bundle.listD (gA g) U H
def GG (g : GT) (U : State) : Prop := GK g U ∧ (∀ w ∈ lw_nw, va_Nw w U) ∧ GH g U U.heap ∧ gN g ≤ U.heap.size
theorem GK.moved {g : GT} {u U : State} (hvm : u.vm.Alike U.vm) (h : GK g u) : GK g U := by
  obtain ⟨h1, h2, h3, h4, h5, h6, h7, h8, h9, h10, h11, h12⟩ := h
  exact ⟨h1.moved hvm, h2.moved hvm, h3.moved hvm, h4.moved hvm, va_Fw.moved ⟨by decide +kernel, by decide +kernel⟩ hvm h5, va_Fw.moved ⟨by decide +kernel, by decide +kernel⟩ hvm h6, h7.moved hvm, h8.moved hvm, h9.moved hvm, h10.moved hvm, h11.moved hvm, h12.moved hvm⟩
theorem GH.moved {g : GT} {u U : State} {H : Heap} (hvm : u.vm.Alike U.vm) (h : GH g u H) : GH g U H := by
  obtain ⟨h1, h2, h3, h4, h5, h6, h7, h8⟩ := h
  exact ⟨h1.moved hvm, fun i hi => ⟨(h2 i hi).1.moved hvm, (h2 i hi).2.1.moved hvm, (h2 i hi).2.2.moved hvm⟩, h3.moved hvm, h4, h5.moved hvm, h6.moved hvm, h7.moved hvm, h8.moved hvm⟩
theorem GH.kept {g : GT} {U : State} {H H1 : Heap} (h : GH g U H) (hq : ∀ a : Nat, a < H.size → ¬ gA g a → H1[a]? = H[a]?) : GH g U H1 := by
  obtain ⟨h1, h2, h3, h4, h5, h6, h7, h8⟩ := h
  exact ⟨h1.kept hq, fun i hi => ⟨(h2 i hi).1.kept hq, (h2 i hi).2.1.kept hq, (h2 i hi).2.2.kept hq⟩, h3.kept hq, (by obtain ⟨cell, q1, q2⟩ := h4; exact ⟨cell, by rw [hq _ (Array.getElem?_eq_some_iff.mp q1).1 q2.2.2.2.2]; exact q1, q2⟩), h5.kept hq, h6.kept hq, h7.kept hq, h8.kept hq⟩
theorem GG.go {g : GT} {s U : State} {H : Heap} (h : GG g s) (hq : ∀ a : Nat, a < s.heap.size → ¬ gA g a → H[a]? = s.heap[a]?) (hz : gN g ≤ H.size) (hU : U.heap = H) (hW : s.WarmedH U.vm) : GG g U := by
  obtain ⟨h1, h2, h3, h4⟩ := h
  refine ⟨h1.moved hW.alike, fun w hw => nw_warm (List.mem_filter.mp hw).2 hW (h2 w hw), ?_, by rw [hU]; exact hz⟩
  rw [hU]
  exact (h3.kept hq).moved hW.alike
theorem GG.calling {g : GT} {U : State} (h : GG g U) (f : JFrame) (mk : MethodId) (a : Array Value) : GG g (U.calling f mk a) := by
  obtain ⟨h1, h2, h3, h4⟩ := h
  exact ⟨h1.moved (u := U) (U := U.calling f mk a) (Vm.Alike.refl U.vm), fun w hw => va_Nw.same (u := U) (U := U.calling f mk a) (nw_tab (List.mem_filter.mp hw).2) rfl (h2 w hw), h3.moved (u := U) (U := U.calling f mk a) (Vm.Alike.refl U.vm), h4⟩
theorem GG.k {g : GT} {U : State} (h : GG g U) : va_K (gD g) bbCl (gT g) U := h.1.1
theorem GG.nw {g : GT} {U : State} (h : GG g U) {w : Cond} (hw : w ∈ lw_tbl) (k : isN w = true) : va_Nw w U := h.2.1 w (lw_n hw k)
theorem GG.nb {g : GT} {U : State} (h : GG g U) {w : Cond} (hw : w ∈ lw_tbl) (k : isN w = true) {a : Array Value} : w.before a U = true := va_Nw.use (nw_tab k) (h.nw hw k)
theorem GG.sz {g : GT} {U : State} (h : GG g U) : gN g ≤ U.heap.size := h.2.2.2
theorem GG.st {g : GT} {U : State} (h : GG g U) : va_En "BridgeBells$State" "LBridgeBells$State;" gSn [("java/lang/Enum", "ordinal", "I", [0, 1, 2, 3])] (gS g) (gA g) U U.heap := h.2.2.1.1
theorem GG.co {g : GT} {U : State} (h : GG g U) {i : Nat} (hi : i < 5) : va_Z "BridgeBells$Code" (gCn.getD i "") "LBridgeBells$Code;" (.ref (gC g i)) (gA g) U U.heap ∧ va_O (gCx.getD i "") (gC g i) (gA g) U U.heap ∧ va_OF "java/lang/Enum" "ordinal" "I" (.int (nI i)) (gC g i) (gA g) U U.heap := h.2.2.1.2.1 i hi
theorem GG.sinj {g : GT} {U : State} (h : GG g U) {i j : Nat} (hi : i < 4) (hj : j < 4) : gS g i = gS g j ↔ i = j := ⟨h.st.2 i j hi hj, fun e => by rw [e]⟩
/-- a contract's start: the arguments, the ground, and what the heap holds -/
abbrev PcG (g : GT) (av : List Value) (B : Heap → Prop) : Array Value → State → Prop := va_Pc av (fun U => GG g U ∧ B U.heap)
theorem PcG.blind {g : GT} {av : List Value} {B : Heap → Prop} : FrameBlind (PcG g av B) := fun a U f mk h => ⟨h.1, h.2.1.calling f mk a, h.2.2⟩
/-- nothing but ours was written since s -/
abbrev Kp (g : GT) (s : State) (H : Heap) : Prop := gN g ≤ H.size ∧ ∀ a : Nat, a < s.heap.size → ¬ gA g a → H[a]? = s.heap[a]?
theorem Kp.rf {g : GT} {s : State} (h : GG g s) : Kp g s s.heap := ⟨h.sz, fun _ _ _ => rfl⟩
theorem va_S.kp {g : GT} {s : State} {A : Nat → Prop} {H : Heap} {locs : List Loc} (hS : va_S A s.heap H locs) (hG : GG g s) (hA : ∀ q, A q → gA g q) : Kp g s H := ⟨Nat.le_trans hG.sz hS.1, fun a h1 h2 => hS.2.1 a h1 (fun q => h2 (hA a q))⟩
theorem gg_preS {g : GT} {s : State} {H : Heap} {As : List Value} {B : Heap → Prop} (hG : GG g s) (hq : Kp g s H) (hB : B H) : PreS s H (PcG g As B) As :=
  ⟨PcG.blind, fun U hU hW => ⟨rfl, hG.go hq.2 hq.1 hU hW, by rw [hU]; exact hB⟩⟩
theorem gg_preV {g : GT} {s : State} {H : Heap} {C : String} {b : Nat} {As : List Value} {B : Heap → Prop} (hG : GG g s) (hq : Kp g s H) (hr : ∃ cell : Cell, H[b]? = some cell ∧ cell.vm.isStatics = false ∧ s.vm.findClass C = some cell.cls) (hB : B H) : PreV s H C b (PcG g (.ref b :: As) B) As :=
  ⟨PcG.blind, hr, fun U hU hW => ⟨rfl, hG.go hq.2 hq.1 hU hW, by rw [hU]; exact hB⟩⟩
/-- one cell as a world -/
theorem P1 {D : va_G} {cl : List vw_C} {q : Nat × va_E} {H : Heap} (h : va_at D cl q H) : va_P D cl [q] H := by
  intro k p hk
  cases k with
  | zero => cases hk; exact h
  | succ k => simp at hk
theorem gg_recv {g : GT} {s : State} {H : Heap} {a ci : Nat} {q : vw_C} {fs : List Value} (hG : GG g s) (h : va_at (gD g) bbCl (a, .inr (ci, fs)) H) (hc : bbCl[ci]? = some q) : ∃ cell : Cell, H[a]? = some cell ∧ cell.vm.isStatics = false ∧ s.vm.findClass q.1 = some cell.cls :=
  va_recv hG.k (P1 h) hc (q0 := 0) rfl
/-- the head of a contract -/
theorem gg_met {l : Launch} {y : MethodName} {g : GT} {av : List Value} {B : Heap → Prop} {cc : ByteArray} {maxL : Nat} {ret : Option FieldType} {rm : Room} {Qc : Array Value → State → Outcome → State → Prop} {mc ms : Nat} {free : Addr → Prop} (hy : plainName y.cls = true) (hlen : (lg_sl av).length ≤ maxL)
    (body : ∀ (p : Program) (e : Env) (s : State) (m : MethodId) (below : List Frame) (meth : Method) (c : Code), p.tables.exec = Jvm.exec → c.code = cc → meth.sig.returnType = ret → meth.locks = false → meth.name = y.name → c.maxLocals = maxL → s.vm.findClass y.cls = some m.cls → (∀ w ∈ lw_all, w.before av.toArray s = true) → GG g s → B s.heap → ∀ ls : Array Slot, lv_has ls maxL (lv_args 0 av) → W p l e rm s m av.toArray below meth c s.heap [] 0 0 (MQ below Qc av.toArray s mc ms free) (F0 m 0 ls [])) :
    Met l y (ws_ y cc maxL ret) rm (PcG g av B) Qc mc ms free := by
  refine Met.ofW (cc := cc) (maxL := maxL) (ret := ret) hy rfl ?_
  intro p e s m args below meth c s₁ BL hml hv
  obtain ⟨rfl, hG, hB⟩ := hv
  have hts := atoms_spec (ws := ws_ y cc maxL ret) BL.pre
  have hts : ∀ w ∈ lw_all, w.before _ s = true := fun w h => hts w (List.mem_cons_of_mem _ h)
  have hown : s.vm.findClass y.cls = some m.cls := findClass_of_methodNamed BL.named
  have hl := lv_entry av hlen
  rw [lg_entry_eq]
  generalize (lg_sl av ++ List.replicate (maxL - (lg_sl av).length) Slot.unset).toArray = ls at hl ⊢
  exact body p e s m below meth c BL.exec BL.bytes BL.returns BL.notSynchronized (name_of_methodNamed BL.named BL.method).1 hml hown hts hG hB ls hl
section GGR
variable {p : Program} {l : Launch} {e : Env} {R : Room} {s : State} {m : MethodId} {args : Array Value} {below : List Frame} {meth : Method} {c : Code} {H : Heap} {locs : List Loc} {cells slots : Nat} {Q : State → Prop}
variable {cc : ByteArray} {pc : Nat} {ls : Array Slot} {rest : List Value} {g : GT} {a : Nat}
/-- getfield of a known cell -/
theorem gg_get (hx : p.tables.exec = Jvm.exec) (hb : c.code = cc) {own C : String} {T : u_T} {N ci index : Nat} (hts : ∀ w ∈ lw_all, w.before args s = true) (hin : ∀ w ∈ u_ws C T N, w ∈ lw_all) (hown : s.vm.findClass own = some m.cls) (hG : GG g s) {fs : List Value} (h : va_at (gD g) bbCl (a, .inr (ci, fs)) H) (hc : bbCl[ci]? = some (C, T, N)) (k : Nat) (hk : k < N) {ref : String} (hlink : Cond.fieldLink own index ref (T k).2.1 (T k).2.2.1 ∈ lw_all) (href : (T k).1 = ref) {v : Value} (hv : fs[k]? = some v) (hdg : decode cc pc = .ok (.getfield index, 3))
    (kk : W p l e R s m args below meth c H locs cells slots Q (F0 m (pc + 3) ls (v :: rest))) : W p l e R s m args below meth c H locs cells slots Q (F0 m pc ls (.ref a :: rest)) :=
  va_get hx hb hts hin hown hG.k (P1 h) 0 rfl hc k hk (hts _ hlink) (fun x hx => by rw [← href]; exact hx) hv hdg kk
/-- getfield of a nest mate's private field -/
theorem gg_getN (hx : p.tables.exec = Jvm.exec) (hb : c.code = cc) {own C host : String} {T : u_T} {N ci index : Nat} (hts : ∀ w ∈ lw_all, w.before args s = true) (hin : ∀ w ∈ u_ws C T N, w ∈ lw_all) (hown : s.vm.findClass own = some m.cls) (hG : GG g s) {fs : List Value} (h : va_at (gD g) bbCl (a, .inr (ci, fs)) H) (hc : bbCl[ci]? = some (C, T, N)) (k : Nat) (hk : k < N) {ref : String} (hlink : Cond.fieldLinkNest own index ref (T k).2.1 (T k).2.2.1 host ∈ lw_tbl) (href : (T k).1 = ref) {v : Value} (hv : fs[k]? = some v) (hdg : decode cc pc = .ok (.getfield index, 3))
    (kk : W p l e R s m args below meth c H locs cells slots Q (F0 m (pc + 3) ls (v :: rest))) : W p l e R s m args below meth c H locs cells slots Q (F0 m pc ls (.ref a :: rest)) :=
  va_getN hx hb hts hin hown hG.k (P1 h) 0 rfl hc k hk (hG.nb hlink rfl) (fun x hx => by rw [← href]; exact hx) hv hdg kk
/-- State's constants -/
theorem gg_getS (hx : p.tables.exec = Jvm.exec) (hb : c.code = cc) {own : String} {index : Nat} (hts : ∀ w ∈ lw_all, w.before args s = true) (hown : s.vm.findClass own = some m.cls) (hG : GG g s) (hq : Kp g s H) (i : Nat) (hi : i < 4) {nm : String} (hn : gSn.getD i "" = nm) (hlink : Cond.fieldLink own index "BridgeBells$State" nm "LBridgeBells$State;" ∈ lw_all) (hdg : decode cc pc = .ok (.getstatic index, 3))
    (kk : W p l e R s m args below meth c H locs cells slots Q (F0 m (pc + 3) ls (.ref (gS g i) :: rest))) : W p l e R s m args below meth c H locs cells slots Q (F0 m pc ls rest) := by
  subst hn
  obtain ⟨cf, kf, fi, f, a, cell, h1, h2, h3, h4, h5, h6, h7, h8⟩ := ((hG.st.1 i hi).1).kept hq.2
  exact W.gets hx hb hown (hts _ hlink) h1 h2 h3 h4 h5 (fun e => by rw [e] at h6; cases h6) h7 rfl hdg kk
/-- the ordinal of a constant of State, of Code -/
theorem gg_ordS (hx : p.tables.exec = Jvm.exec) (hb : c.code = cc) {own : String} {index : Nat} (hts : ∀ w ∈ lw_all, w.before args s = true) (hown : s.vm.findClass own = some m.cls) (hG : GG g s) (hq : Kp g s H) (i : Nat) (hi : i < 4) (hlink : Cond.fieldLink own index "java/lang/Enum" "ordinal" "I" ∈ lw_all) (hdg : decode cc pc = .ok (.getfield index, 3))
    (kk : W p l e R s m args below meth c H locs cells slots Q (F0 m (pc + 3) ls (.int (nI i) :: rest))) : W p l e R s m args below meth c H locs cells slots Q (F0 m pc ls (.ref (gS g i) :: rest)) := by
  obtain ⟨cf, k, fi, f, cell, h1, h2, h3, h4, h5, h6⟩ := ((hG.st.1 i hi).2.2 ("java/lang/Enum", "ordinal", "I", [0, 1, 2, 3]) (List.mem_singleton.mpr rfl)).kept hq.2
  refine W.getf hx hb hown (hts _ hlink) h1 h2 h3 h4 (v := .int (nI i)) ?_ rfl rfl hdg kk
  rw [h5]
  have : ([0, 1, 2, 3] : List Int32).getD i 0 = nI i := by
    rcases (show i = 0 ∨ i = 1 ∨ i = 2 ∨ i = 3 by omega) with rfl | rfl | rfl | rfl <;> rfl
  rw [← this]
theorem gg_ordC (hx : p.tables.exec = Jvm.exec) (hb : c.code = cc) {own : String} {index : Nat} (hts : ∀ w ∈ lw_all, w.before args s = true) (hown : s.vm.findClass own = some m.cls) (hG : GG g s) (hq : Kp g s H) (i : Nat) (hi : i < 5) (hlink : Cond.fieldLink own index "java/lang/Enum" "ordinal" "I" ∈ lw_all) (hdg : decode cc pc = .ok (.getfield index, 3))
    (kk : W p l e R s m args below meth c H locs cells slots Q (F0 m (pc + 3) ls (.int (nI i) :: rest))) : W p l e R s m args below meth c H locs cells slots Q (F0 m pc ls (.ref (gC g i) :: rest)) := by
  obtain ⟨cf, k, fi, f, cell, h1, h2, h3, h4, h5, h6⟩ := ((hG.co hi).2.2).kept hq.2
  exact W.getf hx hb hown (hts _ hlink) h1 h2 h3 h4 (v := .int (nI i)) h5 rfl rfl hdg kk
/-- comparing two references that are there -/
theorem gg_acmp_ne (hx : p.tables.exec = Jvm.exec) (hb : c.code = cc) {x y : Nat} {off : Int} {tgt : Nat} (hdg : decode cc pc = .ok (.if_acmp .ne off, 3)) (ht : (pc : Int) + off = (tgt : Int))
    (kt : ¬ x = y → W p l e R s m args below meth c H locs cells slots Q (F0 m tgt ls rest)) (kf : x = y → W p l e R s m args below meth c H locs cells slots Q (F0 m (pc + 3) ls rest)) : W p l e R s m args below meth c H locs cells slots Q (F0 m pc ls (.ref y :: .ref x :: rest)) :=
  lv_acmp_ne (rx := some x) (ry := some y) hx hb hdg ht (fun h => kt (fun e => h (by rw [e]))) (fun h => kf (Option.some.inj h))
theorem gg_acmp_eq (hx : p.tables.exec = Jvm.exec) (hb : c.code = cc) {x y : Nat} {off : Int} {tgt : Nat} (hdg : decode cc pc = .ok (.if_acmp .eq off, 3)) (ht : (pc : Int) + off = (tgt : Int))
    (kt : x = y → W p l e R s m args below meth c H locs cells slots Q (F0 m tgt ls rest)) (kf : ¬ x = y → W p l e R s m args below meth c H locs cells slots Q (F0 m (pc + 3) ls rest)) : W p l e R s m args below meth c H locs cells slots Q (F0 m pc ls (.ref y :: .ref x :: rest)) :=
  lv_acmp_eq (rx := some x) (ry := some y) hx hb hdg ht (fun h => kt (Option.some.inj h)) (fun h => kf (fun e => h (by rw [e])))
/-- an int array's element -/
theorem gg_iald (hx : p.tables.exec = Jvm.exec) (hb : c.code = cc) (hG : GG g s) {n : Nat} {f : Nat → Int32} (h : va_at (gD g) bbCl (a, .inl (gI g, n, .inl f)) H) {i : Int32} (j : Nat) (hj : j < n) (hn : n < 2 ^ 31) (hi : i = nI j) (hdg : decode cc pc = .ok (.iaload, 1))
    (kk : W p l e R s m args below meth c H locs cells slots Q (F0 m (pc + 1) ls (.int (f j) :: rest))) : W p l e R s m args below meth c H locs cells slots Q (F0 m pc ls (.int i :: .ref a :: rest)) := by
  subst hi
  refine va_iald hx hb hG.k (P1 h) 0 0 rfl rfl (vp_in_nI hj hn) hdg ?_
  rw [nI_clamp (Nat.lt_trans hj hn)]
  exact kk
end GGR
