/-! THROWING: the words of a throw, the head of a contract that throws, require.. -/
set_option maxRecDepth 100000
abbrev xNs : List String := ["java/lang/RuntimeException", "java/lang/Exception"]

theorem at_IAE {g : GT} {s : State} {args : Array Value} (hG : GG g s) (hts : ∀ w ∈ lw_all, w.before args s = true) : ∀ w ∈ vx_at0 "BridgeBells" 3 xIAE xNs, w.before args s = true ∧ vx_ot w = true := by
  intro w hw
  obtain ⟨hw, hno⟩ := List.mem_filter.mp hw
  simp only [Bundle.ownAtoms0, Bundle.throwableAtoms, Bundle.chain0Atoms, Bundle.passAtoms, List.cons_append, List.nil_append, List.append_assoc, List.mem_cons, List.not_mem_nil, or_false] at hw
  rcases hw with e | e | e | e | e | e | e | e | e | e | e | e | e | e | e | e | e | e | e | e | e | e | e | e | e | e | e | e | e | e | e | e | e | e | e | e | e | e | e | e | e | e | e | e | e | e | e | e | e | e | e | e | e
  · rw [e]; exact ⟨hts _ q23, rfl⟩
  · rw [e]; exact ⟨hts _ q295, rfl⟩
  · rw [e]; exact ⟨hts _ q304, rfl⟩
  · rw [e]; exact ⟨hts _ q309, rfl⟩
  · rw [e]; exact ⟨hts _ q312, rfl⟩
  · rw [e]; exact ⟨hts _ q314, rfl⟩
  · rw [e]; exact ⟨hts _ q296, rfl⟩
  · rw [e]; exact ⟨hts _ q297, rfl⟩
  · rw [e]; exact ⟨hts _ q45, rfl⟩
  · rw [e]; exact ⟨hts _ q46, rfl⟩
  · rw [e]; exact ⟨hts _ q298, rfl⟩
  · rw [e]; exact ⟨hts _ q303, rfl⟩
  · rw [e]; exact ⟨hts _ q310, rfl⟩
  · rw [e]; exact ⟨hts _ q327, rfl⟩
  · rw [e]; exact ⟨hts _ q285, rfl⟩
  · rw [e]; exact ⟨hts _ q328, rfl⟩
  · rw [e]; exact ⟨hts _ q287, rfl⟩
  · rw [e]; exact ⟨hts _ q329, rfl⟩
  · rw [e]; exact ⟨hts _ q289, rfl⟩
  · rw [e]; exact ⟨hts _ q299, rfl⟩
  · rw [e] at hno; exact absurd hno (by decide +kernel)
  · rw [e]; exact ⟨hts _ q301, rfl⟩
  · rw [e] at hno; exact absurd hno (by decide +kernel)
  · rw [e]; exact ⟨hts _ q291, rfl⟩
  · rw [e]; exact ⟨hts _ q316, rfl⟩
  · rw [e]; exact ⟨hts _ q317, rfl⟩
  · rw [e]; exact ⟨hts _ q318, rfl⟩
  · rw [e]; exact ⟨hts _ q319, rfl⟩
  · rw [e]; exact ⟨hG.nb q276 rfl, rfl⟩
  · rw [e]; exact ⟨hts _ q319, rfl⟩
  · rw [e]; exact ⟨hts _ q320, rfl⟩
  · rw [e]; exact ⟨hts _ q321, rfl⟩
  · rw [e]; exact ⟨hts _ q322, rfl⟩
  · rw [e]; exact ⟨hG.nb q278 rfl, rfl⟩
  · rw [e]; exact ⟨hts _ q322, rfl⟩
  · rw [e]; exact ⟨hts _ q323, rfl⟩
  · rw [e]; exact ⟨hts _ q324, rfl⟩
  · rw [e]; exact ⟨hts _ q296, rfl⟩
  · rw [e]; exact ⟨hG.nb q280 rfl, rfl⟩
  · rw [e]; exact ⟨hts _ q315, rfl⟩
  · rw [e]; exact ⟨hts _ q274, rfl⟩
  · rw [e]; exact ⟨hG.nb q275 rfl, rfl⟩
  · rw [e]; exact ⟨hts _ q282, rfl⟩
  · rw [e]; exact ⟨hts _ q283, rfl⟩
  · rw [e]; exact ⟨hts _ q284, rfl⟩
  · rw [e]; exact ⟨hts _ q286, rfl⟩
  · rw [e]; exact ⟨hts _ q288, rfl⟩
  · rw [e]; exact ⟨hts _ q290, rfl⟩
  · rw [e] at hno; exact absurd hno (by decide +kernel)
  · rw [e] at hno; exact absurd hno (by decide +kernel)
  · rw [e]; exact ⟨hts _ q325, rfl⟩
  · rw [e]; exact ⟨hts _ q293, rfl⟩
  · rw [e]; exact ⟨hts _ q292, rfl⟩

theorem at_ISE {g : GT} {s : State} {args : Array Value} (hG : GG g s) (hts : ∀ w ∈ lw_all, w.before args s = true) : ∀ w ∈ vx_at0 "BridgeBells" 9 xISE xNs, w.before args s = true ∧ vx_ot w = true := by
  intro w hw
  obtain ⟨hw, hno⟩ := List.mem_filter.mp hw
  simp only [Bundle.ownAtoms0, Bundle.throwableAtoms, Bundle.chain0Atoms, Bundle.passAtoms, List.cons_append, List.nil_append, List.append_assoc, List.mem_cons, List.not_mem_nil, or_false] at hw
  rcases hw with e | e | e | e | e | e | e | e | e | e | e | e | e | e | e | e | e | e | e | e | e | e | e | e | e | e | e | e | e | e | e | e | e | e | e | e | e | e | e | e | e | e | e | e | e | e | e | e | e | e | e | e | e
  · rw [e]; exact ⟨hts _ q23, rfl⟩
  · rw [e]; exact ⟨hts _ q295, rfl⟩
  · rw [e]; exact ⟨hts _ q304, rfl⟩
  · rw [e]; exact ⟨hts _ q309, rfl⟩
  · rw [e]; exact ⟨hts _ q312, rfl⟩
  · rw [e]; exact ⟨hts _ q314, rfl⟩
  · rw [e]; exact ⟨hts _ q296, rfl⟩
  · rw [e]; exact ⟨hts _ q297, rfl⟩
  · rw [e]; exact ⟨hts _ q45, rfl⟩
  · rw [e]; exact ⟨hts _ q46, rfl⟩
  · rw [e]; exact ⟨hts _ q298, rfl⟩
  · rw [e]; exact ⟨hts _ q303, rfl⟩
  · rw [e]; exact ⟨hts _ q310, rfl⟩
  · rw [e]; exact ⟨hts _ q327, rfl⟩
  · rw [e]; exact ⟨hts _ q285, rfl⟩
  · rw [e]; exact ⟨hts _ q328, rfl⟩
  · rw [e]; exact ⟨hts _ q287, rfl⟩
  · rw [e]; exact ⟨hts _ q329, rfl⟩
  · rw [e]; exact ⟨hts _ q289, rfl⟩
  · rw [e]; exact ⟨hts _ q299, rfl⟩
  · rw [e] at hno; exact absurd hno (by decide +kernel)
  · rw [e]; exact ⟨hts _ q301, rfl⟩
  · rw [e] at hno; exact absurd hno (by decide +kernel)
  · rw [e]; exact ⟨hts _ q291, rfl⟩
  · rw [e]; exact ⟨hts _ q351, rfl⟩
  · rw [e]; exact ⟨hts _ q352, rfl⟩
  · rw [e]; exact ⟨hts _ q353, rfl⟩
  · rw [e]; exact ⟨hts _ q319, rfl⟩
  · rw [e]; exact ⟨hG.nb q276 rfl, rfl⟩
  · rw [e]; exact ⟨hts _ q319, rfl⟩
  · rw [e]; exact ⟨hts _ q320, rfl⟩
  · rw [e]; exact ⟨hts _ q321, rfl⟩
  · rw [e]; exact ⟨hts _ q322, rfl⟩
  · rw [e]; exact ⟨hG.nb q278 rfl, rfl⟩
  · rw [e]; exact ⟨hts _ q322, rfl⟩
  · rw [e]; exact ⟨hts _ q323, rfl⟩
  · rw [e]; exact ⟨hts _ q324, rfl⟩
  · rw [e]; exact ⟨hts _ q296, rfl⟩
  · rw [e]; exact ⟨hG.nb q280 rfl, rfl⟩
  · rw [e]; exact ⟨hts _ q350, rfl⟩
  · rw [e]; exact ⟨hts _ q342, rfl⟩
  · rw [e]; exact ⟨hG.nb q343 rfl, rfl⟩
  · rw [e]; exact ⟨hts _ q344, rfl⟩
  · rw [e]; exact ⟨hts _ q307, rfl⟩
  · rw [e]; exact ⟨hts _ q345, rfl⟩
  · rw [e]; exact ⟨hts _ q346, rfl⟩
  · rw [e]; exact ⟨hts _ q347, rfl⟩
  · rw [e]; exact ⟨hts _ q348, rfl⟩
  · rw [e] at hno; exact absurd hno (by decide +kernel)
  · rw [e] at hno; exact absurd hno (by decide +kernel)
  · rw [e]; exact ⟨hts _ q325, rfl⟩
  · rw [e]; exact ⟨hts _ q293, rfl⟩
  · rw [e]; exact ⟨hts _ q349, rfl⟩

theorem at_IOB {g : GT} {s : State} {args : Array Value} (hG : GG g s) (hts : ∀ w ∈ lw_all, w.before args s = true) : ∀ w ∈ vx_at0 "BridgeBells" 12 xIOB xNs, w.before args s = true ∧ vx_ot w = true := by
  intro w hw
  obtain ⟨hw, hno⟩ := List.mem_filter.mp hw
  simp only [Bundle.ownAtoms0, Bundle.throwableAtoms, Bundle.chain0Atoms, Bundle.passAtoms, List.cons_append, List.nil_append, List.append_assoc, List.mem_cons, List.not_mem_nil, or_false] at hw
  rcases hw with e | e | e | e | e | e | e | e | e | e | e | e | e | e | e | e | e | e | e | e | e | e | e | e | e | e | e | e | e | e | e | e | e | e | e | e | e | e | e | e | e | e | e | e | e | e | e | e | e | e | e | e | e
  · rw [e]; exact ⟨hts _ q23, rfl⟩
  · rw [e]; exact ⟨hts _ q295, rfl⟩
  · rw [e]; exact ⟨hts _ q304, rfl⟩
  · rw [e]; exact ⟨hts _ q309, rfl⟩
  · rw [e]; exact ⟨hts _ q312, rfl⟩
  · rw [e]; exact ⟨hts _ q314, rfl⟩
  · rw [e]; exact ⟨hts _ q296, rfl⟩
  · rw [e]; exact ⟨hts _ q297, rfl⟩
  · rw [e]; exact ⟨hts _ q45, rfl⟩
  · rw [e]; exact ⟨hts _ q46, rfl⟩
  · rw [e]; exact ⟨hts _ q298, rfl⟩
  · rw [e]; exact ⟨hts _ q303, rfl⟩
  · rw [e]; exact ⟨hts _ q310, rfl⟩
  · rw [e]; exact ⟨hts _ q327, rfl⟩
  · rw [e]; exact ⟨hts _ q285, rfl⟩
  · rw [e]; exact ⟨hts _ q328, rfl⟩
  · rw [e]; exact ⟨hts _ q287, rfl⟩
  · rw [e]; exact ⟨hts _ q329, rfl⟩
  · rw [e]; exact ⟨hts _ q289, rfl⟩
  · rw [e]; exact ⟨hts _ q299, rfl⟩
  · rw [e] at hno; exact absurd hno (by decide +kernel)
  · rw [e]; exact ⟨hts _ q301, rfl⟩
  · rw [e] at hno; exact absurd hno (by decide +kernel)
  · rw [e]; exact ⟨hts _ q291, rfl⟩
  · rw [e]; exact ⟨hts _ q516, rfl⟩
  · rw [e]; exact ⟨hts _ q517, rfl⟩
  · rw [e]; exact ⟨hts _ q518, rfl⟩
  · rw [e]; exact ⟨hts _ q319, rfl⟩
  · rw [e]; exact ⟨hG.nb q276 rfl, rfl⟩
  · rw [e]; exact ⟨hts _ q319, rfl⟩
  · rw [e]; exact ⟨hts _ q320, rfl⟩
  · rw [e]; exact ⟨hts _ q321, rfl⟩
  · rw [e]; exact ⟨hts _ q322, rfl⟩
  · rw [e]; exact ⟨hG.nb q278 rfl, rfl⟩
  · rw [e]; exact ⟨hts _ q322, rfl⟩
  · rw [e]; exact ⟨hts _ q323, rfl⟩
  · rw [e]; exact ⟨hts _ q324, rfl⟩
  · rw [e]; exact ⟨hts _ q296, rfl⟩
  · rw [e]; exact ⟨hG.nb q280 rfl, rfl⟩
  · rw [e]; exact ⟨hts _ q515, rfl⟩
  · rw [e]; exact ⟨hts _ q507, rfl⟩
  · rw [e]; exact ⟨hG.nb q508 rfl, rfl⟩
  · rw [e]; exact ⟨hts _ q509, rfl⟩
  · rw [e]; exact ⟨hts _ q308, rfl⟩
  · rw [e]; exact ⟨hts _ q510, rfl⟩
  · rw [e]; exact ⟨hts _ q511, rfl⟩
  · rw [e]; exact ⟨hts _ q512, rfl⟩
  · rw [e]; exact ⟨hts _ q513, rfl⟩
  · rw [e] at hno; exact absurd hno (by decide +kernel)
  · rw [e] at hno; exact absurd hno (by decide +kernel)
  · rw [e]; exact ⟨hts _ q325, rfl⟩
  · rw [e]; exact ⟨hts _ q293, rfl⟩
  · rw [e]; exact ⟨hts _ q514, rfl⟩

/-- what a call that throws X leaves: one cell more -/
abbrev xX (X : String) : String → State → State → Prop := vx_X (fun _ : Unit => True) (fun E _ _ => E = X) (fun _ => False)
abbrev xQv : Array Value → State → Outcome → State → Prop := va_Qv (fun _ : Unit => False) (fun _ _ => True) (fun _ => False)
abbrev xQi : Array Value → State → Outcome → State → Prop := va_Qi (fun _ (_ : Unit) => False) (fun _ _ => True) (fun _ => False)
abbrev xQq : Array Value → State → Outcome → State → Prop := va_Qq (fun _ (_ : Unit) => False) (fun _ _ => True) (fun _ => False)
/-- the head of a contract that throws -/
theorem gg_xmet {l : Launch} {y : MethodName} {g : GT} {av : List Value} {B : Heap → Prop} {cc : ByteArray} {maxL : Nat} {ret : Option FieldType} {rm : Room} {Qc : Array Value → State → Outcome → State → Prop} {XC : String → State → State → Prop} {mc ms : Nat} {free : Addr → Prop} (hy : plainName y.cls = true) (hlen : (lg_sl av).length ≤ maxL)
    (body : ∀ (p : Program) (e : Env) (s : State) (m : MethodId) (below : List Frame) (meth : Method) (c : Code), p.tables.exec = Jvm.exec → c.code = cc → meth.sig.returnType = ret → meth.locks = false → meth.name = y.name → c.maxLocals = maxL → s.vm.findClass y.cls = some m.cls → (∀ w ∈ lw_all, w.before av.toArray s = true) → (∀ x ∈ c.exceptionTable.toList, False) → GG g s → B s.heap → ∀ ls : Array Slot, lv_has ls maxL (lv_args 0 av) → W p l e rm s m av.toArray below meth c s.heap [] 0 0 (vx_MQ below Qc XC av.toArray s mc ms free) (F0 m 0 ls [])) :
    vx_Met l y (ws_ y cc maxL ret) rm (PcG g av B) Qc XC mc ms free := by
  refine vx_ofW (cc := cc) (maxL := maxL) (ret := ret) hy rfl ?_
  intro p e s m args below meth c s₁ BL hml htab hv
  obtain ⟨rfl, hG, hB⟩ := hv
  have hts := atoms_spec (ws := ws_ y cc maxL ret) BL.pre
  have hts : ∀ w ∈ lw_all, w.before _ s = true := fun w h => hts w (List.mem_cons_of_mem _ h)
  have hown : s.vm.findClass y.cls = some m.cls := findClass_of_methodNamed BL.named
  have hl := lv_entry av hlen
  rw [lg_entry_eq]
  generalize (lg_sl av ++ List.replicate (maxL - (lg_sl av).length) Slot.unset).toArray = ls at hl ⊢
  exact body p e s m below meth c BL.exec BL.bytes BL.returns BL.notSynchronized (name_of_methodNamed BL.named BL.method).1 hml hown hts htab hG hB ls hl
section XG
variable {p : Program} {l : Launch} {e : Env} {R : Room} {s : State} {m : MethodId} {args : Array Value} {below : List Frame} {meth : Method} {c : Code} {cells slots : Nat}
variable {cc : ByteArray} {pc : Nat} {ls : Array Slot} {rest : List Value} {g : GT} {Qc : Array Value → State → Outcome → State → Prop}
/-- throw new X(), nothing written so far -/
theorem gg_throw (hx : p.tables.exec = Jvm.exec) (hb : c.code = cc) (hl0 : l.stackTraces = false) {X : String} {ik ic : Nat} (hown : s.vm.findClass "BridgeBells" = some m.cls) (hml : ls.size = c.maxLocals) (hts : ∀ w ∈ lw_all, w.before args s = true) (hG : GG g s) (hfit : Bundle.fit X = true) (hk : Cond.classLink "BridgeBells" ik X ∈ lw_all) (hini : Cond.initialized X ∈ lw_all) (hat : ∀ w ∈ vx_at0 "BridgeBells" ic X xNs, w.before args s = true ∧ vx_ot w = true) (htab : ∀ x ∈ c.exceptionTable.toList, False)
    (d0 : decode cc pc = .ok (.new ik, 3)) (d3 : decode cc (pc + 3) = .ok (.dup, 1)) (d4 : decode cc (pc + 4) = .ok (.invokespecial ic, 3)) (d7 : decode cc (pc + 7) = .ok (.athrow, 1)) (hRf : 6 ≤ R.frames) (hRl : (rest.map fun v => v.category).sum + 81 ≤ R.locals) (hRc : 1 ≤ R.cells) (hRs : 6 ≤ R.slots) (hlocks : meth.locks = false) :
    W p l e R s m args below meth c s.heap [] 0 0 (vx_MQ below Qc (xX X) args s 1 6 (fun _ => False)) (F0 m pc ls rest) := by
  refine vx_throw0 (A := fun _ => False) (names := xNs) hx hb hl0 hown hfit (fun n hn => by simp only [List.mem_cons, List.not_mem_nil, or_false] at hn; rcases hn with rfl | rfl <;> decide +kernel) (hts _ hk) (hts _ hini) (fun w hw => (hat w hw).1) ?_ ((hG.2.2.1.2.2.2.2.2.2.1).narrow (fun _ h => h.elim)) ((hG.2.2.1.2.2.2.2.2.2.2).narrow (fun _ h => h.elim)) va_S.rf hml d0 d3 d4 d7 (fun x hx => (htab x hx).elim) (by show 2 + 3 < R.frames; omega) (by show _ + (13 * (2 + 1) + 42) ≤ R.locals; omega) (by omega) (by omega) hlocks (fun t _ h1 h2 => ⟨(), trivial, rfl, h1, fun q hq _ => h2 q hq⟩) (fun _ h => absurd h List.not_mem_nil) (by omega) (by omega)
  intro w hw
  rcases List.mem_cons.mp hw with e | hw
  · rw [e]; rfl
  · rcases List.mem_cons.mp hw with e | hw
    · rw [e]; rfl
    · exact (hat w hw).2
/-- what came through a call goes on to the caller -/
theorem gg_out {H : Heap} {locs : List Loc} {X E : String} {ce : Cell} {q : Addr} (htab : ∀ x ∈ c.exceptionTable.toList, False) (hlocks : meth.locks = false) (hE : E = X) (hS : va_S (fun _ => False) s.heap H locs) (hcell : H[q]? = some ce) (hv : ce.vm = .none) (hcl : s.vm.findClass E = some ce.cls) (hc : cells ≤ 1) (hs : slots ≤ 6) :
    vx_W p l e R s m args below meth c H locs cells slots (vx_MQ below Qc (xX X) args s 1 6 (fun _ => False)) (F0 m pc ls rest) q :=
  vx_out (fun x hx => (htab x hx).elim) hlocks hcell hv hcl (fun t h9 _ => ⟨(), trivial, hE, hS.F h9⟩) hS.2.2 hc hs
end XG

set_option maxHeartbeats 4000000 in
theorem xm_X1_require_IAE (l : Launch) (hl0 : l.stackTraces = false) (g : GT) (z : Int32) (hz : z = 0) : vx_Met l yX1_require (ws_ yX1_require cX1_require 1 none) ({ frames := 6, cells := 1, slots := 6, locals := 89 } : Room) (PcG g [.int z] (fun _ => True)) xQv (xX xIAE) 1 6 (fun _ => False) := by
  refine gg_xmet (cc := cX1_require) (maxL := 1) (ret := none) (by decide) (Nat.le_of_ble_eq_true rfl) ?_
  intro p e s m below meth c hx hb hr hlk hin hml hown hts htab hG hB ls hl
  have hown : s.vm.findClass RX1 = some m.cls := hown
  have hl : lv_has ls 1 [(0, .int z)] := hl
  refine lv_iload_n hx hb dX1_require_0 rfl (lv_at hl 0 rfl) ?_
  refine lv_if_ne (tgt := 12) hx hb dX1_require_1 (by decide) (fun c_1 => absurd hz c_1) (fun c_1 => ?_)
  exact gg_throw (pc := 4) (ik := 1) (ic := 3) hx hb hl0 hown (hl.1.trans hml.symm) hts hG (by decide +kernel) q273 q26 (at_IAE hG hts) htab dX1_require_4 dX1_require_7 dX1_require_8 dX1_require_11 (Nat.le_of_ble_eq_true rfl) (Nat.le_of_ble_eq_true rfl) (Nat.le_of_ble_eq_true rfl) (Nat.le_of_ble_eq_true rfl) hlk

set_option maxHeartbeats 4000000 in
theorem xm_X1_requireState_ISE (l : Launch) (hl0 : l.stackTraces = false) (g : GT) (z : Int32) (hz : z = 0) : vx_Met l yX1_requireState (ws_ yX1_requireState cX1_requireState 1 none) ({ frames := 6, cells := 1, slots := 6, locals := 89 } : Room) (PcG g [.int z] (fun _ => True)) xQv (xX xISE) 1 6 (fun _ => False) := by
  refine gg_xmet (cc := cX1_requireState) (maxL := 1) (ret := none) (by decide) (Nat.le_of_ble_eq_true rfl) ?_
  intro p e s m below meth c hx hb hr hlk hin hml hown hts htab hG hB ls hl
  have hown : s.vm.findClass RX1 = some m.cls := hown
  have hl : lv_has ls 1 [(0, .int z)] := hl
  refine lv_iload_n hx hb dX1_requireState_0 rfl (lv_at hl 0 rfl) ?_
  refine lv_if_ne (tgt := 12) hx hb dX1_requireState_1 (by decide) (fun c_1 => absurd hz c_1) (fun c_1 => ?_)
  exact gg_throw (pc := 4) (ik := 7) (ic := 9) hx hb hl0 hown (hl.1.trans hml.symm) hts hG (by decide +kernel) q341 q27 (at_ISE hG hts) htab dX1_requireState_4 dX1_requireState_7 dX1_requireState_8 dX1_requireState_11 (Nat.le_of_ble_eq_true rfl) (Nat.le_of_ble_eq_true rfl) (Nat.le_of_ble_eq_true rfl) (Nat.le_of_ble_eq_true rfl) hlk

set_option maxHeartbeats 4000000 in
theorem xm_X1_requireIndex_IOB (l : Launch) (hl0 : l.stackTraces = false) (g : GT) (k n : Int32) (h : ¬ (0 ≤ k ∧ k < n)) : vx_Met l yX1_requireIndex (ws_ yX1_requireIndex cX1_requireIndex 2 none) ({ frames := 6, cells := 1, slots := 6, locals := 89 } : Room) (PcG g [.int k, .int n] (fun _ => True)) xQv (xX xIOB) 1 6 (fun _ => False) := by
  refine gg_xmet (cc := cX1_requireIndex) (maxL := 2) (ret := none) (by decide) (Nat.le_of_ble_eq_true rfl) ?_
  intro p e s m below meth c hx hb hr hlk hin hml hown hts htab hG hB ls hl
  have hown : s.vm.findClass RX1 = some m.cls := hown
  have hl : lv_has ls 2 [(0, .int k), (1, .int n)] := hl
  refine lv_iload_n hx hb dX1_requireIndex_0 rfl (lv_at hl 0 rfl) ?_
  refine lv_if_lt (tgt := 9) hx hb dX1_requireIndex_1 (by decide) (fun c_1 => ?_) (fun c_1 => ?_)
  · exact gg_throw (pc := 9) (ik := 10) (ic := 12) hx hb hl0 hown (hl.1.trans hml.symm) hts hG (by decide +kernel) q506 q34 (at_IOB hG hts) htab dX1_requireIndex_9 dX1_requireIndex_12 dX1_requireIndex_13 dX1_requireIndex_16 (Nat.le_of_ble_eq_true rfl) (Nat.le_of_ble_eq_true rfl) (Nat.le_of_ble_eq_true rfl) (Nat.le_of_ble_eq_true rfl) hlk
  · refine lv_iload_n hx hb dX1_requireIndex_4 rfl (lv_at hl 0 rfl) ?_
    refine lv_iload_n hx hb dX1_requireIndex_5 rfl (lv_at hl 1 rfl) ?_
    refine lv_icmp_lt (tgt := 17) hx hb dX1_requireIndex_6 (by decide) (fun c_6 => absurd c_6 (fun h9 => h ⟨Int32.not_lt.mp c_1, h9⟩)) (fun c_6 => ?_)
    exact gg_throw (pc := 9) (ik := 10) (ic := 12) hx hb hl0 hown (hl.1.trans hml.symm) hts hG (by decide +kernel) q506 q34 (at_IOB hG hts) htab dX1_requireIndex_9 dX1_requireIndex_12 dX1_requireIndex_13 dX1_requireIndex_16 (Nat.le_of_ble_eq_true rfl) (Nat.le_of_ble_eq_true rfl) (Nat.le_of_ble_eq_true rfl) (Nat.le_of_ble_eq_true rfl) hlk

set_option maxHeartbeats 4000000 in
theorem xm_X1_requireFrom_IAE (l : Launch) (hl0 : l.stackTraces = false) (g : GT) (lo hi v : Int32) (h : ¬ (lo ≤ v ∧ v ≤ hi)) : vx_Met l yX1_requireFrom (ws_ yX1_requireFrom cX1_requireFrom 3 none) ({ frames := 7, cells := 1, slots := 6, locals := 109 } : Room) (PcG g [.int lo, .int hi, .int v] (fun _ => True)) xQv (xX xIAE) 1 6 (fun _ => False) := by
  refine gg_xmet (cc := cX1_requireFrom) (maxL := 3) (ret := none) (by decide) (Nat.le_of_ble_eq_true rfl) ?_
  intro p e s m below meth c hx hb hr hlk hin hml hown hts htab hG hB ls hl
  have hown : s.vm.findClass RX1 = some m.cls := hown
  have hl : lv_has ls 3 [(0, .int lo), (1, .int hi), (2, .int v)] := hl
  refine lv_iload_n hx hb dX1_requireFrom_0 rfl (lv_at hl 2 rfl) ?_
  refine lv_iload_n hx hb dX1_requireFrom_1 rfl (lv_at hl 0 rfl) ?_
  refine lv_icmp_lt (tgt := 14) hx hb dX1_requireFrom_2 (by decide) (fun c_2 => ?_) (fun c_2 => ?_)
  · refine lv_iconst (v := 0) hx hb dX1_requireFrom_14 (by decide) ?_
    exact vx_callv (vx_runS (As := [.int 0]) (rest := []) ⟨hx, hb, hml, hown, hts⟩ (xm_X1_require_IAE l hl0 g 0 rfl) (va_cwS 1 hts (lw_S q270 q271 q14 q272) rfl rfl rfl (by decide +kernel) ⟨Nat.le_of_ble_eq_true rfl, Nat.le_of_ble_eq_true rfl⟩) (gg_preS hG (Kp.rf hG) trivial) rfl rfl hl.1 rfl (lv_room (Nat.le_of_ble_eq_true rfl)) dX1_requireFrom_15 ⟨Nat.le_of_ble_eq_true rfl, Nat.le_of_ble_eq_true rfl⟩) (va_S.rf (A := fun _ => False) (H0 := s.heap)) (fun q _ e => e) (fun q e => e) (fun q _ e => e) (fun E ce q9 u t9 H1 locs ht hvm _ hE hz1 hk1 hS hce hcv hcl => gg_out htab hlk hE hS hce hcv hcl (Nat.le_of_ble_eq_true rfl) (Nat.le_of_ble_eq_true rfl)) (fun _ t9 H1 locs _ _ h9 => h9.elim)
  · refine lv_iload_n hx hb dX1_requireFrom_5 rfl (lv_at hl 2 rfl) ?_
    refine lv_iload_n hx hb dX1_requireFrom_6 rfl (lv_at hl 1 rfl) ?_
    refine lv_icmp_gt (tgt := 14) hx hb dX1_requireFrom_7 (by decide) (fun c_7 => ?_) (fun c_7 => ?_)
    · refine lv_iconst (v := 0) hx hb dX1_requireFrom_14 (by decide) ?_
      exact vx_callv (vx_runS (As := [.int 0]) (rest := []) ⟨hx, hb, hml, hown, hts⟩ (xm_X1_require_IAE l hl0 g 0 rfl) (va_cwS 1 hts (lw_S q270 q271 q14 q272) rfl rfl rfl (by decide +kernel) ⟨Nat.le_of_ble_eq_true rfl, Nat.le_of_ble_eq_true rfl⟩) (gg_preS hG (Kp.rf hG) trivial) rfl rfl hl.1 rfl (lv_room (Nat.le_of_ble_eq_true rfl)) dX1_requireFrom_15 ⟨Nat.le_of_ble_eq_true rfl, Nat.le_of_ble_eq_true rfl⟩) (va_S.rf (A := fun _ => False) (H0 := s.heap)) (fun q _ e => e) (fun q e => e) (fun q _ e => e) (fun E ce q9 u t9 H1 locs ht hvm _ hE hz1 hk1 hS hce hcv hcl => gg_out htab hlk hE hS hce hcv hcl (Nat.le_of_ble_eq_true rfl) (Nat.le_of_ble_eq_true rfl)) (fun _ t9 H1 locs _ _ h9 => h9.elim)
    · refine lv_iconst (v := 1) hx hb dX1_requireFrom_10 (by decide) ?_
      refine lv_goto (tgt := 15) hx hb dX1_requireFrom_11 (by decide) ?_
      exact absurd ⟨Int32.not_lt.mp c_2, Int32.not_lt.mp c_7⟩ h
