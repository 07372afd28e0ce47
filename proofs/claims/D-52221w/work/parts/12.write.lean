/-! WRITING ONE CELL: what it holds then, and that every other cell stays. -/
set_option maxRecDepth 100000
/-- the heap H1 is H but for the cell a -/
def But (a : Nat) (H H1 : Heap) : Prop := H1.size = H.size ∧ ∀ q : Nat, q ≠ a → H1[q]? = H[q]?
section GGW
variable {p : Program} {l : Launch} {e : Env} {R : Room} {s : State} {m : MethodId} {args : Array Value} {below : List Frame} {meth : Method} {c : Code} {H H0 : Heap} {locs : List Loc} {cells slots : Nat} {Q : State → Prop}
variable {cc : ByteArray} {pc : Nat} {ls : Array Slot} {rest : List Value} {g : GT} {a : Nat} {A : Nat → Prop}
theorem gg_put (hx : p.tables.exec = Jvm.exec) (hb : c.code = cc) {own C : String} {T : u_T} {N ci index : Nat} (hts : ∀ w ∈ lw_all, w.before args s = true) (hin : ∀ w ∈ u_ws C T N, w ∈ lw_all) (ty0 : Nat → FieldType) (hty : ∀ k, k < N → parseFieldDescriptor (T k).2.2.1 = some (ty0 k)) (hnm : ∀ a, a < N → ∀ b, b < N → a ≠ b → (T a).2.1 ≠ (T b).2.1) (hown : s.vm.findClass own = some m.cls) (hG : GG g s) {fs : List Value} (hat : va_at (gD g) bbCl (a, .inr (ci, fs)) H) (hS0 : va_S A H0 H locs) (hA : A a) (hc : bbCl[ci]? = some (C, T, N)) (k : Nat) (hk : k < N) {ref : String} (hlink : Cond.fieldLink own index ref (T k).2.1 (T k).2.2.1 ∈ lw_all) (href : (T k).1 = ref) (hfin : (T k).2.2.2 = false) {v : Value} (hn : narrow (ty0 k) v = v) (hfit : fits (ty0 k) v = true) (hl : k < fs.length)
    (hdg : decode cc pc = .ok (.putfield index, 3)) (kk : ∀ (H1 : Heap) (locs1 : List Loc), va_at (gD g) bbCl (a, .inr (ci, fs.set k v)) H1 → But a H H1 → va_S A H0 H1 locs1 → W p l e R s m args below meth c H1 locs1 cells slots Q (F0 m (pc + 3) ls rest)) : W p l e R s m args below meth c H locs cells slots Q (F0 m pc ls (v :: .ref a :: rest)) := by
  subst href
  have hap := va_apart (own := own) hts hin ty0 hty hnm hG.k hc
  obtain ⟨r, h1, cell, q1, q2, q3, q4⟩ := hat
  have hr : r = (C, T, N) := Option.some.inj (h1.symm.trans hc)
  subst hr
  obtain ⟨hS, hfc, kC, hkC, hkind⟩ := hG.k.1 ci _ hc
  obtain ⟨cf, kf, fi, f, hi, hsl⟩ := hS k hk
  have hlay := hts _ (hin _ (u_in_lay hk))
  unfold u_lay at hlay
  rw [if_neg (by rw [hfin]; decide)] at hlay
  have hst := (u_facts hfc hkC (u_lays hts hin hk) hi).1
  have h6 := u_store hfc hkC hkind hlay hi (hty k hk) hn hfit
  refine W.putK hx hb (f := f) ⟨hown, hts _ hlink, ⟨_, _, _, hi⟩, hst⟩ (by rw [q2]; exact h6) q1 q3 (by rw [hsl]; exact k2_hasslot (q4 k hk)) rfl rfl hdg fun H' e1 e2 e3 => ?_
  rw [hsl] at e1 ⊢
  exact kk H' _ ⟨_, hc, t_OB.to (V := updV (vp_V fs) k v) ⟨_, e1, q2, q3, t_set q4 hap hk v⟩ (fun j _ => vp_updV_set hl v j)⟩ ⟨e2, e3⟩ (hS0.put e2 e3 hA)
theorem gg_putN (hx : p.tables.exec = Jvm.exec) (hb : c.code = cc) {own C host : String} {T : u_T} {N ci index : Nat} (hts : ∀ w ∈ lw_all, w.before args s = true) (hin : ∀ w ∈ u_ws C T N, w ∈ lw_all) (ty0 : Nat → FieldType) (hty : ∀ k, k < N → parseFieldDescriptor (T k).2.2.1 = some (ty0 k)) (hnm : ∀ a, a < N → ∀ b, b < N → a ≠ b → (T a).2.1 ≠ (T b).2.1) (hown : s.vm.findClass own = some m.cls) (hG : GG g s) {fs : List Value} (hat : va_at (gD g) bbCl (a, .inr (ci, fs)) H) (hS0 : va_S A H0 H locs) (hA : A a) (hc : bbCl[ci]? = some (C, T, N)) (k : Nat) (hk : k < N) {ref : String} (hlink : Cond.fieldLinkNest own index ref (T k).2.1 (T k).2.2.1 host ∈ lw_tbl) (href : (T k).1 = ref) (hfin : (T k).2.2.2 = false) {v : Value} (hn : narrow (ty0 k) v = v) (hfit : fits (ty0 k) v = true) (hl : k < fs.length)
    (hdg : decode cc pc = .ok (.putfield index, 3)) (kk : ∀ (H1 : Heap) (locs1 : List Loc), va_at (gD g) bbCl (a, .inr (ci, fs.set k v)) H1 → But a H H1 → va_S A H0 H1 locs1 → W p l e R s m args below meth c H1 locs1 cells slots Q (F0 m (pc + 3) ls rest)) : W p l e R s m args below meth c H locs cells slots Q (F0 m pc ls (v :: .ref a :: rest)) := by
  subst href
  have hap := va_apart (own := own) hts hin ty0 hty hnm hG.k hc
  obtain ⟨r, h1, cell, q1, q2, q3, q4⟩ := hat
  have hr : r = (C, T, N) := Option.some.inj (h1.symm.trans hc)
  subst hr
  obtain ⟨hS, hfc, kC, hkC, hkind⟩ := hG.k.1 ci _ hc
  obtain ⟨cf, kf, fi, f, hi, hsl⟩ := hS k hk
  have hlay := hts _ (hin _ (u_in_lay hk))
  unfold u_lay at hlay
  rw [if_neg (by rw [hfin]; decide)] at hlay
  have hst := (u_facts hfc hkC (u_lays hts hin hk) hi).1
  have h6 := u_store hfc hkC hkind hlay hi (hty k hk) hn hfit
  refine va_WputK hx hb (f := f) hown (hG.nb hlink rfl) hi hst (by rw [q2]; exact h6) q1 q3 (by rw [hsl]; exact k2_hasslot (q4 k hk)) rfl rfl hdg fun H' e1 e2 e3 => ?_
  rw [hsl] at e1 ⊢
  exact kk H' _ ⟨_, hc, t_OB.to (V := updV (vp_V fs) k v) ⟨_, e1, q2, q3, t_set q4 hap hk v⟩ (fun j _ => vp_updV_set hl v j)⟩ ⟨e2, e3⟩ (hS0.put e2 e3 hA)
/-- a final field of the object that its constructor makes -/
theorem gg_putF (hx : p.tables.exec = Jvm.exec) (hb : c.code = cc) {own C : String} {T : u_T} {N ci index : Nat} (hts : ∀ w ∈ lw_all, w.before args s = true) (hin : ∀ w ∈ u_ws C T N, w ∈ lw_all) (ty0 : Nat → FieldType) (hty : ∀ k, k < N → parseFieldDescriptor (T k).2.2.1 = some (ty0 k)) (hnm : ∀ a, a < N → ∀ b, b < N → a ≠ b → (T a).2.1 ≠ (T b).2.1) (hown : s.vm.findClass own = some m.cls) (hG : GG g s) {fs : List Value} (hat : va_at (gD g) bbCl (a, .inr (ci, fs)) H) (hS0 : va_S A H0 H locs) (hA : A a) (hc : bbCl[ci]? = some (C, T, N)) (k : Nat) (hk : k < N) (hlink : Cond.fieldLink own index own (T k).2.1 (T k).2.2.1 ∈ lw_all) (href : (T k).1 = own) (hfin : (T k).2.2.2 = true) (hin2 : meth.name = "<init>") {v : Value} (hn : narrow (ty0 k) v = v) (hfit : fits (ty0 k) v = true) (hl : k < fs.length)
    (hdg : decode cc pc = .ok (.putfield index, 3)) (kk : ∀ (H1 : Heap) (locs1 : List Loc), va_at (gD g) bbCl (a, .inr (ci, fs.set k v)) H1 → But a H H1 → va_S A H0 H1 locs1 → W p l e R s m args below meth c H1 locs1 cells slots Q (F0 m (pc + 3) ls rest)) : W p l e R s m args below meth c H locs cells slots Q (F0 m pc ls (v :: .ref a :: rest)) := by
  subst href
  have hap := va_apart (own := (T k).1) hts hin ty0 hty hnm hG.k hc
  obtain ⟨r, h1, cell, q1, q2, q3, q4⟩ := hat
  have hr : r = (C, T, N) := Option.some.inj (h1.symm.trans hc)
  subst hr
  obtain ⟨hS, hfc, kC, hkC, hkind⟩ := hG.k.1 ci _ hc
  obtain ⟨cf, kf, fi, f, hi, hsl⟩ := hS k hk
  have hlay := hts _ (hin _ (u_in_lay hk))
  unfold u_lay at hlay
  rw [if_pos hfin] at hlay
  have hst := (u_facts hfc hkC (u_lays hts hin hk) hi).1
  have hcf : m.cls = cf := by
    obtain ⟨_, _, c', _, _, _, -, -, hf', -, -, -, hown2, -⟩ := Cond.laysFinal_spec hlay
    have e1 : c' = cf := by have := hi.symm.trans hf'; simp at this; exact this.1.symm
    rw [← e1]; exact Option.some.inj (hown.symm.trans hown2)
  have h6 := u_fits hfc hkC hkind (Or.inr hlay) hi (hty k hk) hn hfit
  refine W.putFinK hx hb hown (hts _ hlink) hi hst hcf hin2 (by rw [q2]; exact h6) q1 q3 (by rw [hsl]; exact k2_hasslot (q4 k hk)) rfl rfl hdg fun H' e1 e2 e3 => ?_
  rw [hsl] at e1 ⊢
  exact kk H' _ ⟨_, hc, t_OB.to (V := updV (vp_V fs) k v) ⟨_, e1, q2, q3, t_set q4 hap hk v⟩ (fun j _ => vp_updV_set hl v j)⟩ ⟨e2, e3⟩ (hS0.put e2 e3 hA)
/-- an element of an int array -/
theorem gg_iast (hx : p.tables.exec = Jvm.exec) (hb : c.code = cc) (hG : GG g s) {n : Nat} {f : Nat → Int32} (hat : va_at (gD g) bbCl (a, .inl (gI g, n, .inl f)) H) (hS0 : va_S A H0 H locs) (hA : A a) {i x : Int32} (j : Nat) (hj : j < n) (hn : n < 2 ^ 31) (hi : i = nI j) (hdg : decode cc pc = .ok (.iastore, 1))
    (kk : ∀ (H1 : Heap) (locs1 : List Loc), va_at (gD g) bbCl (a, .inl (gI g, n, .inl (upd f j x))) H1 → But a H H1 → va_S A H0 H1 locs1 → W p l e R s m args below meth c H1 locs1 cells slots Q (F0 m (pc + 1) ls rest)) : W p l e R s m args below meth c H locs cells slots Q (F0 m pc ls (.int x :: .int i :: .ref a :: rest)) := by
  subst hi
  have h0 : H[a]? = some (vp_cell (gI g) (n, .inl f)) := hat
  refine W.iast hx hb h0 ((hG.k.2 0 _ rfl).1 n (fun j => .int (f j))) (fun q => by cases q) (by show ¬ (nI j < 0 ∨ (arrV _ _ _).slots.size ≤ _); rw [arrV_size]; exact vp_in_nI hj hn) rfl rfl hdg fun H1 e z oq => ?_
  refine kk H1 _ ?_ ⟨z, oq⟩ (hS0.put z oq hA)
  show H1[a]? = some (vp_cell _ _)
  rw [e]
  rw [vp_cell_i, vp_cell_i, arrV_store, nI_clamp (Nat.lt_trans hj hn)]
  congr 2
  funext q
  by_cases hq : q = j
  · subst hq
    simp [updV, upd]
  · simp [updV, upd, hq]
/-- an element of a long array -/
theorem gg_last (hx : p.tables.exec = Jvm.exec) (hb : c.code = cc) (hG : GG g s) {n : Nat} {f : Nat → Int64} (hat : va_at (gD g) bbCl (a, .inl (gJ g, n, .inr (.inl f))) H) (hS0 : va_S A H0 H locs) (hA : A a) {i : Int32} {x : Int64} (j : Nat) (hj : j < n) (hn : n < 2 ^ 31) (hi : i = nI j) (hdg : decode cc pc = .ok (.lastore, 1))
    (kk : ∀ (H1 : Heap) (locs1 : List Loc), va_at (gD g) bbCl (a, .inl (gJ g, n, .inr (.inl (vp_updL f j x)))) H1 → But a H H1 → va_S A H0 H1 locs1 → W p l e R s m args below meth c H1 locs1 cells slots Q (F0 m (pc + 1) ls rest)) : W p l e R s m args below meth c H locs cells slots Q (F0 m pc ls (.long x :: .int i :: .ref a :: rest)) := by
  subst hi
  have h0 : H[a]? = some (vp_cell (gJ g) (n, .inr (.inl f))) := hat
  refine W.last hx hb h0 ((hG.k.2 2 _ rfl).1 n (fun j => .long (f j))) (fun q => by cases q) (by show ¬ (nI j < 0 ∨ (arrV _ _ _).slots.size ≤ _); rw [arrV_size]; exact vp_in_nI hj hn) rfl rfl hdg fun H1 e z oq => ?_
  refine kk H1 _ ?_ ⟨z, oq⟩ (hS0.put z oq hA)
  show H1[a]? = some (vp_cell _ _)
  rw [e]
  rw [vp_cell_l, vp_cell_l, arrV_store, nI_clamp (Nat.lt_trans hj hn)]
  congr 2
  funext q
  by_cases hq : q = j
  · subst hq
    simp [updV, vp_updL]
  · simp [updV, vp_updL, hq]
end GGW
theorem va_at.but {D : va_G} {cl : List vw_C} {q : Nat × va_E} {a : Nat} {H H1 : Heap} (h : va_at D cl q H) (hb : But a H H1) (hne : q.1 ≠ a) : va_at D cl q H1 := h.kept (hb.2 q.1 hne)
/-- a bridge in the heap, all its cells apart and in F -/
def BX (g : GT) (F : Nat → Prop) (b cd al el cap : Nat) (mc : Int32) (arr : Nat → Option Nat) (ad : Nat → Nat) (S : BS) (H : Heap) : Prop :=
  va_at (gD g) bbCl (b, brE g cd al S) H ∧ va_at (gD g) bbCl (cd, inA g 8 (sCd S)) H ∧ va_at (gD g) bbCl (al, alE mc el (sN S)) H ∧ (0 < sN S → va_at (gD g) bbCl (el, rfA g cap arr) H) ∧ (∀ k, k < sN S → arr k = some (ad k) ∧ va_at (gD g) bbCl (ad k, tvE g (sTv S k)) H) ∧ sN S ≤ cap ∧ cap ≤ 60 ∧
  (F b ∧ F cd ∧ F al ∧ (0 < sN S → F el) ∧ ∀ k, k < sN S → F (ad k)) ∧ (∀ q, F q → gA g q) ∧
  (b ≠ cd ∧ b ≠ al ∧ cd ≠ al ∧ (0 < sN S → el ≠ b ∧ el ≠ cd ∧ el ≠ al) ∧ ∀ k, k < sN S → ad k ≠ b ∧ ad k ≠ cd ∧ ad k ≠ al ∧ ad k ≠ el) ∧ (∀ i j, i < sN S → j < sN S → ad i = ad j → i = j) ∧ (sN S = 0 → el = gE g)
def BW (g : GT) (F : Nat → Prop) (b : Nat) (S : BS) (H : Heap) : Prop := ∃ (cd al el cap : Nat) (mc : Int32) (arr : Nat → Option Nat) (ad : Nat → Nat), BX g F b cd al el cap mc arr ad S H
theorem BX.rb {g : GT} {F : Nat → Prop} {b cd al el cap : Nat} {mc : Int32} {arr : Nat → Option Nat} {ad : Nat → Nat} {S : BS} {H : Heap} {T : Nat} (h : BX g F b cd al el cap mc arr ad S H) (hok : OKS T S) : RB g T b S H := by
  obtain ⟨h1, h2, h3, h4, h5, h6, h7, -⟩ := h
  exact ⟨cd, al, el, cap, mc, arr, ad, h1, h2, h3, h4, h5, h6, h7, hok⟩
theorem BW.rb {g : GT} {F : Nat → Prop} {b : Nat} {S : BS} {H : Heap} {T : Nat} (h : BW g F b S H) (hok : OKS T S) : RB g T b S H := by
  obtain ⟨cd, al, el, cap, mc, arr, ad, h⟩ := h
  exact h.rb hok
theorem BX.kept {g : GT} {F : Nat → Prop} {b cd al el cap : Nat} {mc : Int32} {arr : Nat → Option Nat} {ad : Nat → Nat} {S : BS} {H H1 : Heap} (h : BX g F b cd al el cap mc arr ad S H) (hq : ∀ q, F q → H1[q]? = H[q]?) : BX g F b cd al el cap mc arr ad S H1 := by
  obtain ⟨h1, h2, h3, h4, h5, h6, h7, h8, h9⟩ := h
  exact ⟨h1.kept (hq _ h8.1), h2.kept (hq _ h8.2.1), h3.kept (hq _ h8.2.2.1), fun hn => (h4 hn).kept (hq _ (h8.2.2.2.1 hn)), fun k hk => ⟨(h5 k hk).1, (h5 k hk).2.kept (hq _ (h8.2.2.2.2 k hk))⟩, h6, h7, h8, h9⟩
theorem BW.kept {g : GT} {F : Nat → Prop} {b : Nat} {S : BS} {H H1 : Heap} (h : BW g F b S H) (hq : ∀ q, F q → H1[q]? = H[q]?) : BW g F b S H1 := by
  obtain ⟨cd, al, el, cap, mc, arr, ad, h⟩ := h
  exact ⟨cd, al, el, cap, mc, arr, ad, h.kept hq⟩
/-- the bridge's own cell is written -/
theorem BX.putB {g : GT} {F : Nat → Prop} {b cd al el cap : Nat} {mc : Int32} {arr : Nat → Option Nat} {ad : Nat → Nat} {S S1 : BS} {H H1 : Heap} (h : BX g F b cd al el cap mc arr ad S H) (hb : But b H H1) (hat : va_at (gD g) bbCl (b, brE g cd al S1) H1) (he : S1.2 = S.2) : BX g F b cd al el cap mc arr ad S1 H1 := by
  obtain ⟨h1, h2, h3, h4, h5, h6, h7, h8, h9, h10, h11, h12⟩ := h
  have e1 : sCd S1 = sCd S := by rw [show sCd S1 = S1.2.1 from rfl, he]
  have e2 : sN S1 = sN S := by rw [show sN S1 = S1.2.2.1 from rfl, he]
  have e3 : sTv S1 = sTv S := by rw [show sTv S1 = S1.2.2.2 from rfl, he]
  unfold BX
  rw [e1, e2, e3]
  exact ⟨hat, h2.but hb h10.1.symm, h3.but hb h10.2.1.symm, fun hn => (h4 hn).but hb (h10.2.2.2.1 hn).1, fun k hk => ⟨(h5 k hk).1, (h5 k hk).2.but hb (h10.2.2.2.2 k hk).1⟩, h6, h7, h8, h9, h10, h11, h12⟩
/-- a traveller's cell is written -/
theorem BX.putT {g : GT} {F : Nat → Prop} {b cd al el cap : Nat} {mc : Int32} {arr : Nat → Option Nat} {ad : Nat → Nat} {S : BS} {H H1 : Heap} (h : BX g F b cd al el cap mc arr ad S H) {k : Nat} {t : TT} (hk : k < sN S) (hb : ∀ q : Nat, q < H.size → q ≠ ad k → H1[q]? = H[q]?) (hat : va_at (gD g) bbCl (ad k, tvE g t) H1) : BX g F b cd al el cap mc arr ad (S.1, sCd S, sN S, va_up (sTv S) k t) H1 := by
  obtain ⟨h1, h2, h3, h4, h5, h6, h7, h8, h9, h10, h11, h12⟩ := h
  have hh := h10.2.2.2.2 k hk
  refine ⟨h1.kept (hb _ h1.lt hh.1.symm), h2.kept (hb _ h2.lt hh.2.1.symm), h3.kept (hb _ h3.lt hh.2.2.1.symm), fun hn => (h4 hn).kept (hb _ (h4 hn).lt hh.2.2.2.symm), fun j hj => ⟨(h5 j hj).1, ?_⟩, h6, h7, h8, h9, h10, h11, h12⟩
  show va_at (gD g) bbCl (ad j, tvE g (va_up (sTv S) k t j)) H1
  by_cases hjk : j = k
  · subst hjk
    rw [va_up_self]
    exact hat
  · rw [va_up_ne _ _ hjk]
    exact (h5 j hj).2.kept (hb _ (h5 j hj).2.lt (fun e => hjk (h11 j k hj hk e)))
