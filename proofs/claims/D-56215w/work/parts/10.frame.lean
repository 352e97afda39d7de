/-! THE FRAME: a ghost heap over the machine's, one judgement V over the kit's W, contracts g_Spc in continuation style -/
set_option maxRecDepth 100000
/-- all classes whose objects are met -/
def g_cl : List vw_C := [(RX1, TX1, 8), (RX2, TX2, 10), (RX3, TX3, 2), (RX4, TX4, 1), (RX5, TX5, 23), (RX6, TX6, 2), (RX7, TX7, 4), (RX8, TX8, 2), (RX10, TX10, 7), (RX11, TX11, 1), (RX12, TX12, 4), (RX13, TX13, 3), (RX14, TX14, 5), (RX15, TX15, 4), (RX16, TX16, 2), (RX17, TX17, 3), (RX18, TX18, 2), (RX19, TX19, 7), (RX20, TX20, 7), (RJ2, TJ2, 3), (RJ4, TJ4, 4), (RJ6, TJ6, 4), (RJ7, TJ7, 4), (RJ22, TJ22, 3), (RJ24, TJ24, 1), (RJ12, TJ12, 6), (RJ15, TJ15, 6), (RJ21, TJ21, 6), (RJ25, TJ25, 6), (RJ26, TJ26, 6), (RJ27, TJ27, 6), (RX4, TX4, 1)]
/-- what a cell of the ghost heap says of the heap; from place 31 on: an object whose monitor is held -/
def g_va (E : State × Nat × va_G) (a : Nat) (x : va_E) (H : Heap) : Prop := va_at E.2.2 g_cl (a, x) H ∧ ∀ o : Nat × List Value, x = .inr o → o.1 < 31 → ∀ cell : Cell, H[a]? = some cell → cell.monitor.owner = none ∧ cell.monitor.count = 0
/-- a ghost heap: cells by address; the heap's size; the slots in use -/
abbrev g_G : Type := (Nat → Option va_E) × Nat × Nat
/-- a method: name, code, locals, answer, handlers -/
abbrev g_M : Type := MethodName × ByteArray × Nat × Option FieldType × List (Nat × Nat × Nat × Nat)
/-- the start state, the script's address, the classes' numbers and field places -/
abbrev g_E : Type := State × Nat × va_G
def g_hs (H : Heap) : Nat := H.foldl (fun n c => n + c.slots.size) 0
def g_B (E : g_E) : Nat := E.1.heap.size
def g_capC (E : g_E) : Nat := E.1.heap.size + 1200144
def g_capS (E : g_E) : Nat := E.1.slotsUsed + 5495098
def g_ok (l : Launch) (E : g_E) : Prop :=
  l.flags = flags0 ∧ (∀ w ∈ lw_tbl, w.before #[Value.ref E.2.1] E.1 = true) ∧ (∀ (k : Nat) (q : vw_C), g_cl[k]? = some q → u_Kn E.1 q.1 q.2.1 q.2.2 (E.2.2.1 k) (E.2.2.2 k)) ∧ (Jvm.Cond.and given_1 narrow_1).before #[Value.ref E.2.1] E.1 = true
def g_Rep (E : g_E) (G : g_G) (H : Heap) : Prop :=
  H.size = G.2.1 ∧ g_hs H = G.2.2 ∧ G.2.1 ≤ g_capC E ∧ G.2.2 ≤ g_capS E ∧ g_B E ≤ H.size ∧ (∀ q : Nat, q < g_B E → H[q]? = E.1.heap[q]?) ∧ ∀ (a : Nat) (x : va_E), G.1 a = some x → g_va E a x H
def g_Ctx (l : Launch) (E : g_E) (M : g_M) (d : Nat) (p : Program) (R : Room) (s : State) (m : MethodId) (meth : Method) (c : Code) : Prop :=
  g_ok l E ∧ p.tables.exec = Jvm.exec ∧ c.code = M.2.1 ∧ meth.sig.returnType = M.2.2.2.1 ∧ c.maxLocals = M.2.2.1 ∧ s.vm.findClass M.1.cls = some m.cls ∧ E.1.WarmedH s.vm ∧ meth.locks = false ∧ meth.name = M.1.name ∧ c.exceptionTable.toList = tableOf M.2.2.2.2 ∧ (d ≤ R.frames ∧ 4000 + 64 * d ≤ R.locals ∧ g_capC E ≤ s.heap.size + R.cells ∧ g_capS E ≤ s.slotsUsed + R.slots) ∧ g_B E ≤ s.heap.size ∧ s.methodNamed? M.1 = some m
/-- what a method owes at its end -/
def g_Z (E : g_E) (P : Outcome → g_G → Prop) (below : List Frame) (s : State) : State → Prop := fun t =>
  ∃ o, t.status = .running ∧ Ended t below o ∧ s.WarmedH t.vm ∧ (∃ (L : List Loc) (k n : Nat), s.sameButNew ({ t with vm := s.vm } : State) L k n ∧ ∀ z ∈ L, g_B E ≤ z.base) ∧ ∃ G', g_Rep E G' t.heap ∧ P o G'
/-- THE JUDGEMENT: from pc with locals L, operands st, ghost heap G, the method comes to an end with P -/
def V (l : Launch) (E : g_E) (M : g_M) (d : Nat) (P : Outcome → g_G → Prop) (pc : Nat) (L : List (Nat × Value)) (st : List Value) (G : g_G) : Prop :=
  ∀ (p : Program) (e : Env) (R : Room) (s : State) (m : MethodId) (args : Array Value) (below : List Frame) (meth : Method) (c : Code) (locs : List Loc) (ls : Array Slot) (H : Heap),
    g_Ctx l E M d p R s m meth c → g_Rep E G H → s.heap.size ≤ H.size → s.slotsUsed ≤ G.2.2 → (∀ z ∈ locs, g_B E ≤ z.base) → lv_has ls M.2.2.1 L →
    W p l e R s m args below meth c H locs (H.size - s.heap.size) (G.2.2 - s.slotsUsed) (g_Z E P below s) (F0 m pc ls st)
/-- the same where q has been thrown over the frame at pc -/
def VX (l : Launch) (E : g_E) (M : g_M) (d : Nat) (P : Outcome → g_G → Prop) (pc : Nat) (L : List (Nat × Value)) (q : Nat) (G : g_G) : Prop :=
  ∀ (p : Program) (e : Env) (R : Room) (s : State) (m : MethodId) (args : Array Value) (below : List Frame) (meth : Method) (c : Code) (locs : List Loc) (ls : Array Slot) (H : Heap) (st : List Value),
    g_Ctx l E M d p R s m meth c → g_Rep E G H → s.heap.size ≤ H.size → s.slotsUsed ≤ G.2.2 → (∀ z ∈ locs, g_B E ≤ z.base) → lv_has ls M.2.2.1 L →
    ∀ T : State, T.heap = H → Stand p l e R s m args below meth c T locs (H.size - s.heap.size) (G.2.2 - s.slotsUsed) → ∃ t, Steps p.tables e below ((T.setTop (F0 m pc ls st)).pushFrame (.throwing q)) t ∧ g_Z E P below s t
/-- a synchronized method, told by a handler of zeros -/
def g_sy (M : g_M) : Bool := match M.2.2.2.2 with
  | [(0, 0, 0, 0)] => true
  | _ => false
def g_cw0 (M : g_M) : Cond := match M.2.2.2.2 with
  | [] => Cond.code M.1 M.2.1 M.2.2.1 M.2.2.2.1
  | x :: hh => Cond.codeWith M.1 M.2.1 M.2.2.1 M.2.2.2.1 (x :: hh)
def g_cw (M : g_M) : Cond := cond (g_sy M) (Cond.codeSync M.1 M.2.1 M.2.2.1 M.2.2.2.1) (g_cw0 M)
def g_room (E : g_E) (d : Nat) (G : g_G) : Room := { frames := d, cells := g_capC E - G.2.1, slots := g_capS E - G.2.2, locals := 4000 + 64 * d }
def g_Pre (E : g_E) (as : List Value) (G : g_G) : Array Value → State → Prop := fun a U => a = as.toArray ∧ E.1.WarmedH U.vm ∧ g_Rep E G U.heap
def g_Post (E : g_E) (P : Outcome → g_G → Prop) : Array Value → State → Outcome → State → Prop := fun _ st o t =>
  st.WarmedH t.vm ∧ (∃ (L : List Loc) (k n : Nat), st.sameButNew ({ t with vm := st.vm } : State) L k n ∧ ∀ z ∈ L, g_B E ≤ z.base) ∧ ∃ G', g_Rep E G' t.heap ∧ P o G'
/-- A CONTRACT -/
def g_Spc (l : Launch) (E : g_E) (M : g_M) (d : Nat) (as : List Value) (G : g_G) (P : Outcome → g_G → Prop) : Prop :=
  g_ok l E → MetFree l M.1 (headSpec [g_cw M] (g_room E d G)) (g_Pre E as G) (fun _ _ _ _ _ => True) (g_Post E P)
/-! slots -/
theorem g_hs_eq (H : Heap) : g_hs H = (H.toList.map (fun c => c.slots.size)).sum := by
  unfold g_hs
  rw [← Array.foldl_toList]
  have h : ∀ (l : List Cell) (n : Nat), l.foldl (fun n c => n + c.slots.size) n = n + (l.map (fun c => c.slots.size)).sum := by
    intro l
    induction l with
    | nil => intro n; simp
    | cons x t ih => intro n; simp [ih]; omega
  rw [h]; omega
theorem g_hs_push (H : Heap) (c : Cell) : g_hs (H.push c) = g_hs H + c.slots.size := by
  rw [g_hs_eq, g_hs_eq]; simp
theorem g_hs_set (H H1 : Heap) (a : Nat) (x y : Cell) (h : H[a]? = some x) (h1 : H1[a]? = some y) (hz : H1.size = H.size) (ho : ∀ q : Nat, q ≠ a → H1[q]? = H[q]?) (hs : y.slots.size = x.slots.size) : g_hs H1 = g_hs H := by
  rw [g_hs_eq, g_hs_eq]
  congr 1
  apply List.ext_getElem?
  intro i
  simp only [List.getElem?_map, Array.getElem?_toList]
  by_cases hi : i = a
  · subst hi
    rw [h, h1]; simp [hs]
  · rw [ho i hi]
theorem g_used {s : State} (h : s.slotsTrue = true) : s.slotsUsed = g_hs s.heap := by
  unfold State.slotsTrue at h
  simpa [g_hs] using h
/-- a walk's book may be told by the heap itself -/
theorem g_tight {p : Program} {l : Launch} {e : Env} {R : Room} {s : State} {m : MethodId} {args : Array Value} {below : List Frame} {meth : Method} {c : Code} {T : State} {locs : List Loc} {cells slots : Nat} (X : Stand p l e R s m args below meth c T locs cells slots) :
    Stand p l e R s m args below meth c T locs (T.heap.size - s.heap.size) (g_hs T.heap - s.slotsUsed) ∧ s.heap.size ≤ T.heap.size ∧ s.slotsUsed ≤ g_hs T.heap := by
  have hb := g_used X.book
  obtain ⟨h1, h2, h3, h4, h5, h6⟩ := X.same
  have h2' : s.heap.size ≤ T.heap.size := h2
  have h4' : T.slotsUsed = s.slotsUsed + ((T.heap.toList.drop s.heap.size).map (·.slots.size)).sum := h4
  refine ⟨{ X with same := ⟨h1, h2, ?_, h4, ?_, h6⟩ }, h2', by omega⟩
  · show T.heap.size ≤ s.heap.size + (T.heap.size - s.heap.size)
    omega
  · show ((T.heap.toList.drop s.heap.size).map (·.slots.size)).sum ≤ g_hs T.heap - s.slotsUsed
    omega
/-! words -/
theorem g_wordAt {E : g_E} {l : Launch} (ok : g_ok l E) {s : State} (hW : E.1.WarmedH s.vm) {w : Cond} (hw : w ∈ lw_all) (args : Array Value) : w.before args s = true :=
  word_at hW (good_of_word (List.mem_filter.mp hw).2) (ok.2.1 w (lw_all_tbl hw))
theorem g_K {E : g_E} {l : Launch} (ok : g_ok l E) {s : State} (hW : E.1.WarmedH s.vm) {k : Nat} {q : vw_C} (h : g_cl[k]? = some q) : u_Kn s q.1 q.2.1 q.2.2 (E.2.2.1 k) (E.2.2.2 k) :=
  u_Kn_moved hW.alike (ok.2.2.1 k q h)
section GC
variable {l : Launch} {E : g_E} {M : g_M} {d : Nat} {p : Program} {R : Room} {s : State} {m : MethodId} {meth : Method} {c : Code}
theorem g_Ctx.x (C : g_Ctx l E M d p R s m meth c) : p.tables.exec = Jvm.exec := C.2.1
theorem g_Ctx.b (C : g_Ctx l E M d p R s m meth c) : c.code = M.2.1 := C.2.2.1
theorem g_Ctx.r (C : g_Ctx l E M d p R s m meth c) : meth.sig.returnType = M.2.2.2.1 := C.2.2.2.1
theorem g_Ctx.ml (C : g_Ctx l E M d p R s m meth c) : c.maxLocals = M.2.2.1 := C.2.2.2.2.1
theorem g_Ctx.own (C : g_Ctx l E M d p R s m meth c) : s.vm.findClass M.1.cls = some m.cls := C.2.2.2.2.2.1
theorem g_Ctx.W (C : g_Ctx l E M d p R s m meth c) : E.1.WarmedH s.vm := C.2.2.2.2.2.2.1
theorem g_Ctx.locks (C : g_Ctx l E M d p R s m meth c) : meth.locks = false := C.2.2.2.2.2.2.2.1
theorem g_Ctx.name (C : g_Ctx l E M d p R s m meth c) : meth.name = M.1.name := C.2.2.2.2.2.2.2.2.1
theorem g_Ctx.table (C : g_Ctx l E M d p R s m meth c) : c.exceptionTable.toList = tableOf M.2.2.2.2 := C.2.2.2.2.2.2.2.2.2.1
theorem g_Ctx.room (C : g_Ctx l E M d p R s m meth c) : d ≤ R.frames ∧ 4000 + 64 * d ≤ R.locals ∧ g_capC E ≤ s.heap.size + R.cells ∧ g_capS E ≤ s.slotsUsed + R.slots := C.2.2.2.2.2.2.2.2.2.2.1
theorem g_Ctx.B (C : g_Ctx l E M d p R s m meth c) : g_B E ≤ s.heap.size := C.2.2.2.2.2.2.2.2.2.2.2.1
theorem g_Ctx.ok (C : g_Ctx l E M d p R s m meth c) : g_ok l E := C.1
theorem g_Ctx.w (C : g_Ctx l E M d p R s m meth c) {w : Cond} (hw : w ∈ lw_all) (args : Array Value) : w.before args s = true := g_wordAt C.ok C.W hw args
end GC
/-! a contract from a walk -/
theorem g_cw_spec {M : g_M} {s : State} {args : Array Value} {m : MethodId} (hn : s.methodNamed? M.1 = some m) (h : (g_cw M).before args s = true) :
    ∃ meth c, s.vm.method? m = some meth ∧ meth.code = some c ∧ c.code = M.2.1 ∧ c.maxLocals = M.2.2.1 ∧ meth.sig.returnType = M.2.2.2.1 ∧ meth.locks = g_sy M ∧ (g_sy M = false → c.exceptionTable.toList = tableOf M.2.2.2.2) ∧ parseMethodDescriptor M.1.desc = some meth.sig := by
  unfold g_cw at h
  cases hs : g_sy M with
  | true =>
    rw [hs] at h
    obtain ⟨meth, c, h1, h2, h3, h4, h5, h6, h7, h8⟩ := Cond.codeSync_spec hn (show (Cond.codeSync M.1 M.2.1 M.2.2.1 M.2.2.2.1).before args s = true from h)
    exact ⟨meth, c, h1, h2, h3, h4, h5, h6, (fun e => by cases e), h8⟩
  | false =>
    rw [hs] at h
    have h : (g_cw0 M).before args s = true := h
    clear hs
    obtain ⟨y, cc, mL, rt, hh⟩ := M
    cases hh with
    | nil =>
      obtain ⟨meth, c, h1, h2, h3, h4, h5, h6, h7, h8⟩ := Cond.code_spec hn h
      refine ⟨meth, c, h1, h2, h3, h4, h5, h6, fun _ => ?_, h8⟩
      rw [Array.isEmpty_iff.mp h7]
      rfl
    | cons x hh =>
      obtain ⟨m9, meth, c, hn9, h1, h2, h3, h4, h7, h5, h6, h8⟩ := Cond.codeWith_spec h
      cases hn.symm.trans hn9
      refine ⟨meth, c, h1, h2, h3, h4, h5, h6, fun _ => ?_, h8⟩
      show c.exceptionTable.toList = tableOf (x :: hh)
      rw [← h7, table_eq]
theorem g_cw_named {M : g_M} {s : State} {args : Array Value} (h : (g_cw M).before args s = true) : ∃ m, s.methodNamed? M.1 = some m := by
  unfold g_cw at h
  cases hn : s.methodNamed? M.1 with
  | some m => exact ⟨m, rfl⟩
  | none =>
    exfalso
    cases hs : g_sy M with
    | true =>
      rw [hs] at h
      have h : (Cond.codeSync M.1 M.2.1 M.2.2.1 M.2.2.2.1).before args s = true := h
      simp [Cond.before, Cond.holds, Cond.value, hn] at h
    | false =>
      rw [hs] at h
      have h : (g_cw0 M).before args s = true := h
      unfold g_cw0 at h
      split at h
      · simp [Cond.before, Cond.holds, Cond.value, hn] at h
      · simp [Cond.before, Cond.holds, Cond.value, hn] at h
theorem V_intro0 {l : Launch} {E : g_E} {M : g_M} {d : Nat} {as : List Value} {G : g_G} {P : Outcome → g_G → Prop} (hsy : g_sy M = false) (hy : plainFor M.1 = true) (hn : (lg_sl as).length ≤ M.2.2.1)
    (k : V l E M d P 0 (lv_args 0 as) [] G) : g_Spc l E M d as G P := by
  intro ok
  refine MetFree.of_bodySF (code := M.2.1) (maxLocals := M.2.2.1) (ret := M.2.2.2.1) hy ?_ ?_
  · intro args s m h hn9
    obtain ⟨meth, c, h1, h2, h3, h4, h5, h6, -⟩ := g_cw_spec hn9 (atoms_spec (ws := [g_cw M]) h _ List.mem_cons_self)
    exact ⟨meth, c, h1, h2, h3, h4, h5, h6.trans hsy⟩
  · intro p e s m args below meth c s₁ B hml hP _
    obtain ⟨rfl, hW, hR⟩ := hP
    have hh0 : s₁.heap = s.heap := by rw [B.state]; rfl
    have X := Stand.of_body B
    obtain ⟨meth9, c9, h1, h2, -, -, -, -, h7, -⟩ := g_cw_spec B.named (atoms_spec (ws := [g_cw M]) B.pre _ List.mem_cons_self)
    cases Option.some.inj (h1.symm.trans B.method)
    cases Option.some.inj (h2.symm.trans X.code)
    have hroom := B.room
    simp only [State.hasRoom, Bool.and_eq_true] at hroom
    have hu := g_used hroom.2
    have hcap := hR.2.2
    have C : g_Ctx l E M d p (g_room E d G) s m meth c := by
      refine ⟨ok, B.exec, B.bytes, B.returns, hml, findClass_of_methodNamed B.named, hW, B.notSynchronized, (name_of_methodNamed B.named B.method).1, h7 hsy, ⟨Nat.le_refl _, Nat.le_refl _, ?_, ?_⟩, hR.2.2.2.2.1, B.named⟩
      · show g_capC E ≤ s.heap.size + (g_capC E - G.2.1)
        have := hR.1; omega
      · show g_capS E ≤ s.slotsUsed + (g_capS E - G.2.2)
        have := hR.2.1; omega
    have hl := lv_entry as (n := M.2.2.1) hn
    have K := k p e (g_room E d G) s m as.toArray below meth c [] _ s.heap C hR (Nat.le_refl _) (by rw [hu, hR.2.1]; exact Nat.le_refl _) (fun _ h => nomatch h) hl
    obtain ⟨t, a1, o, b1, b2, b3, b4, b5⟩ := K s₁ hh0 (by rw [Nat.sub_self, hu, hR.2.1, Nat.sub_self]; exact X)
    exact ⟨t, o, by rw [lg_entry_eq]; exact a1, b1, b2, b3, b4, b5⟩
theorem V_intro {l : Launch} {E : g_E} {M : g_M} {d : Nat} {as : List Value} {G : g_G} {P : Outcome → g_G → Prop} (hy : plainFor M.1 = true) (hn : (lg_sl as).length ≤ M.2.2.1) (k : V l E M d P 0 (lv_args 0 as) [] G) (hsy : g_sy M = false := by rfl) : g_Spc l E M d as G P := V_intro0 hsy hy hn k
/-! a contract at a call (follows kit/laws EXCEPTIONS vx_back) -/
theorem g_back0 {l : Launch} {E : g_E} {M' : g_M} {d d' : Nat} {p : Program} {e : Env} {R : Room} {s : State} {m : MethodId} {args : Array Value} {below : List Frame} {meth : Method} {c : Code} {as : List Value} {G : g_G} {P' : Outcome → g_G → Prop} {U : State} {locs : List Loc}
    (ok : g_ok l E) (hWs : E.1.WarmedH s.vm) (hroom : d ≤ R.frames ∧ 4000 + 64 * d ≤ R.locals ∧ g_capC E ≤ s.heap.size + R.cells ∧ g_capS E ≤ s.slotsUsed + R.slots) (S : g_Spc l E M' d' as G P') (hcw : g_cw M' ∈ lw_all) (hini : (Cond.initialized M'.1.cls) ∈ lw_all) (hdd : d' + 1 ≤ d) (hmx : M'.2.2.1 ≤ 24)
    (hR : g_Rep E G U.heap) (hlocs : ∀ z ∈ locs, g_B E ≤ z.base) {cells slots : Nat} (X0 : Stand p l e R s m args below meth c U locs cells slots)
    {g : JFrame} {ig : Instr} {len : Nat} (hg : g.method = m) (hsize : g.locals.size = c.maxLocals) (hdg : decode c.code g.pc = .ok (ig, len)) (hwt : 2 * g.monitorRoom + (g.stack.map fun v => v.category).sum ≤ 28)
    {mk : MethodId} (hn : U.methodNamed? M'.1 = some mk) :
    ∃ (o : Outcome) (Bt : State) (L : List Loc) (G' : g_G), Stand p l e R s m args below meth c Bt (locs ++ L) (Bt.heap.size - s.heap.size) (g_hs Bt.heap - s.slotsUsed) ∧ (∀ z ∈ locs ++ L, g_B E ≤ z.base) ∧ g_Rep E G' Bt.heap ∧ P' o G' ∧ s.heap.size ≤ Bt.heap.size ∧ s.slotsUsed ≤ G'.2.2 ∧
      match o with
      | .returned v => Steps p.tables e below (doInvoke e (U.setTop g) [] mk as.toArray).1 (Bt.setTop { g with pc := g.pc + len, stack := v.toList ++ g.stack })
      | .threw q => Steps p.tables e below (doInvoke e (U.setTop g) [] mk as.toArray).1 ((Bt.setTop g).pushFrame (.throwing q)) := by
  obtain ⟨X, hz1, hz2⟩ := g_tight X0
  have hM := S ok
  have hWU : E.1.WarmedH U.vm := State.WarmedH.trans hWs X.warmed
  have h2 : (g_cw M').before as.toArray U = true := g_wordAt ok hWU hcw _
  have h1 : (headSpec [g_cw M'] (g_room E d' G)).pre.before as.toArray U = true := atoms_intro fun w hw => by rw [List.mem_singleton.mp hw]; exact h2
  have h3 : (Cond.initialized M'.1.cls).before as.toArray U = true := g_wordAt ok hWU hini _
  obtain ⟨methY, cY, hmY, hcY, -, hlY, -⟩ := g_cw_spec hn h2
  obtain ⟨kY, hkY, -⟩ := className_of_methodNamed hn
  have hinitY : kY.init = .initialized := Cond.initialized_spec (findClass_of_methodNamed hn) hkY h3
  have h : At U g.method c below := by rw [hg]; exact X.here
  obtain ⟨r1, r2, r3, r4⟩ := hroom
  have hPc : g_Pre E as G as.toArray (U.calling g mk as.toArray) := ⟨rfl, hWU, hR⟩
  have happ : (headSpec [g_cw M'] (g_room E d' G)).appliesLoose M'.1 e.platform (U.calling g mk as.toArray) = true := by
    refine Spec.appliesLoose_calling (g := g) h hdg hn hkY hinitY (X.room_calling (g := g) (R' := (g_room E d' G)) hsize hmY hcY ?_ ?_ ?_ ?_) h1
    · show d' + 1 ≤ R.frames
      omega
    · rw [hlY]
      show 2 * g.monitorRoom + (g.stack.map fun v => v.category).sum + (M'.2.2.1 + 11) + (4000 + 64 * d') ≤ R.locals
      omega
    · show U.heap.size - s.heap.size + (g_capC E - G.2.1) ≤ R.cells
      have := hR.1; have := hR.2.2.1; omega
    · show g_hs U.heap - s.slotsUsed + (g_capS E - G.2.2) ≤ R.slots
      have := hR.2.1; have := hR.2.2.2.1; omega
  obtain ⟨mid, hmid⟩ := h.above
  have hfr : (U.setTop g).frames = (.java g :: mid) ++ below := by rw [State.frames_setTop' g h.top, hmid]; rfl
  obtain ⟨o, s₂, hsteps, -, hend, hq⟩ := Steps.callFree hM p X.admits X.cas X.clock (acts := []) hfr happ hPc trivial
  obtain ⟨hW₂, ⟨L, k2, n2, hsm, hL⟩, G', hR', hP'⟩ := hq
  have hsm : (U.calling g mk as.toArray).sameButNew ({ s₂ with vm := (U.calling g mk as.toArray).vm } : State) L k2 n2 := hsm
  rw [State.frames_setTop' g h.top] at hend
  obtain ⟨g₀, hg0⟩ := Option.isSome_iff_exists.mp h.top
  obtain ⟨r, hr⟩ := State.topJava?_eq_some.mp hg0
  have hr' : (({ U with heap := s₂.heap, slotsUsed := s₂.slotsUsed } : State).setVm s₂.vm).frames = .java g₀ :: r := hr
  obtain ⟨e2, q2, q3, q4, q5, q6⟩ := id hsm
  have e3 : s₂ = ({ (U.calling g mk as.toArray).setFrames s₂.frames with heap := s₂.heap, slotsUsed := s₂.slotsUsed } : State).setVm s₂.vm := by
    have : s₂ = ({ s₂ with vm := (U.calling g mk as.toArray).vm } : State).setVm s₂.vm := rfl
    rw [e2] at this
    exact this
  have hW' : U.WarmedH s₂.vm := hW₂
  have hsame : U.sameButNew ({ U with heap := s₂.heap, slotsUsed := s₂.slotsUsed } : State) L k2 n2 := by
    refine ⟨?_, q2, q3, q4, q5, q6⟩
    obtain ⟨t, ht, -⟩ := State.frames_cons hr
    show ({ U with heap := s₂.heap, slotsUsed := s₂.slotsUsed } : State) = { U.setFrames U.frames with heap := s₂.heap, slotsUsed := s₂.slotsUsed }
    rw [State.setFrames_self ht]
  have XB : Stand p l e R s m args below meth c (({ U with heap := s₂.heap, slotsUsed := s₂.slotsUsed } : State).setVm s₂.vm) (locs ++ L) ((U.heap.size - s.heap.size) + k2) ((g_hs U.heap - s.slotsUsed) + n2) := by
    subst hg
    exact ⟨X.admits, X.cas, X.clock, X.frames, X.room, X.hears, X.method, X.code, (X.here.setHeapUsed s₂.heap s₂.slotsUsed).setVm hW'.alike, X.tail, State.WarmedH.trans X.warmed hW', X.limits, X.bytes, X.same.trans (hsame.setVm s.vm)⟩
  obtain ⟨XT, z1, z2⟩ := g_tight XB
  refine ⟨o, _, L, G', XT, fun z hz => (List.mem_append.mp hz).elim (hlocs z) (hL z), hR', hP', z1, by rw [← hR'.2.1]; exact z2, ?_⟩
  cases o with
  | returned v =>
    obtain ⟨c₂, i₂, len₂, hc₂, hd₂, hf₂⟩ := hend
    have hcc : c₂ = c := by
      have h1 : s₂.code? g.method = U.code? g.method := by
        rw [State.code?_eq, State.code?_eq, hW'.alike.method?]
      exact Option.some.inj (hc₂.symm.trans (h1.trans h.code))
    subst hcc
    have hlen : len₂ = len := by rw [hdg] at hd₂; cases hd₂; rfl
    subst hlen
    have hs₂ : s₂ = (({ U with heap := s₂.heap, slotsUsed := s₂.slotsUsed } : State).setVm s₂.vm).setTop { g with pc := g.pc + len₂, stack := v.toList ++ g.stack } := by
      refine e3.trans ?_
      rw [hf₂, State.calling_eq h.top, State.setFrames_setFrames, State.setTop_of_frames _ hr', hr]
      rfl
    show Steps p.tables e below _ ((({ U with heap := s₂.heap, slotsUsed := s₂.slotsUsed } : State).setVm s₂.vm).setTop { g with pc := g.pc + len₂, stack := v.toList ++ g.stack })
    rw [← hs₂]
    exact hsteps
  | threw q =>
    have hf₂ : s₂.frames = .throwing q :: .java g :: U.frames.tail := hend
    have hs₂ : s₂ = ((({ U with heap := s₂.heap, slotsUsed := s₂.slotsUsed } : State).setVm s₂.vm).setTop g).pushFrame (.throwing q) := by
      refine e3.trans ?_
      rw [hf₂, State.calling_eq h.top, State.setFrames_setFrames, State.pushFrame, State.frames_setTop _ hr', State.setTop_of_frames _ hr', State.setFrames_setFrames, hr]
      rfl
    show Steps p.tables e below _ (((({ U with heap := s₂.heap, slotsUsed := s₂.slotsUsed } : State).setVm s₂.vm).setTop g).pushFrame (.throwing q))
    rw [← hs₂]
    exact hsteps
