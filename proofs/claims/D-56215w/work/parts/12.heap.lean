/-! V ROWS of the heap (printed by wip gen/heap.py) -/
set_option maxRecDepth 100000
/-- a cell changed; a cell made -/
def g_up (G : g_G) (a : Nat) (x : va_E) : g_G := (va_up G.1 a (some x), G.2)
def g_new (G : g_G) (x : va_E) (n : Nat) : g_G := (va_up G.1 G.2.1 (some x), G.2.1 + 1, G.2.2 + n)
/-- the number of an array's class -/
def g_A (E : g_E) (ty : FieldType) : ClassId := (E.1.vm.findClass ("[" ++ ty.toString)).getD 0
/-- arrays of the ghost heap -/
abbrev g_ai (E : g_E) (n : Nat) (f : Nat → Int32) : va_E := .inl (g_A E .int, n, .inl f)
abbrev g_ab (E : g_E) (n : Nat) (f : Nat → Int32) : va_E := .inl (g_A E .byte, n, .inl f)
abbrev g_al (E : g_E) (n : Nat) (f : Nat → Int64) : va_E := .inl (g_A E .long, n, .inr (.inl f))
abbrev g_ad (E : g_E) (n : Nat) (f : Nat → UInt64) : va_E := .inl (g_A E .double, n, .inr (.inr (.inr (.inl f))))
abbrev g_aq (E : g_E) (C : String) (n : Nat) (f : Nat → Option Nat) : va_E := .inl (g_A E (.object C), n, .inr (.inr (.inr (.inr f))))
abbrev g_ob (ci : Nat) (fs : List Value) : va_E := .inr (ci, fs)
theorem g_up_self (G : g_G) (a : Nat) (x : va_E) : (g_up G a x).1 a = some x := va_up_self _ _ _
theorem g_up_ne (G : g_G) {a b : Nat} (x : va_E) (h : b ≠ a) : (g_up G a x).1 b = G.1 b := va_up_ne _ _ h
theorem g_new_self (G : g_G) (x : va_E) (n : Nat) : (g_new G x n).1 G.2.1 = some x := va_up_self _ _ _
theorem g_new_ne (G : g_G) {b : Nat} (x : va_E) (n : Nat) (h : b ≠ G.2.1) : (g_new G x n).1 b = G.1 b := va_up_ne _ _ h
/-- what the tables say of a class -/
def g_ck (ci : Nat) (C : String) (T : u_T) (N : Nat) (ty : Nat → FieldType) (fs0 : List Value) : Prop :=
  g_cl[ci]? = some (C, T, N) ∧ (∀ w ∈ u_ws C T N, w ∈ lw_all) ∧ (∀ k, k < N → parseFieldDescriptor (T k).2.2.1 = some (ty k)) ∧ (∀ a, a < N → ∀ b, b < N → a ≠ b → (T a).2.1 ≠ (T b).2.1) ∧ Cond.instantiable C N ∈ lw_all ∧ Cond.initialized C ∈ lw_all ∧ (∀ j, j < N → defaultValue (ty j) = vp_V fs0 j) ∧ fs0.length = N
theorem g_Rep.va {E : g_E} {G : g_G} {H : Heap} (h : g_Rep E G H) {a : Nat} {x : va_E} (hx : G.1 a = some x) : va_at E.2.2 g_cl (a, x) H := (h.2.2.2.2.2.2 a x hx).1
theorem g_Rep.mon {E : g_E} {G : g_G} {H : Heap} (h : g_Rep E G H) {a ci : Nat} {fs : List Value} (hx : G.1 a = some (.inr (ci, fs))) (hc : ci < 31) {cell : Cell} (h1 : H[a]? = some cell) : cell.monitor.owner = none ∧ cell.monitor.count = 0 := (h.2.2.2.2.2.2 a _ hx).2 _ rfl hc cell h1
theorem g_vaA {E : g_E} {a : Nat} {q : ClassId × vp_A} {H : Heap} (h : va_at E.2.2 g_cl (a, .inl q) H) : g_va E a (.inl q) H := ⟨h, fun o e => by cases e⟩
theorem g_va.kept {E : g_E} {a : Nat} {x : va_E} {H H1 : Heap} (h : g_va E a x H) (hq : H1[a]? = H[a]?) : g_va E a x H1 := ⟨h.1.kept hq, fun o e hc cell hcell => h.2 o e hc cell (by rw [← hq]; exact hcell)⟩
theorem g_Rep.lt {E : g_E} {G : g_G} {H : Heap} (h : g_Rep E G H) {a : Nat} {x : va_E} (hx : G.1 a = some x) : a < G.2.1 := by
  have := (h.va hx).lt
  rw [h.1] at this
  exact this
theorem g_Rep.set {E : g_E} {G : g_G} {H H1 : Heap} {a : Nat} {y : va_E} (h : g_Rep E G H) (hB : g_B E ≤ a) (hy : g_va E a y H1) (hz : H1.size = H.size) (ho : ∀ q : Nat, q ≠ a → H1[q]? = H[q]?) (hs : g_hs H1 = g_hs H) : g_Rep E (g_up G a y) H1 := by
  refine ⟨hz.trans h.1, hs.trans h.2.1, h.2.2.1, h.2.2.2.1, by rw [hz]; exact h.2.2.2.2.1, fun q hq => (ho q (by omega)).trans (h.2.2.2.2.2.1 q hq), fun b x hx => ?_⟩
  by_cases hb : b = a
  · subst hb
    rw [g_up_self] at hx
    cases hx
    exact hy
  · rw [g_up_ne _ _ hb] at hx
    exact (h.2.2.2.2.2.2 b x hx).kept (ho b hb)
theorem g_Rep.push {E : g_E} {G : g_G} {H : Heap} {y : va_E} {n : Nat} (h : g_Rep E G H) (hc : G.2.1 + 1 ≤ g_capC E) (hs : G.2.2 + n ≤ g_capS E) (c : Cell) (hn : c.slots.size = n) (hy : g_va E G.2.1 y (H.push c)) : g_Rep E (g_new G y n) (H.push c) := by
  refine ⟨by rw [Array.size_push, h.1]; rfl, by rw [g_hs_push, h.2.1, hn]; rfl, hc, hs, by rw [Array.size_push]; exact Nat.le_succ_of_le h.2.2.2.2.1, fun q hq => ?_, fun b x hx => ?_⟩
  · rw [Array.getElem?_push, if_neg (Nat.ne_of_lt (Nat.lt_of_lt_of_le hq h.2.2.2.2.1))]
    exact h.2.2.2.2.2.1 q hq
  · by_cases hb : b = G.2.1
    · subst hb
      rw [g_new_self] at hx
      cases hx
      exact hy
    · rw [g_new_ne _ _ _ hb] at hx
      have hl := (h.va hx).lt
      exact (h.2.2.2.2.2.2 b x hx).kept (by rw [Array.getElem?_push, if_neg (Nat.ne_of_lt hl)])
theorem g_arrA {E : g_E} {l : Launch} (ok : g_ok l E) {s : State} (hW : E.1.WarmedH s.vm) {ty : FieldType} (hw : Cond.arrayClass ty ∈ lw_all) : ArrOfT s (g_A E ty) ty ∧ s.vm.findClass ("[" ++ ty.toString) = some (g_A E ty) := by
  obtain ⟨c, k, comp, h1, h2, h3⟩ := Cond.arrayClass_spec (ok.2.1 _ (lw_all_tbl hw))
  have e : g_A E ty = c := by unfold g_A; rw [h1]; rfl
  rw [e]
  refine ⟨arrOfT_moved hW.alike (fun n z => ⟨fun k h => (by cases h), k, h2, comp, h3⟩), ?_⟩
  rw [hW.alike.findClass]; exact h1
theorem g_arrO {E : g_E} {l : Launch} (ok : g_ok l E) {s : State} (hW : E.1.WarmedH s.vm) {C : String} (hw : Cond.arrayOver (.object C) ∈ lw_tbl) : ArrOfT s (g_A E (.object C)) (.object C) ∧ va_RA s (g_A E (.object C)) (.object C) ∧ va_AO C s := by
  have hAO : va_AO C E.1 := va_AO.of (ok.2.1 _ hw)
  obtain ⟨comp, c, k, h1, h2, h3, h4, h5⟩ := Cond.arrayOver_spec hAO
  have e : g_A E (.object C) = c := by unfold g_A; rw [h5]; rfl
  rw [e]
  exact ⟨arrOfT_moved hW.alike (fun n z => ⟨fun k h => (by cases h), k, h3, comp, h4⟩), va_RA.moved hW.alike (ty := .object C) ⟨k, comp, h3, h4, h1, h5⟩, hAO.moved hW.alike⟩
theorem g_KA {E : g_E} {l : Launch} (ok : g_ok l E) {s : State} (hW : E.1.WarmedH s.vm) (tys : List (ClassId × FieldType)) (h : ∀ (k : Nat) (q : ClassId × FieldType), tys[k]? = some q → ArrOfT s q.1 q.2 ∧ va_RA s q.1 q.2) : va_K E.2.2 g_cl tys s :=
  ⟨fun _ _ hk => g_K ok hW hk, h⟩
theorem g_P1 {E : g_E} {G : g_G} {H : Heap} (h : g_Rep E G H) {a : Nat} {x : va_E} (hx : G.1 a = some x) : va_P E.2.2 g_cl [(a, x)] H := fun k q hk => by
  match k, hk with
  | 0, hk => cases hk; exact h.va hx
theorem g_hs_cell {H H1 : Heap} {a : Nat} {x y : Cell} (h : H[a]? = some x) (h1 : H1[a]? = some y) (hz : H1.size = H.size) (ho : ∀ q : Nat, q ≠ a → H1[q]? = H[q]?) (hs : y.slots.size = x.slots.size) : g_hs H1 = g_hs H := g_hs_set H H1 a x y h h1 hz ho hs
section VH
variable {l : Launch} {E : g_E} {M : g_M} {d : Nat} {P : Outcome → g_G → Prop} {pc : Nat} {L : List (Nat × Value)} {st : List Value} {G : g_G}
theorem g_locs1 {E : g_E} {locs : List Loc} {a i : Nat} (h : ∀ z ∈ locs, g_B E ≤ z.base) (ha : g_B E ≤ a) : ∀ z ∈ locs ++ [(⟨a, i⟩ : Loc)], g_B E ≤ z.base := fun z hz => by
  rcases List.mem_append.mp hz with q | q
  · exact h z q
  · rw [List.mem_singleton.mp q]; exact ha

theorem V_ireturn {x : Int32} (hd : decode M.2.1 pc = .ok (.ireturn, 1)) (hr : M.2.2.2.1 = some .int) (k : P (.returned (some (.int x))) G) : V l E M d P pc L [.int x] G := by
  intro p e R s m args below meth c locs ls H C hR h1 h2 h3 hl
  intro T hT X
  have hx := C.x
  have hb := C.b
  have hlocks := C.locks
  have hr9 := C.r.trans hr
  obtain ⟨fs, hret, hrun, hended, hW, hframe⟩ := X.leave (v := some (.int x)) (hlocks := hlocks) (fun h => by rw [hr9] at h; cases h)
  have hmeth' : T.vm.method? m = some meth := X.method'
  refine ⟨T.setFrames fs, ?_, .returned (some (.int x)), hrun, hended, hW, ⟨locs, _, _, hframe, h3⟩, G, ?_, k⟩
  · jvm_step X.here [X.here.top, hx, hb, hd, hmeth', hr9, narrow]
    (try refine ⟨rfl, ?_⟩); (try refine ⟨rfl, ?_⟩)
    first | (intro acts; rw [hret _ acts rfl rfl rfl]) | rw [hret _ _ rfl rfl rfl]
    exact Steps.refl _
  · show g_Rep E G T.heap
    rw [hT]; exact hR
theorem V_zreturn {x : Int32} {ty : FieldType} (hd : decode M.2.1 pc = .ok (.ireturn, 1)) (hr : M.2.2.2.1 = some ty) (hn : narrow ty (.int x) = .int x) (k : P (.returned (some (.int x))) G) : V l E M d P pc L [.int x] G := by
  intro p e R s m args below meth c locs ls H C hR h1 h2 h3 hl
  intro T hT X
  have hx := C.x
  have hb := C.b
  have hlocks := C.locks
  have hr9 := C.r.trans hr
  obtain ⟨fs, hret, hrun, hended, hW, hframe⟩ := X.leave (v := some (.int x)) (hlocks := hlocks) (fun h => by rw [hr9] at h; cases h)
  have hmeth' : T.vm.method? m = some meth := X.method'
  refine ⟨T.setFrames fs, ?_, .returned (some (.int x)), hrun, hended, hW, ⟨locs, _, _, hframe, h3⟩, G, ?_, k⟩
  · jvm_step X.here [X.here.top, hx, hb, hd, hmeth', hr9, hn]
    (try refine ⟨rfl, ?_⟩); (try refine ⟨rfl, ?_⟩)
    first | (intro acts; rw [hret _ acts rfl rfl rfl]) | rw [hret _ _ rfl rfl rfl]
    exact Steps.refl _
  · show g_Rep E G T.heap
    rw [hT]; exact hR
theorem V_lreturn {x : Int64} (hd : decode M.2.1 pc = .ok (.lreturn, 1)) (hr : M.2.2.2.1 = some .long) (k : P (.returned (some (.long x))) G) : V l E M d P pc L [.long x] G := by
  intro p e R s m args below meth c locs ls H C hR h1 h2 h3 hl
  intro T hT X
  have hx := C.x
  have hb := C.b
  have hlocks := C.locks
  have hr9 := C.r.trans hr
  obtain ⟨fs, hret, hrun, hended, hW, hframe⟩ := X.leave (v := some (.long x)) (hlocks := hlocks) (fun h => by rw [hr9] at h; cases h)
  have hmeth' : T.vm.method? m = some meth := X.method'
  refine ⟨T.setFrames fs, ?_, .returned (some (.long x)), hrun, hended, hW, ⟨locs, _, _, hframe, h3⟩, G, ?_, k⟩
  · jvm_step X.here [X.here.top, hx, hb, hd, hmeth', hr9, narrow]
    (try refine ⟨rfl, ?_⟩); (try refine ⟨rfl, ?_⟩)
    first | (intro acts; rw [hret _ acts rfl rfl rfl]) | rw [hret _ _ rfl rfl rfl]
    exact Steps.refl _
  · show g_Rep E G T.heap
    rw [hT]; exact hR
theorem V_freturn {x : UInt32} (hd : decode M.2.1 pc = .ok (.freturn, 1)) (hr : M.2.2.2.1 = some .float) (k : P (.returned (some (.float x))) G) : V l E M d P pc L [.float x] G := by
  intro p e R s m args below meth c locs ls H C hR h1 h2 h3 hl
  intro T hT X
  have hx := C.x
  have hb := C.b
  have hlocks := C.locks
  have hr9 := C.r.trans hr
  obtain ⟨fs, hret, hrun, hended, hW, hframe⟩ := X.leave (v := some (.float x)) (hlocks := hlocks) (fun h => by rw [hr9] at h; cases h)
  have hmeth' : T.vm.method? m = some meth := X.method'
  refine ⟨T.setFrames fs, ?_, .returned (some (.float x)), hrun, hended, hW, ⟨locs, _, _, hframe, h3⟩, G, ?_, k⟩
  · jvm_step X.here [X.here.top, hx, hb, hd, hmeth', hr9, narrow]
    (try refine ⟨rfl, ?_⟩); (try refine ⟨rfl, ?_⟩)
    first | (intro acts; rw [hret _ acts rfl rfl rfl]) | rw [hret _ _ rfl rfl rfl]
    exact Steps.refl _
  · show g_Rep E G T.heap
    rw [hT]; exact hR
theorem V_dreturn {x : UInt64} (hd : decode M.2.1 pc = .ok (.dreturn, 1)) (hr : M.2.2.2.1 = some .double) (k : P (.returned (some (.double x))) G) : V l E M d P pc L [.double x] G := by
  intro p e R s m args below meth c locs ls H C hR h1 h2 h3 hl
  intro T hT X
  have hx := C.x
  have hb := C.b
  have hlocks := C.locks
  have hr9 := C.r.trans hr
  obtain ⟨fs, hret, hrun, hended, hW, hframe⟩ := X.leave (v := some (.double x)) (hlocks := hlocks) (fun h => by rw [hr9] at h; cases h)
  have hmeth' : T.vm.method? m = some meth := X.method'
  refine ⟨T.setFrames fs, ?_, .returned (some (.double x)), hrun, hended, hW, ⟨locs, _, _, hframe, h3⟩, G, ?_, k⟩
  · jvm_step X.here [X.here.top, hx, hb, hd, hmeth', hr9, narrow]
    (try refine ⟨rfl, ?_⟩); (try refine ⟨rfl, ?_⟩)
    first | (intro acts; rw [hret _ acts rfl rfl rfl]) | rw [hret _ _ rfl rfl rfl]
    exact Steps.refl _
  · show g_Rep E G T.heap
    rw [hT]; exact hR
theorem V_return  (hd : decode M.2.1 pc = .ok (.return_, 1)) (hr : M.2.2.2.1 = none) (k : P (.returned (none)) G) : V l E M d P pc L [] G := by
  intro p e R s m args below meth c locs ls H C hR h1 h2 h3 hl
  intro T hT X
  have hx := C.x
  have hb := C.b
  have hlocks := C.locks
  have hr9 := C.r.trans hr
  obtain ⟨fs, hret, hrun, hended, hW, hframe⟩ := X.leave (v := none) (hlocks := hlocks) (fun _ => rfl)
  have hmeth' : T.vm.method? m = some meth := X.method'
  refine ⟨T.setFrames fs, ?_, .returned (none), hrun, hended, hW, ⟨locs, _, _, hframe, h3⟩, G, ?_, k⟩
  · jvm_step X.here [X.here.top, hx, hb, hd, hmeth', hr9]
    (try refine ⟨rfl, ?_⟩); (try refine ⟨rfl, ?_⟩)
    first | (intro acts; rw [hret _ acts rfl rfl rfl]) | rw [hret _ _ rfl rfl rfl]
    exact Steps.refl _
  · show g_Rep E G T.heap
    rw [hT]; exact hR
theorem V_areturnO {a : Nat} {n : String} (hd : decode M.2.1 pc = .ok (.areturn, 1)) (hr : M.2.2.2.1 = some (.object n)) (k : P (.returned (some (.ref a))) G) : V l E M d P pc L [.ref a] G := by
  intro p e R s m args below meth c locs ls H C hR h1 h2 h3 hl
  intro T hT X
  have hx := C.x
  have hb := C.b
  have hlocks := C.locks
  have hr9 := C.r.trans hr
  obtain ⟨fs, hret, hrun, hended, hW, hframe⟩ := X.leave (v := some (.ref a)) (hlocks := hlocks) (fun h => by rw [hr9] at h; cases h)
  have hmeth' : T.vm.method? m = some meth := X.method'
  refine ⟨T.setFrames fs, ?_, .returned (some (.ref a)), hrun, hended, hW, ⟨locs, _, _, hframe, h3⟩, G, ?_, k⟩
  · jvm_step X.here [X.here.top, hx, hb, hd, hmeth', hr9]
    (try refine ⟨rfl, ?_⟩); (try refine ⟨rfl, ?_⟩)
    first | (intro acts; rw [hret _ acts rfl rfl rfl]) | rw [hret _ _ rfl rfl rfl]
    exact Steps.refl _
  · show g_Rep E G T.heap
    rw [hT]; exact hR
theorem V_areturnON {n : String} (hd : decode M.2.1 pc = .ok (.areturn, 1)) (hr : M.2.2.2.1 = some (.object n)) (k : P (.returned (some (.null))) G) : V l E M d P pc L [.null] G := by
  intro p e R s m args below meth c locs ls H C hR h1 h2 h3 hl
  intro T hT X
  have hx := C.x
  have hb := C.b
  have hlocks := C.locks
  have hr9 := C.r.trans hr
  obtain ⟨fs, hret, hrun, hended, hW, hframe⟩ := X.leave (v := some (.null)) (hlocks := hlocks) (fun h => by rw [hr9] at h; cases h)
  have hmeth' : T.vm.method? m = some meth := X.method'
  refine ⟨T.setFrames fs, ?_, .returned (some (.null)), hrun, hended, hW, ⟨locs, _, _, hframe, h3⟩, G, ?_, k⟩
  · jvm_step X.here [X.here.top, hx, hb, hd, hmeth', hr9]
    (try refine ⟨rfl, ?_⟩); (try refine ⟨rfl, ?_⟩)
    first | (intro acts; rw [hret _ acts rfl rfl rfl]) | rw [hret _ _ rfl rfl rfl]
    exact Steps.refl _
  · show g_Rep E G T.heap
    rw [hT]; exact hR
theorem V_areturnA {a : Nat} {t : FieldType} (hd : decode M.2.1 pc = .ok (.areturn, 1)) (hr : M.2.2.2.1 = some (.array t)) (k : P (.returned (some (.ref a))) G) : V l E M d P pc L [.ref a] G := by
  intro p e R s m args below meth c locs ls H C hR h1 h2 h3 hl
  intro T hT X
  have hx := C.x
  have hb := C.b
  have hlocks := C.locks
  have hr9 := C.r.trans hr
  obtain ⟨fs, hret, hrun, hended, hW, hframe⟩ := X.leave (v := some (.ref a)) (hlocks := hlocks) (fun h => by rw [hr9] at h; cases h)
  have hmeth' : T.vm.method? m = some meth := X.method'
  refine ⟨T.setFrames fs, ?_, .returned (some (.ref a)), hrun, hended, hW, ⟨locs, _, _, hframe, h3⟩, G, ?_, k⟩
  · jvm_step X.here [X.here.top, hx, hb, hd, hmeth', hr9]
    (try refine ⟨rfl, ?_⟩); (try refine ⟨rfl, ?_⟩)
    first | (intro acts; rw [hret _ acts rfl rfl rfl]) | rw [hret _ _ rfl rfl rfl]
    exact Steps.refl _
  · show g_Rep E G T.heap
    rw [hT]; exact hR
theorem V_get {ci N : Nat} {C0 : String} {T : u_T} {ty : Nat → FieldType} {fs0 : List Value} (ck : g_ck ci C0 T N ty fs0) {a i : Nat} {fs : List Value} {v : Value} {ref : String} (hG : G.1 a = some (g_ob ci fs)) (j : Nat) (hj : j < N) (hlink : (Cond.fieldLink M.1.cls i ref (T j).2.1 (T j).2.2.1) ∈ lw_all) (href : ref = (T j).1) (hv : fs[j]? = some v) (hd : decode M.2.1 pc = .ok (.getfield i, 3)) (k : V l E M d P (pc + 3) L (v :: st) G) : V l E M d P pc L (.ref a :: st) G := by
  intro p e R s m args below meth c locs ls H C hR h1 h2 h3 hl
  exact va_get (Ts := lw_all) C.x C.b (fun w hw => C.w hw args) ck.2.1 C.own (g_KA C.ok C.W [] (fun _ _ h => nomatch h)) (g_P1 hR hG) 0 rfl ck.1 j hj (C.w hlink args) (fun x hx => by rw [href]; exact hx) hv hd (k p e R s m args below meth c locs ls H C hR h1 h2 h3 hl)
theorem V_getI {ci N : Nat} {C0 : String} {T : u_T} {ty : Nat → FieldType} {fs0 : List Value} (ck : g_ck ci C0 T N ty fs0) {a i : Nat} {fs : List Value} {v : Value} {ref : String} (hG : G.1 a = some (g_ob ci fs)) (j : Nat) (hj : j < N) (hlink : (Cond.fieldLink M.1.cls i ref (T j).2.1 (T j).2.2.1) ∈ lw_all) (hsm : Cond.sameField ref (T j).1 (T j).2.1 (T j).2.2.1 ∈ lw_all) (hv : fs[j]? = some v) (hd : decode M.2.1 pc = .ok (.getfield i, 3)) (k : V l E M d P (pc + 3) L (v :: st) G) : V l E M d P pc L (.ref a :: st) G := by
  intro p e R s m args below meth c locs ls H C hR h1 h2 h3 hl
  exact va_get (Ts := lw_all) C.x C.b (fun w hw => C.w hw args) ck.2.1 C.own (g_KA C.ok C.W [] (fun _ _ h => nomatch h)) (g_P1 hR hG) 0 rfl ck.1 j hj (C.w hlink args) (fun x hx => u_same (C.w hsm args) x hx) hv hd (k p e R s m args below meth c locs ls H C hR h1 h2 h3 hl)
theorem V_getN {ci N : Nat} {C0 : String} {T : u_T} {ty : Nat → FieldType} {fs0 : List Value} (ck : g_ck ci C0 T N ty fs0) {a i : Nat} {fs : List Value} {v : Value} {ref host : String} (hG : G.1 a = some (g_ob ci fs)) (j : Nat) (hj : j < N) (hlink : (Cond.fieldLinkNest M.1.cls i ref (T j).2.1 (T j).2.2.1 host) ∈ lw_tbl) (href : ref = (T j).1) (hv : fs[j]? = some v) (hd : decode M.2.1 pc = .ok (.getfield i, 3)) (k : V l E M d P (pc + 3) L (v :: st) G) : V l E M d P pc L (.ref a :: st) G := by
  intro p e R s m args below meth c locs ls H C hR h1 h2 h3 hl
  exact va_getN (Ts := lw_all) C.x C.b (fun w hw => C.w hw args) ck.2.1 C.own (g_KA C.ok C.W [] (fun _ _ h => nomatch h)) (g_P1 hR hG) 0 rfl ck.1 j hj (va_Nw.use rfl (va_Nw.warmF C.W (va_Nw.of rfl (C.ok.2.1 _ hlink)))) (fun x hx => by rw [href]; exact hx) hv hd (k p e R s m args below meth c locs ls H C hR h1 h2 h3 hl)
theorem V_put {ci N : Nat} {C0 : String} {T : u_T} {ty : Nat → FieldType} {fs0 : List Value} (ck : g_ck ci C0 T N ty fs0) {a i : Nat} {fs : List Value} {v : Value} {ref : String} (hG : G.1 a = some (g_ob ci fs)) (hB : g_B E ≤ a) (j : Nat) (hj : j < N) (hlink : (Cond.fieldLink M.1.cls i ref (T j).2.1 (T j).2.2.1) ∈ lw_all) (href : ref = (T j).1) (hfin : (T j).2.2.2 = false) (hn : narrow (ty j) v = v) (hfit : fits (ty j) v = true) (hlen : j < fs.length) (hd : decode M.2.1 pc = .ok (.putfield i, 3)) (k : V l E M d P (pc + 3) L st (g_up G a (g_ob ci (fs.set j v)))) : V l E M d P pc L (v :: .ref a :: st) G := by
  intro p e R s m args below meth c locs ls H C hR h1 h2 h3 hl
  have hK := g_KA C.ok C.W [] (fun _ _ h => nomatch h)
  have hts : ∀ w ∈ lw_all, w.before args s = true := fun w hw => C.w hw args
  have hap := va_apart (own := M.1.cls) hts ck.2.1 ty ck.2.2.1 ck.2.2.2.1 hK ck.1
  obtain ⟨r, e1, cell, q1, q2, q3, q4⟩ := hR.va hG
  have hr : r = (C0, T, N) := Option.some.inj (e1.symm.trans ck.1)
  subst hr
  obtain ⟨hS, hfc, kC, hkC, hkind⟩ := hK.1 ci _ ck.1
  obtain ⟨cf, kf, fi, f, hi, hsl⟩ := hS j hj
  have hst := (u_facts hfc hkC (u_lays hts ck.2.1 hj) hi).1
  have hlay := hts _ (ck.2.1 _ (u_in_lay hj))
  unfold u_lay at hlay
  rw [if_neg (by rw [hfin]; decide)] at hlay
  have h6 := u_store hfc hkC hkind hlay hi (ck.2.2.1 j hj) hn hfit
  have hi2 : s.fieldFound? ref (T j).2.1 (T j).2.2.1 = some (cf, kf, fi, f) := by rw [href]; exact hi
  refine W.putK C.x C.b (f := f) ⟨C.own, C.w hlink args, ⟨_, _, _, hi2⟩, hst⟩ (by rw [q2]; exact h6) q1 q3 (by rw [hsl]; exact k2_hasslot (q4 j hj)) rfl rfl hd fun H1 w1 w2 w3 => ?_
  have w4 : (cell.setSlot f.slot v).slots.size = cell.slots.size := by simp [Cell.setSlot]
  have hR1 : g_Rep E (g_up G a (g_ob ci (fs.set j v))) H1 := by
    refine hR.set hB ?_ w2 w3 (g_hs_cell q1 w1 w2 w3 w4)
    rw [hsl] at w1
    refine ⟨⟨_, ck.1, t_OB.to (V := updV (vp_V fs) j v) ⟨_, w1, q2, q3, t_set q4 hap hj v⟩ (fun i9 _ => vp_updV_set hlen v i9)⟩, fun o9 e9 hc9 cell9 h9 => ?_⟩
    cases e9
    cases w1.symm.trans h9
    have h10 : cell.monitor.owner = none ∧ cell.monitor.count = 0 := hR.mon hG hc9 q1
    exact h10
  have k9 := k p e R s m args below meth c _ ls H1 C hR1 (by rw [w2]; exact h1) h2 (g_locs1 (i := f.slot) h3 hB) hl
  rw [w2] at k9
  exact k9
theorem V_putI {ci N : Nat} {C0 : String} {T : u_T} {ty : Nat → FieldType} {fs0 : List Value} (ck : g_ck ci C0 T N ty fs0) {a i : Nat} {fs : List Value} {v : Value} {ref : String} (hG : G.1 a = some (g_ob ci fs)) (hB : g_B E ≤ a) (j : Nat) (hj : j < N) (hlink : (Cond.fieldLink M.1.cls i ref (T j).2.1 (T j).2.2.1) ∈ lw_all) (hsm : Cond.sameField ref (T j).1 (T j).2.1 (T j).2.2.1 ∈ lw_all) (hfin : (T j).2.2.2 = false) (hn : narrow (ty j) v = v) (hfit : fits (ty j) v = true) (hlen : j < fs.length) (hd : decode M.2.1 pc = .ok (.putfield i, 3)) (k : V l E M d P (pc + 3) L st (g_up G a (g_ob ci (fs.set j v)))) : V l E M d P pc L (v :: .ref a :: st) G := by
  intro p e R s m args below meth c locs ls H C hR h1 h2 h3 hl
  have hK := g_KA C.ok C.W [] (fun _ _ h => nomatch h)
  have hts : ∀ w ∈ lw_all, w.before args s = true := fun w hw => C.w hw args
  have hap := va_apart (own := M.1.cls) hts ck.2.1 ty ck.2.2.1 ck.2.2.2.1 hK ck.1
  obtain ⟨r, e1, cell, q1, q2, q3, q4⟩ := hR.va hG
  have hr : r = (C0, T, N) := Option.some.inj (e1.symm.trans ck.1)
  subst hr
  obtain ⟨hS, hfc, kC, hkC, hkind⟩ := hK.1 ci _ ck.1
  obtain ⟨cf, kf, fi, f, hi, hsl⟩ := hS j hj
  have hst := (u_facts hfc hkC (u_lays hts ck.2.1 hj) hi).1
  have hlay := hts _ (ck.2.1 _ (u_in_lay hj))
  unfold u_lay at hlay
  rw [if_neg (by rw [hfin]; decide)] at hlay
  have h6 := u_store hfc hkC hkind hlay hi (ck.2.2.1 j hj) hn hfit
  have hi2 : s.fieldFound? ref (T j).2.1 (T j).2.2.1 = some (cf, kf, fi, f) := u_same (C.w hsm args) _ hi
  refine W.putK C.x C.b (f := f) ⟨C.own, C.w hlink args, ⟨_, _, _, hi2⟩, hst⟩ (by rw [q2]; exact h6) q1 q3 (by rw [hsl]; exact k2_hasslot (q4 j hj)) rfl rfl hd fun H1 w1 w2 w3 => ?_
  have w4 : (cell.setSlot f.slot v).slots.size = cell.slots.size := by simp [Cell.setSlot]
  have hR1 : g_Rep E (g_up G a (g_ob ci (fs.set j v))) H1 := by
    refine hR.set hB ?_ w2 w3 (g_hs_cell q1 w1 w2 w3 w4)
    rw [hsl] at w1
    refine ⟨⟨_, ck.1, t_OB.to (V := updV (vp_V fs) j v) ⟨_, w1, q2, q3, t_set q4 hap hj v⟩ (fun i9 _ => vp_updV_set hlen v i9)⟩, fun o9 e9 hc9 cell9 h9 => ?_⟩
    cases e9
    cases w1.symm.trans h9
    have h10 : cell.monitor.owner = none ∧ cell.monitor.count = 0 := hR.mon hG hc9 q1
    exact h10
  have k9 := k p e R s m args below meth c _ ls H1 C hR1 (by rw [w2]; exact h1) h2 (g_locs1 (i := f.slot) h3 hB) hl
  rw [w2] at k9
  exact k9
theorem V_putN {ci N : Nat} {C0 : String} {T : u_T} {ty : Nat → FieldType} {fs0 : List Value} (ck : g_ck ci C0 T N ty fs0) {a i : Nat} {fs : List Value} {v : Value} {ref host : String} (hG : G.1 a = some (g_ob ci fs)) (hB : g_B E ≤ a) (j : Nat) (hj : j < N) (hlink : (Cond.fieldLinkNest M.1.cls i ref (T j).2.1 (T j).2.2.1 host) ∈ lw_tbl) (href : ref = (T j).1) (hfin : (T j).2.2.2 = false) (hn : narrow (ty j) v = v) (hfit : fits (ty j) v = true) (hlen : j < fs.length) (hd : decode M.2.1 pc = .ok (.putfield i, 3)) (k : V l E M d P (pc + 3) L st (g_up G a (g_ob ci (fs.set j v)))) : V l E M d P pc L (v :: .ref a :: st) G := by
  intro p e R s m args below meth c locs ls H C hR h1 h2 h3 hl
  have hK := g_KA C.ok C.W [] (fun _ _ h => nomatch h)
  have hts : ∀ w ∈ lw_all, w.before args s = true := fun w hw => C.w hw args
  have hap := va_apart (own := M.1.cls) hts ck.2.1 ty ck.2.2.1 ck.2.2.2.1 hK ck.1
  obtain ⟨r, e1, cell, q1, q2, q3, q4⟩ := hR.va hG
  have hr : r = (C0, T, N) := Option.some.inj (e1.symm.trans ck.1)
  subst hr
  obtain ⟨hS, hfc, kC, hkC, hkind⟩ := hK.1 ci _ ck.1
  obtain ⟨cf, kf, fi, f, hi, hsl⟩ := hS j hj
  have hst := (u_facts hfc hkC (u_lays hts ck.2.1 hj) hi).1
  have hlay := hts _ (ck.2.1 _ (u_in_lay hj))
  unfold u_lay at hlay
  rw [if_neg (by rw [hfin]; decide)] at hlay
  have h6 := u_store hfc hkC hkind hlay hi (ck.2.2.1 j hj) hn hfit
  have hi2 : s.fieldFound? ref (T j).2.1 (T j).2.2.1 = some (cf, kf, fi, f) := by rw [href]; exact hi
  refine va_WputK C.x C.b (f := f) C.own (va_Nw.use rfl (va_Nw.warmF C.W (va_Nw.of rfl (C.ok.2.1 _ hlink)))) hi2 hst (by rw [q2]; exact h6) q1 q3 (by rw [hsl]; exact k2_hasslot (q4 j hj)) rfl rfl hd fun H1 w1 w2 w3 => ?_
  have w4 : (cell.setSlot f.slot v).slots.size = cell.slots.size := by simp [Cell.setSlot]
  have hR1 : g_Rep E (g_up G a (g_ob ci (fs.set j v))) H1 := by
    refine hR.set hB ?_ w2 w3 (g_hs_cell q1 w1 w2 w3 w4)
    rw [hsl] at w1
    refine ⟨⟨_, ck.1, t_OB.to (V := updV (vp_V fs) j v) ⟨_, w1, q2, q3, t_set q4 hap hj v⟩ (fun i9 _ => vp_updV_set hlen v i9)⟩, fun o9 e9 hc9 cell9 h9 => ?_⟩
    cases e9
    cases w1.symm.trans h9
    have h10 : cell.monitor.owner = none ∧ cell.monitor.count = 0 := hR.mon hG hc9 q1
    exact h10
  have k9 := k p e R s m args below meth c _ ls H1 C hR1 (by rw [w2]; exact h1) h2 (g_locs1 (i := f.slot) h3 hB) hl
  rw [w2] at k9
  exact k9
theorem V_putF {ci N : Nat} {C0 : String} {T : u_T} {ty : Nat → FieldType} {fs0 : List Value} (ck : g_ck ci C0 T N ty fs0) {a i : Nat} {fs : List Value} {v : Value} {ref : String} (hG : G.1 a = some (g_ob ci fs)) (hB : g_B E ≤ a) (j : Nat) (hj : j < N) (hlink : (Cond.fieldLink M.1.cls i ref (T j).2.1 (T j).2.2.1) ∈ lw_all) (href : ref = (T j).1) (hfin : (T j).2.2.2 = true) (hin2 : M.1.name = "<init>") (hdecl : (T j).1 = M.1.cls) (hn : narrow (ty j) v = v) (hfit : fits (ty j) v = true) (hlen : j < fs.length) (hd : decode M.2.1 pc = .ok (.putfield i, 3)) (k : V l E M d P (pc + 3) L st (g_up G a (g_ob ci (fs.set j v)))) : V l E M d P pc L (v :: .ref a :: st) G := by
  intro p e R s m args below meth c locs ls H C hR h1 h2 h3 hl
  have hK := g_KA C.ok C.W [] (fun _ _ h => nomatch h)
  have hts : ∀ w ∈ lw_all, w.before args s = true := fun w hw => C.w hw args
  have hap := va_apart (own := M.1.cls) hts ck.2.1 ty ck.2.2.1 ck.2.2.2.1 hK ck.1
  obtain ⟨r, e1, cell, q1, q2, q3, q4⟩ := hR.va hG
  have hr : r = (C0, T, N) := Option.some.inj (e1.symm.trans ck.1)
  subst hr
  obtain ⟨hS, hfc, kC, hkC, hkind⟩ := hK.1 ci _ ck.1
  obtain ⟨cf, kf, fi, f, hi, hsl⟩ := hS j hj
  have hst := (u_facts hfc hkC (u_lays hts ck.2.1 hj) hi).1
  have h6 := u_fits hfc hkC hkind (u_lays hts ck.2.1 hj) hi (ck.2.2.1 j hj) hn hfit
  have hi2 : s.fieldFound? ref (T j).2.1 (T j).2.2.1 = some (cf, kf, fi, f) := by rw [href]; exact hi
  have hlay := hts _ (ck.2.1 _ (u_in_lay hj))
  unfold u_lay at hlay
  rw [if_pos hfin] at hlay
  have hcf : m.cls = cf := by
    obtain ⟨_, _, c', _, _, _, -, -, hf', -, -, -, hown2, -⟩ := Cond.laysFinal_spec hlay
    have e9 : c' = cf := by have := hi.symm.trans hf'; simp at this; exact this.1.symm
    rw [hdecl] at hown2
    rw [← e9]; exact Option.some.inj (C.own.symm.trans hown2)
  refine W.putFinK C.x C.b C.own (C.w hlink args) hi2 hst hcf (C.name.trans hin2) (by rw [q2]; exact h6) q1 q3 (by rw [hsl]; exact k2_hasslot (q4 j hj)) rfl rfl hd fun H1 w1 w2 w3 => ?_
  have w4 : (cell.setSlot f.slot v).slots.size = cell.slots.size := by simp [Cell.setSlot]
  have hR1 : g_Rep E (g_up G a (g_ob ci (fs.set j v))) H1 := by
    refine hR.set hB ?_ w2 w3 (g_hs_cell q1 w1 w2 w3 w4)
    rw [hsl] at w1
    refine ⟨⟨_, ck.1, t_OB.to (V := updV (vp_V fs) j v) ⟨_, w1, q2, q3, t_set q4 hap hj v⟩ (fun i9 _ => vp_updV_set hlen v i9)⟩, fun o9 e9 hc9 cell9 h9 => ?_⟩
    cases e9
    cases w1.symm.trans h9
    have h10 : cell.monitor.owner = none ∧ cell.monitor.count = 0 := hR.mon hG hc9 q1
    exact h10
  have k9 := k p e R s m args below meth c _ ls H1 C hR1 (by rw [w2]; exact h1) h2 (g_locs1 (i := f.slot) h3 hB) hl
  rw [w2] at k9
  exact k9
theorem V_new {ci N : Nat} {C0 : String} {T : u_T} {ty : Nat → FieldType} {fs0 : List Value} (ck : g_ck ci C0 T N ty fs0) {i : Nat} (hlink : Cond.classLink M.1.cls i C0 ∈ lw_all) (hd : decode M.2.1 pc = .ok (.new i, 3)) (hc : G.2.1 + 1 ≤ g_capC E) (hs : G.2.2 + N ≤ g_capS E) (k : V l E M d P (pc + 3) L (.ref G.2.1 :: st) (g_new G (g_ob ci fs0) N)) : V l E M d P pc L st G := by
  intro p e R s m args below meth c locs ls H C hR h1 h2 h3 hl
  obtain ⟨r1, r2, r3, r4⟩ := C.room
  have hz := hR.1
  have hu := hR.2.1
  refine W.newc C.x C.b C.own (C.w hlink args) (C.w ck.2.2.2.2.1 args) (C.w ck.2.2.2.2.2.1 args) rfl hd (by omega) (by omega) fun cC kC f1 f2 f3 f4 => ?_
  have hKn : u_Kn s C0 T N (E.2.2.1 ci) (E.2.2.2 ci) := g_K C.ok C.W ck.1
  have hcC : cC = E.2.2.1 ci := Option.some.inj (f1.symm.trans hKn.2.1)
  subst hcC
  have hR1 := hR.push (y := g_ob ci fs0) (n := N) hc hs (blank (E.2.2.1 ci) kC) (by simp [blank, f4]) ⟨⟨_, ck.1, (u_born (H := H.push (blank (E.2.2.1 ci) kC)) (o := G.2.1) ty (fun w hw => C.w hw args) ck.2.1 hKn f2 (by rw [← hz]; exact Array.getElem?_push_size) ck.2.2.1).to ck.2.2.2.2.2.2.1⟩, fun o9 e9 hc9 cell9 h9 => by
    rw [← hz, Array.getElem?_push_size] at h9
    cases h9
    exact ⟨rfl, rfl⟩⟩
  have k9 := k p e R s m args below meth c locs ls _ C hR1 (by rw [Array.size_push]; omega) (by show s.slotsUsed ≤ G.2.2 + N; omega) h3 hl
  have e1 : (H.push (blank (E.2.2.1 ci) kC)).size - s.heap.size = H.size - s.heap.size + 1 := by rw [Array.size_push]; omega
  have e2 : (g_new G (g_ob ci fs0) N).2.2 - s.slotsUsed = G.2.2 - s.slotsUsed + N := by show G.2.2 + N - s.slotsUsed = _; omega
  rw [e1, e2, ← hz] at k9
  exact k9
theorem V_iaload {a n : Nat} {f : Nat → Int32} {i : Int32} (hG : G.1 a = some (g_ai E n f)) (hin : vp_in i n) (hw : Cond.arrayClass .int ∈ lw_all) (hd : decode M.2.1 pc = .ok (.iaload, 1)) (k : V l E M d P (pc + 1) L (.int (f i.toNatClampNeg) :: st) G) : V l E M d P pc L (.int i :: .ref a :: st) G := by
  intro p e R s m args below meth c locs ls H C hR h1 h2 h3 hl
  obtain ⟨w1, w2⟩ := g_arrA C.ok C.W hw
  exact va_iald C.x C.b (g_KA C.ok C.W [(g_A E .int, .int)] (fun k9 q hq => by match k9, hq with | 0, hq => cases hq; exact ⟨w1, w2⟩)) (g_P1 hR hG) 0 0 rfl rfl hin hd (k p e R s m args below meth c locs ls H C hR h1 h2 h3 hl)
theorem V_baload {a n : Nat} {f : Nat → Int32} {i : Int32} (hG : G.1 a = some (g_ab E n f)) (hin : vp_in i n) (hw : Cond.arrayClass .byte ∈ lw_all) (hd : decode M.2.1 pc = .ok (.baload, 1)) (k : V l E M d P (pc + 1) L (.int (f i.toNatClampNeg) :: st) G) : V l E M d P pc L (.int i :: .ref a :: st) G := by
  intro p e R s m args below meth c locs ls H C hR h1 h2 h3 hl
  obtain ⟨w1, w2⟩ := g_arrA C.ok C.W hw
  exact va_bald C.x C.b (g_KA C.ok C.W [(g_A E .byte, .byte)] (fun k9 q hq => by match k9, hq with | 0, hq => cases hq; exact ⟨w1, w2⟩)) (g_P1 hR hG) 0 0 rfl rfl hin hd (k p e R s m args below meth c locs ls H C hR h1 h2 h3 hl)
theorem V_laload {a n : Nat} {f : Nat → Int64} {i : Int32} (hG : G.1 a = some (g_al E n f)) (hin : vp_in i n) (hw : Cond.arrayClass .long ∈ lw_all) (hd : decode M.2.1 pc = .ok (.laload, 1)) (k : V l E M d P (pc + 1) L (.long (f i.toNatClampNeg) :: st) G) : V l E M d P pc L (.int i :: .ref a :: st) G := by
  intro p e R s m args below meth c locs ls H C hR h1 h2 h3 hl
  obtain ⟨w1, w2⟩ := g_arrA C.ok C.W hw
  exact va_lald C.x C.b (g_KA C.ok C.W [(g_A E .long, .long)] (fun k9 q hq => by match k9, hq with | 0, hq => cases hq; exact ⟨w1, w2⟩)) (g_P1 hR hG) 0 0 rfl rfl hin hd (k p e R s m args below meth c locs ls H C hR h1 h2 h3 hl)
theorem V_daload {a n : Nat} {f : Nat → UInt64} {i : Int32} (hG : G.1 a = some (g_ad E n f)) (hin : vp_in i n) (hw : Cond.arrayClass .double ∈ lw_all) (hd : decode M.2.1 pc = .ok (.daload, 1)) (k : V l E M d P (pc + 1) L (.double (f i.toNatClampNeg) :: st) G) : V l E M d P pc L (.int i :: .ref a :: st) G := by
  intro p e R s m args below meth c locs ls H C hR h1 h2 h3 hl
  obtain ⟨w1, w2⟩ := g_arrA C.ok C.W hw
  exact va_dald C.x C.b (g_KA C.ok C.W [(g_A E .double, .double)] (fun k9 q hq => by match k9, hq with | 0, hq => cases hq; exact ⟨w1, w2⟩)) (g_P1 hR hG) 0 0 rfl rfl hin hd (k p e R s m args below meth c locs ls H C hR h1 h2 h3 hl)
theorem V_aaload {a n : Nat} {f : Nat → Option Nat} {i : Int32} {C0 : String} (hG : G.1 a = some (g_aq E C0 n f)) (hin : vp_in i n) (hw : Cond.arrayOver (.object C0) ∈ lw_tbl) (hd : decode M.2.1 pc = .ok (.aaload, 1)) (k : V l E M d P (pc + 1) L (va_rf (f i.toNatClampNeg) :: st) G) : V l E M d P pc L (.int i :: .ref a :: st) G := by
  intro p e R s m args below meth c locs ls H C hR h1 h2 h3 hl
  obtain ⟨w1, w2, w3⟩ := g_arrO C.ok C.W hw
  exact va_aldq C.x C.b (g_KA C.ok C.W [(g_A E (.object C0), .object C0)] (fun k9 q hq => by match k9, hq with | 0, hq => cases hq; exact ⟨w1, w2⟩)) (g_P1 hR hG) 0 0 rfl rfl hin hd (k p e R s m args below meth c locs ls H C hR h1 h2 h3 hl)
theorem V_alen_i {a n : Nat} {f : Nat → Int32} (hG : G.1 a = some (g_ai E n f)) (hw : Cond.arrayClass .int ∈ lw_all) (hd : decode M.2.1 pc = .ok (.arraylength, 1)) (k : V l E M d P (pc + 1) L (.int (nI n) :: st) G) : V l E M d P pc L (.ref a :: st) G := by
  intro p e R s m args below meth c locs ls H C hR h1 h2 h3 hl
  obtain ⟨w1, w2⟩ := g_arrA C.ok C.W hw
  exact va_alen (v := nI n) C.x C.b (g_KA C.ok C.W [(g_A E .int, .int)] (fun k9 q hq => by match k9, hq with | 0, hq => cases hq; exact ⟨w1, w2⟩)) (g_P1 hR hG) 0 0 rfl rfl rfl hd (k p e R s m args below meth c locs ls H C hR h1 h2 h3 hl)
theorem V_alen_b {a n : Nat} {f : Nat → Int32} (hG : G.1 a = some (g_ab E n f)) (hw : Cond.arrayClass .byte ∈ lw_all) (hd : decode M.2.1 pc = .ok (.arraylength, 1)) (k : V l E M d P (pc + 1) L (.int (nI n) :: st) G) : V l E M d P pc L (.ref a :: st) G := by
  intro p e R s m args below meth c locs ls H C hR h1 h2 h3 hl
  obtain ⟨w1, w2⟩ := g_arrA C.ok C.W hw
  exact va_alen (v := nI n) C.x C.b (g_KA C.ok C.W [(g_A E .byte, .byte)] (fun k9 q hq => by match k9, hq with | 0, hq => cases hq; exact ⟨w1, w2⟩)) (g_P1 hR hG) 0 0 rfl rfl rfl hd (k p e R s m args below meth c locs ls H C hR h1 h2 h3 hl)
theorem V_alen_l {a n : Nat} {f : Nat → Int64} (hG : G.1 a = some (g_al E n f)) (hw : Cond.arrayClass .long ∈ lw_all) (hd : decode M.2.1 pc = .ok (.arraylength, 1)) (k : V l E M d P (pc + 1) L (.int (nI n) :: st) G) : V l E M d P pc L (.ref a :: st) G := by
  intro p e R s m args below meth c locs ls H C hR h1 h2 h3 hl
  obtain ⟨w1, w2⟩ := g_arrA C.ok C.W hw
  exact va_alen (v := nI n) C.x C.b (g_KA C.ok C.W [(g_A E .long, .long)] (fun k9 q hq => by match k9, hq with | 0, hq => cases hq; exact ⟨w1, w2⟩)) (g_P1 hR hG) 0 0 rfl rfl rfl hd (k p e R s m args below meth c locs ls H C hR h1 h2 h3 hl)
theorem V_alen_q {a n : Nat} {f : Nat → Option Nat} {C0 : String} (hG : G.1 a = some (g_aq E C0 n f)) (hw : Cond.arrayOver (.object C0) ∈ lw_tbl) (hd : decode M.2.1 pc = .ok (.arraylength, 1)) (k : V l E M d P (pc + 1) L (.int (nI n) :: st) G) : V l E M d P pc L (.ref a :: st) G := by
  intro p e R s m args below meth c locs ls H C hR h1 h2 h3 hl
  obtain ⟨w1, w2, w3⟩ := g_arrO C.ok C.W hw
  exact va_alen (v := nI n) C.x C.b (g_KA C.ok C.W [(g_A E (.object C0), (.object C0))] (fun k9 q hq => by match k9, hq with | 0, hq => cases hq; exact ⟨w1, w2⟩)) (g_P1 hR hG) 0 0 rfl rfl rfl hd (k p e R s m args below meth c locs ls H C hR h1 h2 h3 hl)
theorem V_iastore {a n : Nat} {f : Nat → Int32} {i : Int32} {x : Int32} (hG : G.1 a = some (g_ai E n f)) (hB : g_B E ≤ a) (hin : vp_in i n) (hw : Cond.arrayClass .int ∈ lw_all) (hd : decode M.2.1 pc = .ok (.iastore, 1)) (k : V l E M d P (pc + 1) L st (g_up G a (g_ai E n (upd f i.toNatClampNeg x)))) : V l E M d P pc L (.int x :: .int i :: .ref a :: st) G := by
  intro p e R s m args below meth c locs ls H C hR h1 h2 h3 hl
  obtain ⟨w1, w2⟩ := g_arrA C.ok C.W hw
  have hc := hR.va hG
  refine W.iast C.x C.b hc (w1 n (fun j => .int (f j))) (fun q => by cases q) (by show ¬ (i < 0 ∨ (arrV _ _ _).slots.size ≤ _); rw [arrV_size]; exact hin) rfl rfl hd fun H1 e1 e2 e3 => ?_
  have e4 : H1[a]? = some (vp_cell (g_A E .int) (n, .inl (upd f i.toNatClampNeg x))) := by
    rw [e1]
    rw [vp_cell_i, vp_cell_i, arrV_store]
    congr 2
    funext q
    by_cases hq : q = i.toNatClampNeg
    · subst hq
      simp [updV, upd, vp_updL, vf_upd, va_up]
    · simp [updV, upd, vp_updL, vf_upd, va_up, hq]
  have hR1 : g_Rep E (g_up G a (g_ai E n (upd f i.toNatClampNeg x))) H1 := hR.set hB (g_vaA e4) e2 e3 (g_hs_cell hc e4 e2 e3 (by show (vp_cell _ _).slots.size = (vp_cell _ _).slots.size; rw [vp_cell_i, vp_cell_i, arrV_size, arrV_size]))
  have k9 := k p e R s m args below meth c _ ls H1 C hR1 (by rw [e2]; exact h1) h2 (g_locs1 (i := i.toNatClampNeg) h3 hB) hl
  rw [e2] at k9
  exact k9
theorem V_lastore {a n : Nat} {f : Nat → Int64} {i : Int32} {x : Int64} (hG : G.1 a = some (g_al E n f)) (hB : g_B E ≤ a) (hin : vp_in i n) (hw : Cond.arrayClass .long ∈ lw_all) (hd : decode M.2.1 pc = .ok (.lastore, 1)) (k : V l E M d P (pc + 1) L st (g_up G a (g_al E n (vp_updL f i.toNatClampNeg x)))) : V l E M d P pc L (.long x :: .int i :: .ref a :: st) G := by
  intro p e R s m args below meth c locs ls H C hR h1 h2 h3 hl
  obtain ⟨w1, w2⟩ := g_arrA C.ok C.W hw
  have hc := hR.va hG
  refine W.last C.x C.b hc (w1 n (fun j => .long (f j))) (fun q => by cases q) (by show ¬ (i < 0 ∨ (arrV _ _ _).slots.size ≤ _); rw [arrV_size]; exact hin) rfl rfl hd fun H1 e1 e2 e3 => ?_
  have e4 : H1[a]? = some (vp_cell (g_A E .long) (n, .inr (.inl (vp_updL f i.toNatClampNeg x)))) := by
    rw [e1]
    rw [vp_cell_l, vp_cell_l, arrV_store]
    congr 2
    funext q
    by_cases hq : q = i.toNatClampNeg
    · subst hq
      simp [updV, upd, vp_updL, vf_upd, va_up]
    · simp [updV, upd, vp_updL, vf_upd, va_up, hq]
  have hR1 : g_Rep E (g_up G a (g_al E n (vp_updL f i.toNatClampNeg x))) H1 := hR.set hB (g_vaA e4) e2 e3 (g_hs_cell hc e4 e2 e3 (by show (vp_cell _ _).slots.size = (vp_cell _ _).slots.size; rw [vp_cell_l, vp_cell_l, arrV_size, arrV_size]))
  have k9 := k p e R s m args below meth c _ ls H1 C hR1 (by rw [e2]; exact h1) h2 (g_locs1 (i := i.toNatClampNeg) h3 hB) hl
  rw [e2] at k9
  exact k9
theorem V_dastore {a n : Nat} {f : Nat → UInt64} {i : Int32} {x : UInt64} (hG : G.1 a = some (g_ad E n f)) (hB : g_B E ≤ a) (hin : vp_in i n) (hw : Cond.arrayClass .double ∈ lw_all) (hd : decode M.2.1 pc = .ok (.dastore, 1)) (k : V l E M d P (pc + 1) L st (g_up G a (g_ad E n (vf_upd f i.toNatClampNeg x)))) : V l E M d P pc L (.double x :: .int i :: .ref a :: st) G := by
  intro p e R s m args below meth c locs ls H C hR h1 h2 h3 hl
  obtain ⟨w1, w2⟩ := g_arrA C.ok C.W hw
  have hc := hR.va hG
  refine W.dast C.x C.b hc (w1 n (fun j => .double (f j))) (fun q => by cases q) (by show ¬ (i < 0 ∨ (arrV _ _ _).slots.size ≤ _); rw [arrV_size]; exact hin) rfl rfl hd fun H1 e1 e2 e3 => ?_
  have e4 : H1[a]? = some (vp_cell (g_A E .double) (n, .inr (.inr (.inr (.inl (vf_upd f i.toNatClampNeg x)))))) := by
    rw [e1]
    rw [vp_cell_d, vp_cell_d, arrV_store]
    congr 2
    funext q
    by_cases hq : q = i.toNatClampNeg
    · subst hq
      simp [updV, upd, vp_updL, vf_upd, va_up]
    · simp [updV, upd, vp_updL, vf_upd, va_up, hq]
  have hR1 : g_Rep E (g_up G a (g_ad E n (vf_upd f i.toNatClampNeg x))) H1 := hR.set hB (g_vaA e4) e2 e3 (g_hs_cell hc e4 e2 e3 (by show (vp_cell _ _).slots.size = (vp_cell _ _).slots.size; rw [vp_cell_d, vp_cell_d, arrV_size, arrV_size]))
  have k9 := k p e R s m args below meth c _ ls H1 C hR1 (by rw [e2]; exact h1) h2 (g_locs1 (i := i.toNatClampNeg) h3 hB) hl
  rw [e2] at k9
  exact k9
theorem V_bastore {a n : Nat} {f : Nat → Int32} {i : Int32} {x : Int32} (hG : G.1 a = some (g_ab E n f)) (hB : g_B E ≤ a) (hin : vp_in i n) (hw : Cond.arrayClass .byte ∈ lw_all) (hd : decode M.2.1 pc = .ok (.bastore, 1)) (k : V l E M d P (pc + 1) L st (g_up G a (g_ab E n (upd f i.toNatClampNeg (vp_nar .byte x))))) : V l E M d P pc L (.int x :: .int i :: .ref a :: st) G := by
  intro p e R s m args below meth c locs ls H C hR h1 h2 h3 hl
  obtain ⟨w1, w2⟩ := g_arrA C.ok C.W hw
  have hc := hR.va hG
  refine W.bast C.x C.b hc (w1 n (fun j => .int (f j))) (fun q => by cases q) (by show ¬ (i < 0 ∨ (arrV _ _ _).slots.size ≤ _); rw [arrV_size]; exact hin) rfl rfl hd fun H1 e1 e2 e3 => ?_
  have e4 : H1[a]? = some (vp_cell (g_A E .byte) (n, .inl (upd f i.toNatClampNeg (vp_nar .byte x)))) := by
    rw [e1]
    rw [vp_cell_i, vp_cell_i, arrV_store]
    congr 2
    funext q
    by_cases hq : q = i.toNatClampNeg
    · subst hq
      simp [updV, upd, vp_updL, vf_upd, va_up, vp_nar]; rfl --]
    · simp [updV, upd, vp_updL, vf_upd, va_up, hq]
  have hR1 : g_Rep E (g_up G a (g_ab E n (upd f i.toNatClampNeg (vp_nar .byte x)))) H1 := hR.set hB (g_vaA e4) e2 e3 (g_hs_cell hc e4 e2 e3 (by show (vp_cell _ _).slots.size = (vp_cell _ _).slots.size; rw [vp_cell_i, vp_cell_i, arrV_size, arrV_size]))
  have k9 := k p e R s m args below meth c _ ls H1 C hR1 (by rw [e2]; exact h1) h2 (g_locs1 (i := i.toNatClampNeg) h3 hB) hl
  rw [e2] at k9
  exact k9
theorem V_newarray_int {x : Int32} (n : Nat) (hx : x = nI n) (hn : n < 2 ^ 24) (hw : Cond.arrayClass .int ∈ lw_all) (hd : decode M.2.1 pc = .ok (.newarray .int, 2)) (hc : G.2.1 + 1 ≤ g_capC E) (hs : G.2.2 + n ≤ g_capS E) (k : V l E M d P (pc + 2) L (.ref G.2.1 :: st) (g_new G (g_ai E n (fun _ => 0)) n)) : V l E M d P pc L (.int x :: st) G := by
  intro p e R s m args below meth c locs ls H C hR h1 h2 h3 hl
  obtain ⟨r1, r2, r3, r4⟩ := C.room
  have hz := hR.1
  have hu := hR.2.1
  subst hx
  obtain ⟨w1, w2⟩ := g_arrA C.ok C.W hw
  have hcl : (nI n).toNatClampNeg = n := nI_clamp (by omega)
  refine W.newa (atype := .int) C.x C.b (C.w hw args) rfl hd rfl (nI_pos (by omega)) (by rw [hcl]; show n * 4 ≤ 536870912; omega) (by omega) (by rw [hcl]; omega) fun cA kA comp f1 f2 f3 => ?_
  have hcA : cA = g_A E .int := Option.some.inj (f1.symm.trans w2)
  subst hcA
  rw [hcl]
  have hcell : ({ cls := g_A E .int, slots := Array.replicate n (defaultValue (newarray.typeOf .int)), vm := .none } : Cell) = vp_cell (g_A E .int) (n, .inl (fun _ => 0)) := arrV_new _ _ _
  rw [hcell]
  have hR1 := hR.push (y := g_ai E n (fun _ => 0)) (n := n) hc hs (vp_cell (g_A E .int) (n, .inl (fun _ => 0))) (arrV_size _ _ _) (g_vaA (by show (H.push _)[G.2.1]? = _; rw [← hz]; exact Array.getElem?_push_size))
  have k9 := k p e R s m args below meth c locs ls _ C hR1 (by rw [Array.size_push]; omega) (by show s.slotsUsed ≤ G.2.2 + n; omega) h3 hl
  have e1 : (H.push (vp_cell (g_A E .int) (n, .inl (fun _ => 0)))).size - s.heap.size = H.size - s.heap.size + 1 := by rw [Array.size_push]; omega
  have e2 : (g_new G (g_ai E n (fun _ => 0)) n).2.2 - s.slotsUsed = G.2.2 - s.slotsUsed + n := by show G.2.2 + n - s.slotsUsed = _; omega
  rw [e1, e2, ← hz] at k9
  exact k9
theorem V_newarray_byte {x : Int32} (n : Nat) (hx : x = nI n) (hn : n < 2 ^ 24) (hw : Cond.arrayClass .byte ∈ lw_all) (hd : decode M.2.1 pc = .ok (.newarray .byte, 2)) (hc : G.2.1 + 1 ≤ g_capC E) (hs : G.2.2 + n ≤ g_capS E) (k : V l E M d P (pc + 2) L (.ref G.2.1 :: st) (g_new G (g_ab E n (fun _ => 0)) n)) : V l E M d P pc L (.int x :: st) G := by
  intro p e R s m args below meth c locs ls H C hR h1 h2 h3 hl
  obtain ⟨r1, r2, r3, r4⟩ := C.room
  have hz := hR.1
  have hu := hR.2.1
  subst hx
  obtain ⟨w1, w2⟩ := g_arrA C.ok C.W hw
  have hcl : (nI n).toNatClampNeg = n := nI_clamp (by omega)
  refine W.newa (atype := .byte) C.x C.b (C.w hw args) rfl hd rfl (nI_pos (by omega)) (by rw [hcl]; show n * 1 ≤ 536870912; omega) (by omega) (by rw [hcl]; omega) fun cA kA comp f1 f2 f3 => ?_
  have hcA : cA = g_A E .byte := Option.some.inj (f1.symm.trans w2)
  subst hcA
  rw [hcl]
  have hcell : ({ cls := g_A E .byte, slots := Array.replicate n (defaultValue (newarray.typeOf .byte)), vm := .none } : Cell) = vp_cell (g_A E .byte) (n, .inl (fun _ => 0)) := arrV_new _ _ _
  rw [hcell]
  have hR1 := hR.push (y := g_ab E n (fun _ => 0)) (n := n) hc hs (vp_cell (g_A E .byte) (n, .inl (fun _ => 0))) (arrV_size _ _ _) (g_vaA (by show (H.push _)[G.2.1]? = _; rw [← hz]; exact Array.getElem?_push_size))
  have k9 := k p e R s m args below meth c locs ls _ C hR1 (by rw [Array.size_push]; omega) (by show s.slotsUsed ≤ G.2.2 + n; omega) h3 hl
  have e1 : (H.push (vp_cell (g_A E .byte) (n, .inl (fun _ => 0)))).size - s.heap.size = H.size - s.heap.size + 1 := by rw [Array.size_push]; omega
  have e2 : (g_new G (g_ab E n (fun _ => 0)) n).2.2 - s.slotsUsed = G.2.2 - s.slotsUsed + n := by show G.2.2 + n - s.slotsUsed = _; omega
  rw [e1, e2, ← hz] at k9
  exact k9
theorem V_newarray_long {x : Int32} (n : Nat) (hx : x = nI n) (hn : n < 2 ^ 24) (hw : Cond.arrayClass .long ∈ lw_all) (hd : decode M.2.1 pc = .ok (.newarray .long, 2)) (hc : G.2.1 + 1 ≤ g_capC E) (hs : G.2.2 + n ≤ g_capS E) (k : V l E M d P (pc + 2) L (.ref G.2.1 :: st) (g_new G (g_al E n (fun _ => 0)) n)) : V l E M d P pc L (.int x :: st) G := by
  intro p e R s m args below meth c locs ls H C hR h1 h2 h3 hl
  obtain ⟨r1, r2, r3, r4⟩ := C.room
  have hz := hR.1
  have hu := hR.2.1
  subst hx
  obtain ⟨w1, w2⟩ := g_arrA C.ok C.W hw
  have hcl : (nI n).toNatClampNeg = n := nI_clamp (by omega)
  refine W.newa (atype := .long) C.x C.b (C.w hw args) rfl hd rfl (nI_pos (by omega)) (by rw [hcl]; show n * 8 ≤ 536870912; omega) (by omega) (by rw [hcl]; omega) fun cA kA comp f1 f2 f3 => ?_
  have hcA : cA = g_A E .long := Option.some.inj (f1.symm.trans w2)
  subst hcA
  rw [hcl]
  have hcell : ({ cls := g_A E .long, slots := Array.replicate n (defaultValue (newarray.typeOf .long)), vm := .none } : Cell) = vp_cell (g_A E .long) (n, .inr (.inl (fun _ => 0))) := arrV_new _ _ _
  rw [hcell]
  have hR1 := hR.push (y := g_al E n (fun _ => 0)) (n := n) hc hs (vp_cell (g_A E .long) (n, .inr (.inl (fun _ => 0)))) (arrV_size _ _ _) (g_vaA (by show (H.push _)[G.2.1]? = _; rw [← hz]; exact Array.getElem?_push_size))
  have k9 := k p e R s m args below meth c locs ls _ C hR1 (by rw [Array.size_push]; omega) (by show s.slotsUsed ≤ G.2.2 + n; omega) h3 hl
  have e1 : (H.push (vp_cell (g_A E .long) (n, .inr (.inl (fun _ => 0))))).size - s.heap.size = H.size - s.heap.size + 1 := by rw [Array.size_push]; omega
  have e2 : (g_new G (g_al E n (fun _ => 0)) n).2.2 - s.slotsUsed = G.2.2 - s.slotsUsed + n := by show G.2.2 + n - s.slotsUsed = _; omega
  rw [e1, e2, ← hz] at k9
  exact k9
theorem V_newarray_double {x : Int32} (n : Nat) (hx : x = nI n) (hn : n < 2 ^ 24) (hw : Cond.arrayClass .double ∈ lw_all) (hd : decode M.2.1 pc = .ok (.newarray .double, 2)) (hc : G.2.1 + 1 ≤ g_capC E) (hs : G.2.2 + n ≤ g_capS E) (k : V l E M d P (pc + 2) L (.ref G.2.1 :: st) (g_new G (g_ad E n (fun _ => 0)) n)) : V l E M d P pc L (.int x :: st) G := by
  intro p e R s m args below meth c locs ls H C hR h1 h2 h3 hl
  obtain ⟨r1, r2, r3, r4⟩ := C.room
  have hz := hR.1
  have hu := hR.2.1
  subst hx
  obtain ⟨w1, w2⟩ := g_arrA C.ok C.W hw
  have hcl : (nI n).toNatClampNeg = n := nI_clamp (by omega)
  refine W.newa (atype := .double) C.x C.b (C.w hw args) rfl hd rfl (nI_pos (by omega)) (by rw [hcl]; show n * 8 ≤ 536870912; omega) (by omega) (by rw [hcl]; omega) fun cA kA comp f1 f2 f3 => ?_
  have hcA : cA = g_A E .double := Option.some.inj (f1.symm.trans w2)
  subst hcA
  rw [hcl]
  have hcell : ({ cls := g_A E .double, slots := Array.replicate n (defaultValue (newarray.typeOf .double)), vm := .none } : Cell) = vp_cell (g_A E .double) (n, .inr (.inr (.inr (.inl (fun _ => 0))))) := arrV_new _ _ _
  rw [hcell]
  have hR1 := hR.push (y := g_ad E n (fun _ => 0)) (n := n) hc hs (vp_cell (g_A E .double) (n, .inr (.inr (.inr (.inl (fun _ => 0)))))) (arrV_size _ _ _) (g_vaA (by show (H.push _)[G.2.1]? = _; rw [← hz]; exact Array.getElem?_push_size))
  have k9 := k p e R s m args below meth c locs ls _ C hR1 (by rw [Array.size_push]; omega) (by show s.slotsUsed ≤ G.2.2 + n; omega) h3 hl
  have e1 : (H.push (vp_cell (g_A E .double) (n, .inr (.inr (.inr (.inl (fun _ => 0))))))).size - s.heap.size = H.size - s.heap.size + 1 := by rw [Array.size_push]; omega
  have e2 : (g_new G (g_ad E n (fun _ => 0)) n).2.2 - s.slotsUsed = G.2.2 - s.slotsUsed + n := by show G.2.2 + n - s.slotsUsed = _; omega
  rw [e1, e2, ← hz] at k9
  exact k9
theorem V_anewarray {x : Int32} {i : Nat} {C0 : String} (n : Nat) (hx : x = nI n) (hn : n < 2 ^ 24) (hlink : Cond.classLink M.1.cls i C0 ∈ lw_all) (hw : Cond.arrayOver (.object C0) ∈ lw_tbl) (hd : decode M.2.1 pc = .ok (.anewarray i, 3)) (hc : G.2.1 + 1 ≤ g_capC E) (hs : G.2.2 + n ≤ g_capS E) (k : V l E M d P (pc + 3) L (.ref G.2.1 :: st) (g_new G (g_aq E C0 n (fun _ => none)) n)) : V l E M d P pc L (.int x :: st) G := by
  intro p e R s m args below meth c locs ls H C hR h1 h2 h3 hl
  obtain ⟨r1, r2, r3, r4⟩ := C.room
  have hz := hR.1
  have hu := hR.2.1
  subst hx
  obtain ⟨w1, w2, w3⟩ := g_arrO C.ok C.W hw
  have hcl : (nI n).toNatClampNeg = n := nI_clamp (by omega)
  refine W.anew C.x C.b C.own (C.w hlink args) (va_AO.use w3) rfl hd rfl (nI_pos (by omega)) (by rw [hcl]; omega) (by omega) (by rw [hcl]; omega) fun cA kA comp f1 f2 f3 f4 => ?_
  have hcA : cA = g_A E (.object C0) := by
    obtain ⟨_, _, _, _, _, e9⟩ := w2
    exact Option.some.inj (f1.symm.trans e9)
  subst hcA
  rw [hcl]
  have hcell : ({ cls := g_A E (.object C0), slots := Array.replicate n .null, vm := .none } : Cell) = vp_cell (g_A E (.object C0)) (n, .inr (.inr (.inr (.inr (fun _ => none))))) := arrV_new _ _ _
  rw [hcell]
  have hR1 := hR.push (y := g_aq E C0 n (fun _ => none)) (n := n) hc hs (vp_cell (g_A E (.object C0)) (n, .inr (.inr (.inr (.inr (fun _ => none)))))) (arrV_size _ _ _) (g_vaA (by show (H.push _)[G.2.1]? = _; rw [← hz]; exact Array.getElem?_push_size))
  have k9 := k p e R s m args below meth c locs ls _ C hR1 (by rw [Array.size_push]; omega) (by show s.slotsUsed ≤ G.2.2 + n; omega) h3 hl
  have e1 : (H.push (vp_cell (g_A E (.object C0)) (n, .inr (.inr (.inr (.inr (fun _ => none))))))).size - s.heap.size = H.size - s.heap.size + 1 := by rw [Array.size_push]; omega
  have e2 : (g_new G (g_aq E C0 n (fun _ => none)) n).2.2 - s.slotsUsed = G.2.2 - s.slotsUsed + n := by show G.2.2 + n - s.slotsUsed = _; omega
  rw [e1, e2, ← hz] at k9
  exact k9
/-- what lies at v may be stored in an array of nm's -/
def g_cast (E : g_E) (x : va_E) (nm : String) : Prop := match x with
  | .inr o => ∃ r : vw_C, g_cl[o.1]? = some r ∧ (r.1 = nm ∨ Cond.castable r.1 nm ∈ lw_tbl)
  | .inl _ => False
theorem g_castW {l : Launch} {E : g_E} (ok : g_ok l E) {s : State} (hW : E.1.WarmedH s.vm) {C nm : String} (h : Cond.castable C nm ∈ lw_tbl) : va_Nw (.castable C nm) s := va_Nw.warmC hW (va_Nw.of rfl (ok.2.1 _ h))
theorem V_aastore {a n v : Nat} {f : Nat → Option Nat} {i : Int32} {C0 : String} {x : va_E} (hG : G.1 a = some (g_aq E C0 n f)) (hB : g_B E ≤ a) (hv : G.1 v = some x) (hx : g_cast E x C0) (hin : vp_in i n) (hw : Cond.arrayOver (.object C0) ∈ lw_tbl) (hd : decode M.2.1 pc = .ok (.aastore, 1)) (k : V l E M d P (pc + 1) L st (g_up G a (g_aq E C0 n (va_up f i.toNatClampNeg (some v))))) : V l E M d P pc L (.ref v :: .int i :: .ref a :: st) G := by
  intro p e R s m args below meth c locs ls H C hR h1 h2 h3 hl
  obtain ⟨w1, ⟨kA, comp, u1, u2, u3, u4⟩, w3⟩ := g_arrO C.ok C.W hw
  have hc := hR.va hG
  have hlt : i.toNatClampNeg < n := Nat.not_le.mp fun q => hin (Or.inr q)
  have h0 : ¬ i < 0 := fun q => hin (Or.inl q)
  obtain ⟨cv, kv, y1, y2, y3, y4⟩ : ∃ (cv : Cell) (kv : Class), H[v]? = some cv ∧ cv.vm = .none ∧ s.vm.classes[cv.cls]? = some kv ∧ s.vm.assignable cv.cls comp = true := by
    cases x with
    | inl _ => exact hx.elim
    | inr o =>
      obtain ⟨r, hr, hcs⟩ := hx
      obtain ⟨r', e1, cell, q1, q2, q3, q4⟩ := hR.va hv
      cases Option.some.inj (hr.symm.trans e1)
      obtain ⟨hS, hfc, kC, hkC, hkind⟩ := g_K C.ok C.W hr
      refine ⟨cell, kC, q1, q3, by rw [q2]; exact hkC, ?_⟩
      rcases hcs with e | e
      · have e9 : comp = E.2.2.1 o.1 := Option.some.inj (u3.symm.trans (by rw [← e]; exact hfc))
        rw [q2, e9]
        exact va_assign (C := r.1) ⟨hfc, kC, hkC, hkind⟩
      · obtain ⟨c0, t0, f1, f2, f3⟩ := Cond.castable_spec (va_Nw.use (A := args) rfl (g_castW C.ok C.W e))
        have e8 : c0 = E.2.2.1 o.1 := Option.some.inj (f1.symm.trans hfc)
        have e9 : t0 = comp := Option.some.inj (f2.symm.trans u3)
        rw [q2, ← e8, ← e9]
        exact f3
  obtain ⟨kcomp, hkcomp, -⟩ := Vm.findClass_spec u3
  refine W.aast C.x C.b hc (fun q h => by cases h) (fun h => by cases h) (k := kA) u1 u2 rfl hkcomp (by exact ⟨h0, by show _ < (arrV _ _ _).slots.size; rw [arrV_size]; exact hlt⟩) y1 (fun q h => by rw [y2] at h; cases h) y3 y4 rfl rfl hd fun H1 e1 e2 e3 => ?_
  have e4 : H1[a]? = some (vp_cell (g_A E (.object C0)) (n, .inr (.inr (.inr (.inr (va_up f i.toNatClampNeg (some v))))))) := by
    rw [e1]
    rw [vp_cell_q, vp_cell_q, arrV_store]
    congr 2
    funext q
    by_cases hq : q = i.toNatClampNeg
    · subst hq
      simp [updV, va_up, va_rf]
    · simp [updV, va_up, hq]
  have hR1 : g_Rep E (g_up G a (g_aq E C0 n (va_up f i.toNatClampNeg (some v)))) H1 := hR.set hB (g_vaA e4) e2 e3 (g_hs_cell hc e4 e2 e3 (by show (vp_cell _ _).slots.size = (vp_cell _ _).slots.size; rw [vp_cell_q, vp_cell_q, arrV_size, arrV_size]))
  have k9 := k p e R s m args below meth c _ ls H1 C hR1 (by rw [e2]; exact h1) h2 (g_locs1 (i := i.toNatClampNeg) h3 hB) hl
  rw [e2] at k9
  exact k9
theorem V_aastoreN {a n : Nat} {f : Nat → Option Nat} {i : Int32} {C0 : String} (hG : G.1 a = some (g_aq E C0 n f)) (hB : g_B E ≤ a) (hin : vp_in i n) (hw : Cond.arrayOver (.object C0) ∈ lw_tbl) (hd : decode M.2.1 pc = .ok (.aastore, 1)) (k : V l E M d P (pc + 1) L st (g_up G a (g_aq E C0 n (va_up f i.toNatClampNeg none)))) : V l E M d P pc L (.null :: .int i :: .ref a :: st) G := by
  intro p e R s m args below meth c locs ls H C hR h1 h2 h3 hl
  obtain ⟨w1, w2, w3⟩ := g_arrO C.ok C.W hw
  have hc := hR.va hG
  refine va_WaastN (C := C0) C.x C.b hc (w1 n (fun j => va_rf (f j))) (fun h => by cases h) (by show ¬ (i < 0 ∨ (arrV _ _ _).slots.size ≤ _); rw [arrV_size]; exact hin) rfl rfl hd fun H1 e1 e2 e3 => ?_
  have e4 : H1[a]? = some (vp_cell (g_A E (.object C0)) (n, .inr (.inr (.inr (.inr (va_up f i.toNatClampNeg none)))))) := by
    rw [e1]
    rw [vp_cell_q, vp_cell_q, arrV_store]
    congr 2
    funext q
    by_cases hq : q = i.toNatClampNeg
    · subst hq
      simp [updV, va_up, va_rf]
    · simp [updV, va_up, hq]
  have hR1 : g_Rep E (g_up G a (g_aq E C0 n (va_up f i.toNatClampNeg none))) H1 := hR.set hB (g_vaA e4) e2 e3 (g_hs_cell hc e4 e2 e3 (by show (vp_cell _ _).slots.size = (vp_cell _ _).slots.size; rw [vp_cell_q, vp_cell_q, arrV_size, arrV_size]))
  have k9 := k p e R s m args below meth c _ ls H1 C hR1 (by rw [e2]; exact h1) h2 (g_locs1 (i := i.toNatClampNeg) h3 hB) hl
  rw [e2] at k9
  exact k9
theorem V_objInit {a i : Nat} (hlink : Cond.methodLink M.1.cls i Lib.objectInit ∈ lw_all) (hinst : Cond.instanceMethod Lib.objectInit ∈ lw_all) (hcode : Cond.code Lib.objectInit ⟨#[0xb1]⟩ 1 none ∈ lw_all) (hd : decode M.2.1 pc = .ok (.invokespecial i, 3)) (hsum : (st.map fun v => v.category).sum ≤ 28) (hdd : 1 ≤ d) (k : V l E M d P (pc + 3) L st G) : V l E M d P pc L (.ref a :: st) G := by
  intro p e R s m args below meth c locs ls H C hR h1 h2 h3 hl
  obtain ⟨r1, r2, r3, r4⟩ := C.room
  refine W.objInit C.x C.b C.own (C.w hlink args) (C.w hinst args) (C.w hcode args) rfl (by rw [C.ml]; exact hl.1) rfl hd (by omega) ?_ (k p e R s m args below meth c locs ls H C hR h1 h2 h3 hl)
  show 2 * 0 + _ + 12 ≤ _
  omega
theorem g_recv {l : Launch} {E : g_E} (ok : g_ok l E) {s : State} (hW : E.1.WarmedH s.vm) {G : g_G} {H : Heap} (hR : g_Rep E G H) {a ci : Nat} {fs : List Value} (hG : G.1 a = some (g_ob ci fs)) {q : vw_C} (hc : g_cl[ci]? = some q) : ∃ cell : Cell, H[a]? = some cell ∧ cell.vm.isStatics = false ∧ s.vm.findClass q.1 = some cell.cls :=
  va_recv (q0 := 0) (fs := fs) (g_KA ok hW [] (fun _ _ h => nomatch h)) (g_P1 hR hG) hc rfl
theorem V_cast {a i ci : Nat} {fs : List Value} {q : vw_C} {nm : String} (hG : G.1 a = some (g_ob ci fs)) (hc : g_cl[ci]? = some q) (hlink : Cond.classLink M.1.cls i nm ∈ lw_all) (hcs : Cond.castable q.1 nm ∈ lw_tbl) (hd : decode M.2.1 pc = .ok (.checkcast i, 3)) (k : V l E M d P (pc + 3) L (.ref a :: st) G) : V l E M d P pc L (.ref a :: st) G := by
  intro p e R s m args below meth c locs ls H C hR h1 h2 h3 hl
  exact va_castY C.x C.b C.own (C.w hlink args) (g_castW C.ok C.W hcs) (g_recv C.ok C.W hR hG hc) hd (k p e R s m args below meth c locs ls H C hR h1 h2 h3 hl)
theorem V_castS {a i ci : Nat} {fs : List Value} {q : vw_C} (hG : G.1 a = some (g_ob ci fs)) (hc : g_cl[ci]? = some q) (hlink : Cond.classLink M.1.cls i q.1 ∈ lw_all) (hd : decode M.2.1 pc = .ok (.checkcast i, 3)) (k : V l E M d P (pc + 3) L (.ref a :: st) G) : V l E M d P pc L (.ref a :: st) G := by
  intro p e R s m args below meth c locs ls H C hR h1 h2 h3 hl
  exact va_castS C.x C.b C.own (C.w hlink args) (g_K C.ok C.W hc).2 (g_recv C.ok C.W hR hG hc) hd (k p e R s m args below meth c locs ls H C hR h1 h2 h3 hl)
theorem V_inst {a i ci : Nat} {fs : List Value} {q : vw_C} {nm : String} (hG : G.1 a = some (g_ob ci fs)) (hc : g_cl[ci]? = some q) (hlink : Cond.classLink M.1.cls i nm ∈ lw_all) (hcs : Cond.castable q.1 nm ∈ lw_tbl) (hd : decode M.2.1 pc = .ok (.instanceof i, 3)) (k : V l E M d P (pc + 3) L (.int 1 :: st) G) : V l E M d P pc L (.ref a :: st) G := by
  intro p e R s m args below meth c locs ls H C hR h1 h2 h3 hl
  exact va_instY C.x C.b C.own (C.w hlink args) (g_castW C.ok C.W hcs) (g_recv C.ok C.W hR hG hc) hd (k p e R s m args below meth c locs ls H C hR h1 h2 h3 hl)
theorem V_instS {a i ci : Nat} {fs : List Value} {q : vw_C} (hG : G.1 a = some (g_ob ci fs)) (hc : g_cl[ci]? = some q) (hlink : Cond.classLink M.1.cls i q.1 ∈ lw_all) (hd : decode M.2.1 pc = .ok (.instanceof i, 3)) (k : V l E M d P (pc + 3) L (.int 1 :: st) G) : V l E M d P pc L (.ref a :: st) G := by
  intro p e R s m args below meth c locs ls H C hR h1 h2 h3 hl
  exact va_instS C.x C.b C.own (C.w hlink args) (g_K C.ok C.W hc).2 (g_recv C.ok C.W hR hG hc) hd (k p e R s m args below meth c locs ls H C hR h1 h2 h3 hl)
end VH
