/-! synchronized methods: frames that hold a monitor -/
set_option maxRecDepth 100000
abbrev F1 (a0 : Nat) (m : MethodId) (pc : Nat) (ls : Array Slot) (st : List Value) : JFrame := { method := m, pc := pc, locals := ls, stack := st, locked := some a0, monitorRoom := 1 }
def g_CS (l : Launch) (E : g_E) (M : g_M) (d : Nat) (p : Program) (R : Room) (s : State) (m : MethodId) (meth : Method) (c : Code) : Prop :=
  g_ok l E ∧ p.tables.exec = Jvm.exec ∧ c.code = M.2.1 ∧ meth.sig.returnType = M.2.2.2.1 ∧ c.maxLocals = M.2.2.1 ∧ s.vm.findClass M.1.cls = some m.cls ∧ E.1.WarmedH s.vm ∧ meth.locks = true ∧ (d ≤ R.frames ∧ 4000 + 64 * d ≤ R.locals ∧ g_capC E ≤ s.heap.size + R.cells ∧ g_capS E ≤ s.slotsUsed + R.slots)
/-- a walk inside a synchronized method: s is the state of the call, over it the receiver a0 is held -/
def VS (l : Launch) (E : g_E) (M : g_M) (d : Nat) (P : Outcome → g_G → Prop) (a0 pc : Nat) (L : List (Nat × Value)) (st : List Value) (G : g_G) : Prop :=
  ∀ (p : Program) (e : Env) (R : Room) (s : State) (m : MethodId) (args : Array Value) (below : List Frame) (meth : Method) (c : Code) (locs : List Loc) (ls : Array Slot) (H : Heap) (cell0 : Cell),
    g_CS l E M d p R s m meth c → s.heap[a0]? = some cell0 → cell0.monitor.owner = none → cell0.monitor.count = 0 → g_Rep E G H → s.heap.size ≤ H.size → s.slotsUsed ≤ G.2.2 → (∀ z ∈ locs, g_B E ≤ z.base) → lv_has ls M.2.2.1 L →
    W p l e R (s.setCell a0 (cell0.withEntry s.cur)) m args below meth c H locs (H.size - s.heap.size) (G.2.2 - s.slotsUsed) (g_Z E P below s) (F1 a0 m pc ls st)
section VS
variable {l : Launch} {E : g_E} {M M' : g_M} {d d' n : Nat} {P : Outcome → g_G → Prop} {a0 pc : Nat} {L : List (Nat × Value)} {st stk as : List Value} {G : g_G}
theorem VS_aload_n {j : Fin 4} {v : Nat} (hd : decode M.2.1 pc = .ok (.aload_n j, 1)) (hk : g_lk L (j : Nat) = some (.ref v)) (k : VS l E M d P a0 (pc + 1) L (.ref v :: st) G) : VS l E M d P a0 pc L st G := by
  intro p e R s m args below meth c locs ls H cell0 C h0 h01 h02 hR h1 h2 h3 hl T hT X
  have hx := C.2.1
  have hb := C.2.2.1
  have hlk := g_lk_at hl hk
  obtain ⟨t, a, b⟩ := k p e R s m args below meth c locs ls H cell0 C h0 h01 h02 hR h1 h2 h3 hl T hT X
  refine ⟨t, ?_, b⟩
  jvm_step X.here [X.here.top, hx, hb, hd, hlk, Value.isRef]
  exact a
theorem VS_bipush {k : Int} {v : Int32} (hd : decode M.2.1 pc = .ok (.bipush k, 2)) (hv : (Int8.ofInt k).toInt32 = v) (kk : VS l E M d P a0 (pc + 2) L (.int v :: st) G) : VS l E M d P a0 pc L st G := by
  intro p e R s m args below meth c locs ls H cell0 C h0 h01 h02 hR h1 h2 h3 hl T hT X
  have hx := C.2.1
  have hb := C.2.2.1
  obtain ⟨t, a, b⟩ := kk p e R s m args below meth c locs ls H cell0 C h0 h01 h02 hR h1 h2 h3 hl T hT X
  refine ⟨t, ?_, b⟩
  rw [← hv] at a
  jvm_step X.here [X.here.top, hx, hb, hd]
  exact a
theorem VS_pop {v : Value} (hd : decode M.2.1 pc = .ok (.pop, 1)) (hc : v.category = 1) (kk : VS l E M d P a0 (pc + 1) L st G) : VS l E M d P a0 pc L (v :: st) G := by
  intro p e R s m args below meth c locs ls H cell0 C h0 h01 h02 hR h1 h2 h3 hl T hT X
  have hx := C.2.1
  have hb := C.2.2.1
  obtain ⟨t, a, b⟩ := kk p e R s m args below meth c locs ls H cell0 C h0 h01 h02 hR h1 h2 h3 hl T hT X
  refine ⟨t, ?_, b⟩
  jvm_step X.here [X.here.top, hx, hb, hd, hc]
  exact a
theorem VS_icmp_ne {x y : Int32} {off : Int} (tgt : Nat) (hd : decode M.2.1 pc = .ok (.if_icmp .ne off, 3)) (ht : (pc : Int) + off = (tgt : Int)) (kt : ¬ x = y → VS l E M d P a0 tgt L st G) (kf : x = y → VS l E M d P a0 (pc + 3) L st G) : VS l E M d P a0 pc L (.int y :: .int x :: st) G := by
  intro p e R s m args below meth c locs ls H cell0 C h0 h01 h02 hR h1 h2 h3 hl T hT X
  have hx := C.2.1
  have hb := C.2.2.1
  by_cases hP : x = y
  · obtain ⟨t, a, b⟩ := kf hP p e R s m args below meth c locs ls H cell0 C h0 h01 h02 hR h1 h2 h3 hl T hT X
    refine ⟨t, ?_, b⟩
    jvm_step X.here [X.here.top, hx, hb, hd, Op.if_icmp.holds, hP, ht]
    exact a
  · obtain ⟨t, a, b⟩ := kt hP p e R s m args below meth c locs ls H cell0 C h0 h01 h02 hR h1 h2 h3 hl T hT X
    refine ⟨t, ?_, b⟩
    jvm_step X.here [X.here.top, hx, hb, hd, Op.if_icmp.holds, hP, ht]
    exact a
theorem VS_get {ci N : Nat} {C0 : String} {T : u_T} {ty : Nat → FieldType} {fs0 : List Value} (ck : g_ck ci C0 T N ty fs0) {a i : Nat} {cj : Nat} {fs : List Value} {v : Value} {ref : String} (hG : G.1 a = some (g_ob cj fs)) (hcj : g_cl[cj]? = some (C0, T, N)) (j : Nat) (hj : j < N) (hlink : (Cond.fieldLink M.1.cls i ref (T j).2.1 (T j).2.2.1) ∈ lw_all) (href : ref = (T j).1) (hv : fs[j]? = some v) (hd : decode M.2.1 pc = .ok (.getfield i, 3)) (k : VS l E M d P a0 (pc + 3) L (v :: st) G) : VS l E M d P a0 pc L (.ref a :: st) G := by
  intro p e R s m args below meth c locs ls H cell0 C h0 h01 h02 hR h1 h2 h3 hl
  have K := k p e R s m args below meth c locs ls H cell0 C h0 h01 h02 hR h1 h2 h3 hl
  obtain ⟨c1, c2, c3, c4, c5, c6, c7, c8, c9⟩ := C
  have hW' : E.1.WarmedH (s.setCell a0 (cell0.withEntry s.cur)).vm := c7
  have h6 : (s.setCell a0 (cell0.withEntry s.cur)).vm.findClass M.1.cls = some m.cls := c6
  generalize hs1 : s.setCell a0 (cell0.withEntry s.cur) = s1 at K hW' h6
  obtain ⟨cell, q1, q2, q3, r, e1, q4, q5⟩ := g_rd.cell hR (Or.inl hG)
  cases Option.some.inj (e1.symm.trans hcj)
  have hts : ∀ w ∈ lw_all, w.before args s1 = true := fun w hw => g_wordAt c1 hW' hw args
  obtain ⟨hS, hfc, kC, hkC, hkind⟩ := g_K c1 hW' hcj
  obtain ⟨cf, kf, fi, f, hi, hsl⟩ := hS j hj
  have hi2 : s1.fieldFound? ref (T j).2.1 (T j).2.2.1 = some (cf, kf, fi, f) := by rw [href]; exact hi
  refine W.getf c2 c3 h6 (hts _ hlink) hi2 (u_facts hfc hkC (u_lays hts ck.2.1 hj) hi).1 q1 q2 (v := v) ?_ rfl rfl hd K
  rw [hsl, q5 j hj]
  simp [vp_V, hv]
theorem VS_castS {a i ci : Nat} {fs : List Value} {q : vw_C} (hG : G.1 a = some (g_ob ci fs)) (hc : g_cl[ci]? = some q) (hlink : Cond.classLink M.1.cls i q.1 ∈ lw_all) (hd : decode M.2.1 pc = .ok (.checkcast i, 3)) (k : VS l E M d P a0 (pc + 3) L (.ref a :: st) G) : VS l E M d P a0 pc L (.ref a :: st) G := by
  intro p e R s m args below meth c locs ls H cell0 C h0 h01 h02 hR h1 h2 h3 hl
  have K := k p e R s m args below meth c locs ls H cell0 C h0 h01 h02 hR h1 h2 h3 hl
  obtain ⟨c1, c2, c3, c4, c5, c6, c7, c8, c9⟩ := C
  have hW' : E.1.WarmedH (s.setCell a0 (cell0.withEntry s.cur)).vm := c7
  have h6 : (s.setCell a0 (cell0.withEntry s.cur)).vm.findClass M.1.cls = some m.cls := c6
  generalize hs1 : s.setCell a0 (cell0.withEntry s.cur) = s1 at K hW' h6
  obtain ⟨cell, q1, q2, q3⟩ := g_recv c1 hW' hR hG hc
  have hcl := (g_K c1 hW' hc).2
  have e1 : E.2.2.1 ci = cell.cls := Option.some.inj (hcl.1.symm.trans q3)
  intro T hT X
  obtain ⟨vm', X', stp⟩ := X.checkcastYes c2 h6 (g_wordAt c1 hW' hlink args) (by rw [hT]; exact q1) q2 hcl.1 (by rw [← e1]; exact va_assign hcl) (g := F1 a0 m pc ls (.ref a :: st)) rfl rfl (by rw [c3]; exact hd)
  obtain ⟨t, a1, b1⟩ := K (T.setVm vm') hT X'
  exact ⟨t, stp t a1, b1⟩
theorem VS_callV {i b ci : Nat} {fs : List Value} {q : vw_C} (mk : g_mk M' n) (hlink : Cond.methodLink M.1.cls i M'.1 ∈ lw_all) (hinst : Cond.instanceMethod M'.1 ∈ lw_all) (hsel : Cond.selects q.1 M'.1 M'.1 ∈ lw_all) (hG : G.1 b = some (g_ob ci fs)) (hc : g_cl[ci]? = some q) (hd : decode M.2.1 pc = .ok (.invokevirtual i, 3)) (S : g_Spc l E M' d' (.ref b :: as) G (fun o G' => ∃ v, o = .returned v ∧ VS l E M d P a0 (pc + 3) L (g_psh v st) G')) (hn : as.length = n := by rfl) (hst : stk = as.reverse ++ .ref b :: st := by rfl) (hdd : d' + 1 ≤ d := by decide) (hlen : st.length ≤ 13 := by exact Nat.le_of_ble_eq_true rfl) : VS l E M d P a0 pc L stk G := by
  subst hst
  intro p e R s m args below meth c locs ls H cell0 C h0 h01 h02 hR h1 h2 h3 hl T hT X
  subst hT
  have C1 := C
  obtain ⟨c1, c2, c3, c4, c5, c6, c7, c8, c9⟩ := C
  have hW' : E.1.WarmedH (s.setCell a0 (cell0.withEntry s.cur)).vm := c7
  have cw : ∀ {w : Cond}, w ∈ lw_all → w.before args (s.setCell a0 (cell0.withEntry s.cur)) = true := fun hw => g_wordAt c1 hW' hw args
  have hsz : (s.setCell a0 (cell0.withEntry s.cur)).heap.size = s.heap.size := Array.size_setIfInBounds
  obtain ⟨mm, methM, hnamed, hmethM, hstM, habM⟩ := Cond.instanceMethod_spec (cw hinst)
  have hsigM := g_cw_sig (cw mk.1) hnamed hmethM
  obtain ⟨cellB, hcell, hobj, hcls⟩ := g_recv c1 hW' hR hG hc
  obtain ⟨c2', r2, m2, q1, q2, q3, q4, kP, hkP, hkPi⟩ := Cond.selects_spec (cw hsel)
  cases hcls.symm.trans q1
  cases (State.methodFound?_of_named hnamed mk.2.2.1).symm.trans q2
  cases hnamed.symm.trans q3
  have hselP : selectMethod e.platform (s.setCell a0 (cell0.withEntry s.cur)).vm cellB.cls mm = .method mm := by rw [Launch.admits_selectMethod X.admits]; exact q4
  obtain ⟨vm₁, X₁, hstep₁⟩ := X.invokevirtual c2 c6 (cw hlink) hnamed hmethM hstM hkP hkPi mk.2.2.1 (a := b) (cell := cellB) hcell
    (fun z h => by rw [h] at hobj; cases hobj) hselP hmethM habM hkP hkPi (g := F1 a0 m pc ls (as.reverse ++ .ref b :: st)) rfl (argsL := as) (rest := st) (hn.trans (mk.len _ hsigM)) rfl (by rw [c3]; exact hd)
  have hdg : decode c.code pc = .ok (.invokevirtual i, 3) := by rw [c3]; exact hd
  obtain ⟨o, Bt, L', G', XB, hlocs, hR', hP, z1, z2, hsteps⟩ := g_back0 (g := F1 a0 m pc ls st) c1 hW' (by rw [hsz]; exact c9) S mk.1 mk.2.1 hdd mk.2.2.2.2 (U := T.setVm vm₁) hR h3 X₁ rfl (hl.1.trans c5.symm) hdg (by
    have := g_sum st
    show 2 * 1 + (st.map fun v => v.category).sum ≤ 28
    omega) (X₁.named hnamed)
  obtain ⟨v, rfl, hV⟩ := hP
  rw [hsz] at XB z1
  have hs2 : Steps p.tables e below (doInvoke e ((T.setVm vm₁).setTop (F1 a0 m pc ls st)) [] mm (.ref b :: as).toArray).1 (Bt.setTop (F1 a0 m (pc + 3) ls (g_psh v st))) := by
    cases v <;> exact hsteps
  obtain ⟨t, a1, b1⟩ := hV p e R s m args below meth c _ ls Bt.heap cell0 C1 h0 h01 h02 hR' z1 z2 hlocs hl Bt rfl (by rw [← hR'.2.1]; exact XB)
  exact ⟨t, hstep₁ t (fun acts => by rw [doInvoke_state]; exact hs2.trans a1), b1⟩
/-- the end: the monitor is given back -/
theorem g_left {a0 : Nat} {p : Program} {e : Env} {R : Room} {s : State} {m : MethodId} {args : Array Value} {below : List Frame} {meth : Method} {c : Code} {T : State} {locs : List Loc} {cells slots : Nat} {cell0 cellT : Cell} (X : Stand p l e R (s.setCell a0 (cell0.withEntry s.cur)) m args below meth c T locs cells slots) (h0 : s.heap[a0]? = some cell0) (h01 : cell0.monitor.owner = none) (h02 : cell0.monitor.count = 0) (hT : T.heap[a0]? = some cellT) : cellT.left = { cellT with monitor := cell0.monitor } := by
  have hlt : a0 < s.heap.size := (Array.getElem?_eq_some_iff.mp h0).1
  have hs' : (s.setCell a0 (cell0.withEntry s.cur)).heap[a0]? = some (cell0.withEntry s.cur) := by
    show (s.heap.setIfInBounds a0 (cell0.withEntry s.cur))[a0]? = _
    simp [hlt]
  obtain ⟨c', x1, x2, -⟩ := X.cellAt hs'
  cases hT.symm.trans x1
  rw [x2, Cell.left_withSlots, Cell.left_withEntry _ h01 h02]
  rfl
theorem VS_end {a0 : Nat} {v : Option Value} {p : Program} {e : Env} {R : Room} {s : State} {m : MethodId} {args : Array Value} {below : List Frame} {meth : Method} {c : Code} {locs : List Loc} {ls : Array Slot} {H : Heap} {cell0 : Cell} {fs : List Value} {T : State} {st : List Value}
    (C : g_CS l E M d p R s m meth c) (h0 : s.heap[a0]? = some cell0) (h01 : cell0.monitor.owner = none) (h02 : cell0.monitor.count = 0) (hR : g_Rep E G H) (h3 : ∀ z ∈ locs, g_B E ≤ z.base) (hT : T.heap = H) (hB : g_B E ≤ a0) (hG : G.1 a0 = some (g_ob 31 fs))
    (X : Stand p l e R (s.setCell a0 (cell0.withEntry s.cur)) m args below meth c T locs (H.size - s.heap.size) (G.2.2 - s.slotsUsed)) (hv : meth.sig.returnType = none → v = none) (k : P (.returned v) (g_up G a0 (g_ob 3 fs)))
    (hstep : ∀ fs' cellT, (∀ (f : JFrame) (acts : List Action), f.method = m → f.locked = some a0 → f.entered = [] → (doReturn e (T.setTop f) acts v).1 = (T.setCell a0 cellT).setFrames fs') → Steps p.tables e below (T.setTop (F1 a0 m pc ls st)) ((T.setCell a0 cellT).setFrames fs')) :
    ∃ t, Steps p.tables e below (T.setTop (F1 a0 m pc ls st)) t ∧ g_Z E P below s t := by
  obtain ⟨fs', cellT, q1, q2, q3, q4, q5, q6⟩ := X.leaveSync h0 (Or.inl ⟨h01, h02⟩) C.2.2.2.2.2.2.2.1 hv
  have hleft := g_left X h0 h01 h02 q1
  refine ⟨_, hstep fs' cellT.left q2, .returned v, q3, q4, q5, ⟨locs, _, _, q6, h3⟩, g_up G a0 (g_ob 3 fs), ?_, k⟩
  show g_Rep E (g_up G a0 (g_ob 3 fs)) (T.heap.setIfInBounds a0 cellT.left)
  rw [hT] at q1 ⊢
  have hlt : a0 < H.size := (Array.getElem?_eq_some_iff.mp q1).1
  have oa : (H.setIfInBounds a0 cellT.left)[a0]? = some cellT.left := by simp [Array.getElem?_setIfInBounds, hlt]
  have oq : ∀ q : Nat, q ≠ a0 → (H.setIfInBounds a0 cellT.left)[q]? = H[q]? := fun q hq => by simp [Array.getElem?_setIfInBounds, Ne.symm hq]
  have oz : (H.setIfInBounds a0 cellT.left).size = H.size := by simp
  have os : cellT.left.slots = cellT.slots := by rw [hleft]
  refine hR.set hB ⟨?_, fun o ho hc cell hcell => ?_⟩ oz oq (g_hs_cell q1 oa oz oq (by rw [os]))
  · obtain ⟨r, e1, cell, v1, v2, v3, v4⟩ := hR.va hG
    cases v1.symm.trans q1
    obtain ⟨S3, F3, -⟩ := C.1.2.2.1 3 _ ckX4.1
    obtain ⟨S31, F31, -⟩ := C.1.2.2.1 31 _ (show g_cl[31]? = some (RX4, TX4, 1) from rfl)
    have hr : r = (RX4, TX4, 1) := Option.some.inj (e1.symm.trans rfl)
    subst hr
    refine ⟨(RX4, TX4, 1), ckX4.1, cellT.left, oa, ?_, ?_, fun k hk => ?_⟩
    · rw [hleft]
      show cellT.cls = _
      rw [v2]
      exact Option.some.inj (F31.symm.trans F3)
    · rw [hleft]; exact v3
    · have hk0 : k = 0 := Nat.lt_one_iff.mp hk
      subst hk0
      obtain ⟨cf, kf, fi, f, g1, g2⟩ := S3 0 (by decide)
      obtain ⟨cf', kf', fi', f', g1', g2'⟩ := S31 0 (by decide)
      cases g1.symm.trans g1'
      rw [os]
      show cellT.slots[E.2.2.2 3 0]? = _
      rw [← g2, g2']
      exact v4 0 (by decide)
  · cases hcell.symm.trans oa
    rw [hleft]
    exact ⟨h01, h02⟩
theorem VS_return {fs : List Value} (hG : G.1 a0 = some (g_ob 31 fs)) (hB : g_B E ≤ a0) (hd : decode M.2.1 pc = .ok (.return_, 1)) (hr : M.2.2.2.1 = none) (k : P (.returned none) (g_up G a0 (g_ob 3 fs))) : VS l E M d P a0 pc L [] G := by
  intro p e R s m args below meth c locs ls H cell0 C h0 h01 h02 hR h1 h2 h3 hl T hT X
  have hx := C.2.1
  have hb := C.2.2.1
  have hr9 := C.2.2.2.1.trans hr
  have hmeth' : T.vm.method? m = some meth := X.method'
  refine VS_end C h0 h01 h02 hR h3 hT hB hG X (fun _ => rfl) k (fun fs' cellT hret => ?_)
  jvm_step X.here [X.here.top, hx, hb, hd, hmeth', hr9]
  (try refine ⟨rfl, ?_⟩); (try refine ⟨rfl, ?_⟩)
  first | (intro acts; rw [hret _ acts rfl rfl rfl]) | rw [hret _ _ rfl rfl rfl]
  exact Steps.refl _
theorem VS_ireturn {x : Int32} {fs : List Value} (hG : G.1 a0 = some (g_ob 31 fs)) (hB : g_B E ≤ a0) (hd : decode M.2.1 pc = .ok (.ireturn, 1)) (hr : M.2.2.2.1 = some .int) (k : P (.returned (some (.int x))) (g_up G a0 (g_ob 3 fs))) : VS l E M d P a0 pc L [.int x] G := by
  intro p e R s m args below meth c locs ls H cell0 C h0 h01 h02 hR h1 h2 h3 hl T hT X
  have hx := C.2.1
  have hb := C.2.2.1
  have hr9 := C.2.2.2.1.trans hr
  have hmeth' : T.vm.method? m = some meth := X.method'
  refine VS_end C h0 h01 h02 hR h3 hT hB hG X (fun h => by rw [hr9] at h; cases h) k (fun fs' cellT hret => ?_)
  jvm_step X.here [X.here.top, hx, hb, hd, hmeth', hr9, narrow]
  (try refine ⟨rfl, ?_⟩); (try refine ⟨rfl, ?_⟩)
  first | (intro acts; rw [hret _ acts rfl rfl rfl]) | rw [hret _ _ rfl rfl rfl]
  exact Steps.refl _
theorem VS_areturn {a : Nat} {nm : String} {fs : List Value} (hG : G.1 a0 = some (g_ob 31 fs)) (hB : g_B E ≤ a0) (hd : decode M.2.1 pc = .ok (.areturn, 1)) (hr : M.2.2.2.1 = some (.object nm)) (k : P (.returned (some (.ref a))) (g_up G a0 (g_ob 3 fs))) : VS l E M d P a0 pc L [.ref a] G := by
  intro p e R s m args below meth c locs ls H cell0 C h0 h01 h02 hR h1 h2 h3 hl T hT X
  have hx := C.2.1
  have hb := C.2.2.1
  have hr9 := C.2.2.2.1.trans hr
  have hmeth' : T.vm.method? m = some meth := X.method'
  refine VS_end C h0 h01 h02 hR h3 hT hB hG X (fun h => by rw [hr9] at h; cases h) k (fun fs' cellT hret => ?_)
  jvm_step X.here [X.here.top, hx, hb, hd, hmeth', hr9]
  (try refine ⟨rfl, ?_⟩); (try refine ⟨rfl, ?_⟩)
  first | (intro acts; rw [hret _ acts rfl rfl rfl]) | rw [hret _ _ rfl rfl rfl]
  exact Steps.refl _
theorem g_args_locals (vs : List Value) (n : Nat) : argsToLocals vs.toArray n = (lg_sl vs ++ List.replicate (n - (lg_sl vs).length) Slot.unset).toArray := congrArg JFrame.locals (lg_entry_eq ⟨0, 0⟩ vs n)
/-- the entry of a synchronized method, general -/
theorem g_syncIn {a0 : Nat} {rest : List Value} {x : va_E} (hsy : g_sy M = true) (hy : plainFor M.1 = true) (hG : G.1 a0 = some x) (hx : ∀ o : Nat × List Value, x = .inr o → o.1 < 31) (hxo : ∃ o, x = .inr o) (hinst : Cond.instanceMethod M.1 ∈ lw_all) (hn : (lg_sl (.ref a0 :: rest)).length ≤ M.2.2.1)
    (k : ∀ (p : Program) (e : Env) (s : State) (m : MethodId) (below : List Frame) (meth : Method) (c : Code) (cell0 : Cell), g_CS l E M d p (g_room E d G) s m meth c → s.heap[a0]? = some cell0 → cell0.monitor.owner = none → cell0.monitor.count = 0 → g_Rep E G s.heap → s.slotsUsed = G.2.2 →
      W p l e (g_room E d G) (s.setCell a0 (cell0.withEntry s.cur)) m (Value.ref a0 :: rest).toArray below meth c (s.heap.setIfInBounds a0 (cell0.withEntry s.cur)) [] 0 0 (g_Z E P below s) (F1 a0 m 0 (lg_sl (.ref a0 :: rest) ++ List.replicate (M.2.2.1 - (lg_sl (.ref a0 :: rest)).length) Slot.unset).toArray [])) : g_Spc l E M d (.ref a0 :: rest) G P := by
  intro ok p e ha hc hk s m args below hf happ hP _
  obtain ⟨hrun, hable, halone, hname, hhears, hinit, hroom, hpre⟩ := (Spec.appliesLoose_iff hf).mp happ
  obtain ⟨rfl, hW, hR⟩ := hP
  obtain ⟨meth, c, hmeth, hcode, hbytes, hlocals, hret, hlocks, -, -⟩ := g_cw_spec hname (atoms_spec (ws := [g_cw M]) hpre _ List.mem_cons_self)
  rw [hsy] at hlocks
  obtain ⟨mk, methM, hnamed, hmethM, hst, -⟩ := Cond.instanceMethod_spec (g_wordAt ok hW hinst #[])
  cases hname.symm.trans hnamed
  cases hmeth.symm.trans hmethM
  obtain ⟨o, rfl⟩ := hxo
  obtain ⟨r, e1, cell0, q1, q2, q3, q4⟩ := hR.va hG
  obtain ⟨h01, h02⟩ := hR.mon hG (hx o rfl) q1
  have hroom9 := hroom
  simp only [State.hasRoom, Bool.and_eq_true] at hroom9
  have hu := g_used hroom9.2
  have C : g_CS l E M d p (g_room E d G) s m meth c := by
    refine ⟨ok, (by cases p <;> rfl), hbytes, hret, hlocals, findClass_of_methodNamed hname, hW, hlocks, Nat.le_refl _, Nat.le_refl _, ?_, ?_⟩
    · show g_capC E ≤ s.heap.size + (g_capC E - G.2.1)
      have := hR.1; omega
    · show g_capS E ≤ s.slotsUsed + (g_capS E - G.2.2)
      have := hR.2.1; omega
  have hlt : a0 < s.heap.size := (Array.getElem?_eq_some_iff.mp q1).1
  have hcur := State.cur_lt_of_frames hf
  have hcur' : (s.setCell a0 (cell0.withEntry s.cur)).cur < (s.setCell a0 (cell0.withEntry s.cur)).threads.size := hcur
  have hfr : entryFrameSync m (Value.ref a0 :: rest).toArray M.2.2.1 a0 = F1 a0 m 0 (lg_sl (.ref a0 :: rest) ++ List.replicate (M.2.2.1 - (lg_sl (.ref a0 :: rest)).length) Slot.unset).toArray [] := by
    show ({ method := m, pc := 0, locals := argsToLocals (Value.ref a0 :: rest).toArray M.2.2.1, stack := [], locked := some a0, monitorRoom := 1 } : JFrame) = _
    rw [g_args_locals]
  have K := k p e s m below meth c cell0 C q1 h01 h02 hR (by rw [hu, hR.2.1])
  rw [← hfr] at K
  generalize hFr : entryFrameSync m (Value.ref a0 :: rest).toArray M.2.2.1 a0 = fr at K
  have hfm : fr.method = m := by rw [← hFr]
  have hf1 : ((s.setCell a0 (cell0.withEntry s.cur)).setFrames (.java fr :: below)).frames = .java fr :: below := State.frames_setFrames _ hcur'
  have ht1 := State.topJava?_of_frames hf1
  have hplain : ((s.setCell a0 (cell0.withEntry s.cur)).setFrames (.java fr :: below)).plainMethod m := State.plainMethod.of_named (s := s) hy hname hmeth
  have hAt : At ((s.setCell a0 (cell0.withEntry s.cur)).setFrames (.java fr :: below)) m c below :=
    ⟨by rw [ht1]; rfl, ⟨[], by rw [hf1]; rfl⟩, hrun, by simpa using hable, by simpa using halone,
      by rw [State.code?_eq]; simp [State.setFrames, State.setCell, hmeth, hcode], hplain⟩
  obtain ⟨thr, hthr, -⟩ := State.frames_cons hf
  have X : Stand p l e (g_room E d G) (s.setCell a0 (cell0.withEntry s.cur)) m (Value.ref a0 :: rest).toArray below meth c ((s.setCell a0 (cell0.withEntry s.cur)).setFrames (.java fr :: below)) [] 0 0 := by
    refine ⟨ha, hc, hk, hf, by rw [State.hasRoom_setCell (x := cell0.withEntry s.cur) q1 rfl]; exact hroom, hhears, hmeth, hcode, hAt, by rw [hf1]; rfl,
      State.WarmedH.refl (s.setCell a0 (cell0.withEntry s.cur)), by rw [State.stackLimits_setFrames], by rw [State.stackBytes_setFrames], ?_⟩
    exact (State.sameButNew.refl (s.setCell a0 (cell0.withEntry s.cur)) (x := thr) hthr).setFrames (.java fr :: below) hcur
  obtain ⟨t, a1, o2, b1, b2, b3, b4, b5⟩ := K ((s.setCell a0 (cell0.withEntry s.cur)).setFrames (.java fr :: below)) rfl X
  have hstep : (stepThread p.tables e s).1 = ((s.setCell a0 (cell0.withEntry s.cur)).setFrames (.java fr :: below)).setTop fr := by
    have hfull : e.platform.stackFull (s.setFrames below).me (s.setFrames below).frames (c.maxLocals + 2) = false := by
      obtain ⟨-, h1, -, h2⟩ := State.hasRoom_stack hroom
      rw [hf, List.length_cons] at h1
      rw [State.localsInUse_invoking hf hmeth hcode] at h2
      have hw := stackUse_le_stackWeight below
      rw [State.frames_setFrames _ hcur]
      simp only [vmFrameWords] at h2
      exact Platform.stackFull_eq_false (by rw [State.stackLimits_setFrames]; omega) (by rw [State.stackLimits_setFrames]; omega)
    rw [stepThread_invoking hf, (doInvoke_java_sync (s := s.setFrames below) (e := e) (meth := meth) (code := c) (a := a0) (cell := cell0) hmeth hcode hlocks hst (by rfl) q1 (Or.inl h01) hfull).1,
      State.setTop_self ht1, hlocals, hFr]
    show (((s.setFrames below).setCell a0 (cell0.withEntry s.cur)).setFrames (.java fr :: ((s.setFrames below).setCell a0 (cell0.withEntry s.cur)).frames)) = _
    rw [show ((s.setFrames below).setCell a0 (cell0.withEntry s.cur)).frames = below from State.frames_setFrames _ hcur, State.setCell_setFrames, State.setFrames_setFrames]
  obtain ⟨n, hn9, hw⟩ := Steps.head (tb := p.tables) (e := e) ⟨hrun, hable, halone⟩ ⟨[.invoking m (Value.ref a0 :: rest).toArray], hf, by simp, by simp⟩ (hstep ▸ a1)
  exact ⟨n, o2, hw, hn9 ▸ b1, hn9 ▸ b2, hn9 ▸ ⟨b3, b4, b5⟩⟩
/-- the entry of a method of Past -/
theorem VS_intro {a0 : Nat} {rest : List Value} {fs : List Value} (hsy : g_sy M = true) (hy : plainFor M.1 = true) (hG : G.1 a0 = some (g_ob 3 fs)) (hB : g_B E ≤ a0) (hinst : Cond.instanceMethod M.1 ∈ lw_all) (hn : (lg_sl (.ref a0 :: rest)).length ≤ M.2.2.1)
    (k : VS l E M d P a0 0 (lv_args 0 (.ref a0 :: rest)) [] (g_up G a0 (g_ob 31 fs))) : g_Spc l E M d (.ref a0 :: rest) G P := by
  refine g_syncIn hsy hy hG (fun o ho => by cases ho; exact (show 3 < 31 by decide)) ⟨_, rfl⟩ hinst hn (fun p e s m below meth c cell0 C q1 h01 h02 hR hroom => ?_)
  have hlt : a0 < s.heap.size := (Array.getElem?_eq_some_iff.mp q1).1
  have oa : (s.heap.setIfInBounds a0 (cell0.withEntry s.cur))[a0]? = some (cell0.withEntry s.cur) := by simp [Array.getElem?_setIfInBounds, hlt]
  have oq : ∀ q : Nat, q ≠ a0 → (s.heap.setIfInBounds a0 (cell0.withEntry s.cur))[q]? = s.heap[q]? := fun q hq => by simp [Array.getElem?_setIfInBounds, Ne.symm hq]
  have oz : (s.heap.setIfInBounds a0 (cell0.withEntry s.cur)).size = s.heap.size := by simp
  have hR1 : g_Rep E (g_up G a0 (g_ob 31 fs)) (s.heap.setIfInBounds a0 (cell0.withEntry s.cur)) := by
    refine hR.set hB ⟨?_, fun o ho hc cell hcell => by cases ho; exact absurd hc (show ¬ 31 < 31 by decide)⟩ oz oq (g_hs_cell q1 oa oz oq rfl)
    obtain ⟨r, e1, cell, v1, v2, v3, v4⟩ := hR.va hG
    cases v1.symm.trans q1
    obtain ⟨S3, F3, -⟩ := C.1.2.2.1 3 _ ckX4.1
    obtain ⟨S31, F31, -⟩ := C.1.2.2.1 31 _ (show g_cl[31]? = some (RX4, TX4, 1) from rfl)
    have hr : r = (RX4, TX4, 1) := Option.some.inj (e1.symm.trans rfl)
    subst hr
    refine ⟨(RX4, TX4, 1), rfl, cell0.withEntry s.cur, oa, ?_, v3, fun k hk => ?_⟩
    · show cell0.cls = _
      rw [v2]
      exact Option.some.inj (F3.symm.trans F31)
    · have hk0 : k = 0 := Nat.lt_one_iff.mp hk
      subst hk0
      obtain ⟨cf, kf, fi, f, g1, g2⟩ := S3 0 (by decide)
      obtain ⟨cf', kf', fi', f', g1', g2'⟩ := S31 0 (by decide)
      cases g1.symm.trans g1'
      show cell0.slots[E.2.2.2 31 0]? = _
      rw [← g2', g2]
      exact v4 0 (by decide)
  have hsz : s.heap.size = G.2.1 := hR.1
  have K := k p e (g_room E d G) s m (Value.ref a0 :: rest).toArray below meth c [] _ (s.heap.setIfInBounds a0 (cell0.withEntry s.cur)) cell0 C q1 h01 h02 hR1 (by rw [oz]; exact Nat.le_refl _) (by rw [hroom]; exact Nat.le_refl _) (fun _ h => nomatch h) (lv_entry (.ref a0 :: rest) (n := M.2.2.1) hn)
  rw [oz, Nat.sub_self, hroom, show (g_up G a0 (g_ob 31 fs)).2.2 - G.2.2 = 0 from Nat.sub_self _] at K
  exact K
end VS
