/-! constants of the start (statics, String constants), rows that read them or the ghost heap; arraycopy (printed by wip gen/read.py) -/
set_option maxRecDepth 100000
/-- what lay in A lies there still -/
def g_ke0 (A : Nat → Prop) (G G' : g_G) : Prop := ∀ (a : Nat) (x : va_E), A a → G.1 a = some x → G'.1 a = some x
/-- what lay at a when the law was called, and is never written -/
def g_is (E : g_E) (x : va_E) (cell : Cell) : Prop := match x with
  | .inr o => ∃ r : vw_C, g_cl[o.1]? = some r ∧ cell.cls = E.2.2.1 o.1 ∧ ∀ k, k < r.2.2 → cell.slots[E.2.2.2 o.1 k]? = some (vp_V o.2 k)
  | .inl q => cell.cls = q.1 ∧ (q.2.1 ≤ cell.slots.size ∧ cell.slots.size.toInt32 = nI q.2.1) ∧ ∀ j, j < q.2.1 → cell.slots[j]? = (vp_cell q.1 q.2).slots[j]?
def g_cst (E : g_E) (a : Nat) (x : va_E) : Prop := ∃ cell : Cell, E.1.heap[a]? = some cell ∧ cell.vm ≠ .unknown ∧ cell.vm.isStatics = false ∧ g_is E x cell
/-- readable: in the ghost heap or a constant -/
abbrev g_rd (E : g_E) (G : g_G) (a : Nat) (x : va_E) : Prop := G.1 a = some x ∨ g_cst E a x
theorem vp_cell_size (cA : ClassId) (x : vp_A) : (vp_cell cA x).slots.size = x.1 := by
  obtain ⟨n, f | f | f | f | f⟩ := x
  · rw [vp_cell_i, arrV_size]
  · rw [vp_cell_l, arrV_size]
  · rw [vp_cell_f, arrV_size]
  · rw [vp_cell_d, arrV_size]
  · rw [vp_cell_q, arrV_size]
theorem vp_cell_cls (cA : ClassId) (x : vp_A) : (vp_cell cA x).cls = cA ∧ (vp_cell cA x).vm = .none := by
  obtain ⟨n, f | f | f | f | f⟩ := x <;> exact ⟨rfl, rfl⟩
theorem g_rd.cell {E : g_E} {G : g_G} {H : Heap} (hR : g_Rep E G H) {a : Nat} {x : va_E} (h : g_rd E G a x) : ∃ cell : Cell, H[a]? = some cell ∧ cell.vm ≠ .unknown ∧ cell.vm.isStatics = false ∧ g_is E x cell := by
  rcases h with h | ⟨cell, e1, e2, e3, e4⟩
  · have h9 := hR.va h
    cases x with
    | inr q =>
      obtain ⟨r, e1, cell, q1, q2, q3, q4⟩ := h9
      exact ⟨cell, q1, (by rw [q3]; exact fun h => (by cases h)), (by rw [q3]; rfl), r, e1, q2, q4⟩
    | inl q =>
      refine ⟨_, h9, (by rw [(vp_cell_cls _ _).2]; exact fun h => (by cases h)), (by rw [(vp_cell_cls _ _).2]; rfl), (vp_cell_cls _ _).1, ⟨Nat.le_of_eq (vp_cell_size _ _).symm, (by rw [vp_cell_size]; rfl)⟩, fun j _ => rfl⟩
  · exact ⟨cell, by rw [hR.2.2.2.2.2.1 a (Array.getElem?_eq_some_iff.mp e1).1]; exact e1, e2, e3, e4⟩
theorem g_rd.keep {E : g_E} {A : Nat → Prop} {G G' : g_G} {a : Nat} {x : va_E} (h : g_rd E G a x) (ha : A a) (hk : g_ke0 A G G') : g_rd E G' a x := h.imp (fun h => hk a x ha h) id
/-- an array that lay there when the law was called -/
def g_cstA (E : g_E) (a : Nat) (ty : FieldType) (x : vp_A) : Prop := ∃ cell : Cell, E.1.heap[a]? = some cell ∧ cell.vm ≠ .unknown ∧ cell.vm.isStatics = false ∧ E.1.isArrayOf cell ty ∧ (x.1 ≤ cell.slots.size ∧ cell.slots.size.toInt32 = nI x.1) ∧ ∀ j, j < x.1 → cell.slots[j]? = (vp_cell 0 x).slots[j]?
abbrev g_rdA (E : g_E) (G : g_G) (a : Nat) (ty : FieldType) (x : vp_A) : Prop := G.1 a = some (.inl (g_A E ty, x)) ∨ g_cstA E a ty x
theorem vp_cell_sl (c c' : ClassId) (x : vp_A) : (vp_cell c x).slots = (vp_cell c' x).slots := by
  obtain ⟨n, f | f | f | f | f⟩ := x <;> rfl
section VRD
variable {l : Launch} {E : g_E} {M M' : g_M} {d d' n : Nat} {P : Outcome → g_G → Prop} {pc : Nat} {L : List (Nat × Value)} {st stk as : List Value} {G : g_G}
theorem g_rcv {l : Launch} {E : g_E} (ok : g_ok l E) {s : State} (hW : E.1.WarmedH s.vm) {G : g_G} {H : Heap} (hR : g_Rep E G H) {a ci : Nat} {fs : List Value} (hG : g_rd E G a (g_ob ci fs)) {q : vw_C} (hc : g_cl[ci]? = some q) : ∃ cell : Cell, H[a]? = some cell ∧ cell.vm.isStatics = false ∧ s.vm.findClass q.1 = some cell.cls := by
  obtain ⟨cell, e1, e2, e3, r, e4, e5, -⟩ := g_rd.cell hR hG
  exact ⟨cell, e1, e3, by rw [e5]; exact (g_K ok hW hc).2.1⟩
theorem g_iarr {l : Launch} {E : g_E} {s : State} {cA : ClassId} {ty : FieldType} {cell : Cell} (w1 : ArrOfT s cA ty) (hc : cell.cls = cA) (hs : cell.vm.isStatics = false) : s.isArrayOf cell ty := by
  obtain ⟨-, k, hk, comp, hkd⟩ := w1 0 (fun _ => .null)
  exact ⟨fun k h => (by rw [h] at hs; cases hs), k, by rw [hc]; exact hk, comp, hkd⟩
theorem g_rdA.cell {l : Launch} {E : g_E} {s : State} {G : g_G} {H : Heap} {ty : FieldType} (hR : g_Rep E G H) (hW : E.1.WarmedH s.vm) (w1 : ArrOfT s (g_A E ty) ty) {a : Nat} {x : vp_A} (h : g_rdA E G a ty x) : ∃ cell : Cell, H[a]? = some cell ∧ cell.vm ≠ .unknown ∧ cell.vm.isStatics = false ∧ s.isArrayOf cell ty ∧ (x.1 ≤ cell.slots.size ∧ cell.slots.size.toInt32 = nI x.1) ∧ ∀ j, j < x.1 → cell.slots[j]? = (vp_cell 0 x).slots[j]? := by
  rcases h with h | ⟨cell, e1, e2, e3, e4, e5, e6⟩
  · have h9 : H[a]? = some (vp_cell (g_A E ty) x) := hR.va h
    have e9 : (vp_cell (g_A E ty) x).vm.isStatics = false := by rw [(vp_cell_cls _ _).2]; rfl
    exact ⟨_, h9, (by rw [(vp_cell_cls _ _).2]; exact fun h => (by cases h)), e9, g_iarr (l := l) (E := E) w1 (vp_cell_cls _ _).1 e9, ⟨Nat.le_of_eq (vp_cell_size _ _).symm, (by rw [vp_cell_size]; rfl)⟩, fun j _ => by rw [vp_cell_sl _ 0]⟩
  · exact ⟨cell, by rw [hR.2.2.2.2.2.1 a (Array.getElem?_eq_some_iff.mp e1).1]; exact e1, e2, e3, State.isArrayOf_alike hW.alike e4, e5, e6⟩
theorem V_getR {ci N : Nat} {C0 : String} {T : u_T} {ty : Nat → FieldType} {fs0 : List Value} (ck : g_ck ci C0 T N ty fs0) {a i : Nat} {fs : List Value} {v : Value} {ref : String} (hG : g_rd E G a (g_ob ci fs)) (j : Nat) (hj : j < N) (hlink : (Cond.fieldLink M.1.cls i ref (T j).2.1 (T j).2.2.1) ∈ lw_all) (href : ref = (T j).1) (hv : fs[j]? = some v) (hd : decode M.2.1 pc = .ok (.getfield i, 3)) (k : V l E M d P (pc + 3) L (v :: st) G) : V l E M d P pc L (.ref a :: st) G := by
  intro p e R s m args below meth c locs ls H C hR h1 h2 h3 hl
  obtain ⟨cell, q1, q2, q3, r, e1, q4, q5⟩ := g_rd.cell hR hG
  have hr : r = (C0, T, N) := Option.some.inj (e1.symm.trans ck.1)
  subst hr
  have hts : ∀ w ∈ lw_all, w.before args s = true := fun w hw => C.w hw args
  obtain ⟨hS, hfc, kC, hkC, hkind⟩ := g_K C.ok C.W ck.1
  obtain ⟨cf, kf, fi, f, hi, hsl⟩ := hS j hj
  have hi2 : s.fieldFound? ref (T j).2.1 (T j).2.2.1 = some (cf, kf, fi, f) := by rw [href]; exact hi
  refine W.getf C.x C.b C.own (C.w hlink args) hi2 (u_facts hfc hkC (u_lays hts ck.2.1 hj) hi).1 q1 q2 (v := v) ?_ rfl rfl hd (k p e R s m args below meth c locs ls H C hR h1 h2 h3 hl)
  rw [hsl, q5 j hj]
  simp [vp_V, hv]
theorem V_baloadR {a n : Nat} {f : Nat → Int32} {i : Int32} (hG : g_rdA E G a .byte (n, .inl f)) (hin : vp_in i n) (hw : Cond.arrayClass .byte ∈ lw_all) (hd : decode M.2.1 pc = .ok (.baload, 1)) (k : V l E M d P (pc + 1) L (.int (f i.toNatClampNeg) :: st) G) : V l E M d P pc L (.int i :: .ref a :: st) G := by
  intro p e R s m args below meth c locs ls H C hR h1 h2 h3 hl
  obtain ⟨w1, w2⟩ := g_arrA C.ok C.W hw
  obtain ⟨cell, q1, q2, q3, q4, q5, q6⟩ := g_rdA.cell (l := l) hR C.W w1 hG
  have hlt : i.toNatClampNeg < n := Nat.not_le.mp fun q => hin (Or.inr q)
  have q5' : n ≤ cell.slots.size ∧ cell.slots.size.toInt32 = nI n := q5
  exact W.bald (v := .int (f i.toNatClampNeg)) C.x C.b q1 q4 q2 (fun h => hin (h.imp id fun h => Nat.le_trans q5'.1 h)) (by rw [q6 _ hlt, vp_cell_i, arrV_read _ _ hlt]) rfl rfl hd (k p e R s m args below meth c locs ls H C hR h1 h2 h3 hl)
theorem V_ialoadR {a n : Nat} {f : Nat → Int32} {i : Int32} (hG : g_rdA E G a .int (n, .inl f)) (hin : vp_in i n) (hw : Cond.arrayClass .int ∈ lw_all) (hd : decode M.2.1 pc = .ok (.iaload, 1)) (k : V l E M d P (pc + 1) L (.int (f i.toNatClampNeg) :: st) G) : V l E M d P pc L (.int i :: .ref a :: st) G := by
  intro p e R s m args below meth c locs ls H C hR h1 h2 h3 hl
  obtain ⟨w1, w2⟩ := g_arrA C.ok C.W hw
  obtain ⟨cell, q1, q2, q3, q4, q5, q6⟩ := g_rdA.cell (l := l) hR C.W w1 hG
  have hlt : i.toNatClampNeg < n := Nat.not_le.mp fun q => hin (Or.inr q)
  have q5' : n ≤ cell.slots.size ∧ cell.slots.size.toInt32 = nI n := q5
  exact W.iald (v := .int (f i.toNatClampNeg)) C.x C.b q1 q4 q2 (fun h => hin (h.imp id fun h => Nat.le_trans q5'.1 h)) (by rw [q6 _ hlt, vp_cell_i, arrV_read _ _ hlt]) rfl rfl hd (k p e R s m args below meth c locs ls H C hR h1 h2 h3 hl)
theorem V_alenR_b {a n : Nat} {f : Nat → Int32} (hG : g_rdA E G a .byte (n, .inl f)) (hw : Cond.arrayClass .byte ∈ lw_all) (hd : decode M.2.1 pc = .ok (.arraylength, 1)) (k : V l E M d P (pc + 1) L (.int (nI n) :: st) G) : V l E M d P pc L (.ref a :: st) G := by
  intro p e R s m args below meth c locs ls H C hR h1 h2 h3 hl
  obtain ⟨w1, w2⟩ := g_arrA C.ok C.W hw
  obtain ⟨cell, q1, q2, q3, q4, q5, q6⟩ := g_rdA.cell (l := l) hR C.W w1 hG
  have q5' : n ≤ cell.slots.size ∧ cell.slots.size.toInt32 = nI n := q5
  exact W.alen (n := nI n) C.x C.b q1 q4 q5'.2 rfl rfl hd (k p e R s m args below meth c locs ls H C hR h1 h2 h3 hl)
theorem V_alenR_q {a n : Nat} {f : Nat → Option Nat} {C0 : String} (hG : g_rdA E G a (.object C0) (n, .inr (.inr (.inr (.inr f))))) (hw : Cond.arrayOver (.object C0) ∈ lw_tbl) (hd : decode M.2.1 pc = .ok (.arraylength, 1)) (k : V l E M d P (pc + 1) L (.int (nI n) :: st) G) : V l E M d P pc L (.ref a :: st) G := by
  intro p e R s m args below meth c locs ls H C hR h1 h2 h3 hl
  obtain ⟨w1, w2, w3⟩ := g_arrO C.ok C.W hw
  obtain ⟨cell, q1, q2, q3, q4, q5, q6⟩ := g_rdA.cell (l := l) hR C.W w1 hG
  have q5' : n ≤ cell.slots.size ∧ cell.slots.size.toInt32 = nI n := q5
  exact W.alen (n := nI n) C.x C.b q1 q4 q5'.2 rfl rfl hd (k p e R s m args below meth c locs ls H C hR h1 h2 h3 hl)
theorem V_castSR {a i ci : Nat} {fs : List Value} {q : vw_C} (hG : g_rd E G a (g_ob ci fs)) (hc : g_cl[ci]? = some q) (hlink : Cond.classLink M.1.cls i q.1 ∈ lw_all) (hd : decode M.2.1 pc = .ok (.checkcast i, 3)) (k : V l E M d P (pc + 3) L (.ref a :: st) G) : V l E M d P pc L (.ref a :: st) G := by
  intro p e R s m args below meth c locs ls H C hR h1 h2 h3 hl
  exact va_castS C.x C.b C.own (C.w hlink args) (g_K C.ok C.W hc).2 (g_rcv C.ok C.W hR hG hc) hd (k p e R s m args below meth c locs ls H C hR h1 h2 h3 hl)
theorem V_instSR {a i ci : Nat} {fs : List Value} {q : vw_C} (hG : g_rd E G a (g_ob ci fs)) (hc : g_cl[ci]? = some q) (hlink : Cond.classLink M.1.cls i q.1 ∈ lw_all) (hd : decode M.2.1 pc = .ok (.instanceof i, 3)) (k : V l E M d P (pc + 3) L (.int 1 :: st) G) : V l E M d P pc L (.ref a :: st) G := by
  intro p e R s m args below meth c locs ls H C hR h1 h2 h3 hl
  exact va_instS C.x C.b C.own (C.w hlink args) (g_K C.ok C.W hc).2 (g_rcv C.ok C.W hR hG hc) hd (k p e R s m args below meth c locs ls H C hR h1 h2 h3 hl)
theorem V_ldcS {q i : Nat} {tx : String} (hw : Cond.stringRef M.1.cls i tx ∈ lw_tbl) (hev : (Term.string M.1.cls i).eval #[Value.ref E.2.1] E.1 none [] E.1 = some (.ref q)) (hd : decode M.2.1 pc = .ok (.ldc i, 2)) (k : V l E M d P (pc + 2) L (.ref q :: st) G) : V l E M d P pc L st G := by
  intro p e R s m args below meth c locs ls H C hR h1 h2 h3 hl
  have h0 : vk_R M.1.cls i tx q E.1 := vk_R.of (C.ok.2.1 _ hw) hev
  exact va_ldcS C.x C.b C.own (h0.warm C.W) hd (k p e R s m args below meth c locs ls H C hR h1 h2 h3 hl)
theorem V_gets {i : Nat} {C0 f0 d0 ref : String} {v : Value} (hZ : va_Z C0 f0 d0 v (fun _ => False) E.1 E.1.heap) (hlink : Cond.fieldLink M.1.cls i ref f0 d0 ∈ lw_all) (href : ref = C0) (hd : decode M.2.1 pc = .ok (.getstatic i, 3)) (k : V l E M d P (pc + 3) L (v :: st) G) : V l E M d P pc L st G := by
  intro p e R s m args below meth c locs ls H C hR h1 h2 h3 hl
  obtain ⟨cf, kf, fi, f, a, cell, w1, w2, w3, w4, w5, w6, w7, -⟩ := va_Z.moved C.W.alike hZ
  exact W.gets C.x C.b C.own (C.w hlink args) (by rw [href]; exact w1) w2 w3 w4 (by rw [hR.2.2.2.2.2.1 a (Array.getElem?_eq_some_iff.mp w5).1]; exact w5) (fun e => by rw [e] at w6; cases w6) w7 rfl hd (k p e R s m args below meth c locs ls H C hR h1 h2 h3 hl)
theorem V_callVR {i b ci : Nat} {fs : List Value} {q : vw_C} (mk : g_mk M' n) (hlink : Cond.methodLink M.1.cls i M'.1 ∈ lw_all) (hinst : Cond.instanceMethod M'.1 ∈ lw_all) (hsel : Cond.selects q.1 M'.1 M'.1 ∈ lw_all) (hG : g_rd E G b (g_ob ci fs)) (hc : g_cl[ci]? = some q) (hd : decode M.2.1 pc = .ok (.invokevirtual i, 3)) (S : g_Spc l E M' d' (.ref b :: as) G (g_Kt l E M d P pc 3 L st)) (hn : as.length = n := by rfl) (hst : stk = as.reverse ++ .ref b :: st := by rfl) (hdd : d' + 1 ≤ d := by decide) (hlen : st.length ≤ 14 := by exact Nat.le_of_ble_eq_true rfl) : V l E M d P pc L stk G := by
  subst hst
  intro p e R s m args below meth c locs ls H C hR h1 h2 h3 hl T hT X
  subst hT
  obtain ⟨mm, methM, hnamed, hmethM, hstM, habM⟩ := Cond.instanceMethod_spec (C.w hinst args)
  have hsigM := g_cw_sig (C.w mk.1 args) hnamed hmethM
  obtain ⟨cellB, hcell, hobj, hcls⟩ := g_rcv C.ok C.W hR hG hc
  obtain ⟨c2, r2, m2, q1, q2, q3, q4, kP, hkP, hkPi⟩ := Cond.selects_spec (C.w hsel args)
  cases hcls.symm.trans q1
  cases (State.methodFound?_of_named hnamed mk.2.2.1).symm.trans q2
  cases hnamed.symm.trans q3
  have hselP : selectMethod e.platform s.vm cellB.cls mm = .method mm := by rw [Launch.admits_selectMethod X.admits]; exact q4
  obtain ⟨vm₁, X₁, hstep₁⟩ := X.invokevirtual C.x C.own (C.w hlink args) hnamed hmethM hstM hkP hkPi mk.2.2.1 (a := b) (cell := cellB) hcell
    (fun z h => by rw [h] at hobj; cases hobj) hselP hmethM habM hkP hkPi (g := F0 m pc ls (as.reverse ++ .ref b :: st)) rfl (argsL := as) (rest := st) (hn.trans (mk.len _ hsigM)) rfl (by rw [C.b]; exact hd)
  exact g_fin C mk S hdd hlen hR h3 hl X₁ (by rw [C.b]; exact hd) (X₁.named hnamed) hstep₁
theorem g_nn {z : Int32} (hz : ¬ z < 0) : z.toInt = (z.toNatClampNeg : Int) := by
  have hz0 : (0 : Int) ≤ z.toInt := by
    have := Int32.not_lt.mp hz
    simpa using Int32.le_iff_toInt_le.mp this
  show z.toInt = ((z.toInt.toNat : Nat) : Int)
  omega
/-- System.arraycopy of bytes -/
theorem V_copyB {a0 a n0 n1 i : Nat} {f g : Nat → Int32} {sp dp n : Int32} (hlink : (Cond.methodLink M.1.cls i arraycopyName) ∈ lw_all) (hnat : (Cond.native arraycopyName) ∈ lw_all) (hstat : (Cond.static arraycopyName) ∈ lw_all) (hini : (Cond.initialized "java/lang/System") ∈ lw_all) (hw : Cond.arrayClass .byte ∈ lw_all)
    (hS : g_rdA E G a0 .byte (n0, .inl f)) (hG : G.1 a = some (g_ab E n1 g)) (hB : g_B E ≤ a) (u1 : ¬ sp < 0) (u2 : ¬ dp < 0) (u3 : ¬ n < 0) (u4 : sp.toNatClampNeg + n.toNatClampNeg ≤ n0) (u5 : dp.toNatClampNeg + n.toNatClampNeg ≤ n1) (hfit : ∀ i, i < n.toNatClampNeg → fits .byte (.int (f (sp.toNatClampNeg + i))) = true)
    (hlen : st.length ≤ 14) (hdd : 1 ≤ d) (hd : decode M.2.1 pc = .ok (.invokestatic i, 3)) (k : V l E M d P (pc + 3) L st (g_up G a (g_ab E n1 (va_cpy f g sp.toNatClampNeg dp.toNatClampNeg n.toNatClampNeg)))) : V l E M d P pc L (.int n :: .int dp :: .ref a :: .int sp :: .ref a0 :: st) G := by
  intro p e R s m args below meth c locs ls H C hR h1 h2 h3 hl T hT X
  obtain ⟨w1, w2⟩ := g_arrA C.ok C.W hw
  obtain ⟨r1, r2, r3, r4⟩ := C.room
  obtain ⟨cs, q1, q2, q3, q4, q5, q6⟩ := g_rdA.cell (l := l) hR C.W w1 hS
  have q5' : n0 ≤ cs.slots.size ∧ cs.slots.size.toInt32 = nI n0 := q5
  have hc1 : H[a]? = some (vp_cell (g_A E .byte) (n1, .inl g)) := hR.va hG
  obtain ⟨w3, k0, hk0, cm0, hkk0⟩ := q4
  obtain ⟨-, k1, hk1, cm1, hkk1⟩ := w1 n1 (fun j => .int (g j))
  have hread : ∀ j, j < n0 → cs.slots[j]? = some (.int (f j)) := fun j hj => by rw [q6 j hj, vp_cell_i, arrV_read _ _ hj]
  have hsum := g_sum st
  obtain ⟨vm', X', step⟩ := X.arraycopy C.x C.own (C.w hlink args) (C.w hnat args) (C.w hstat args) (C.w hini args) (src := a0) (dst := a) (cs := cs) (cd := vp_cell (g_A E .byte) (n1, .inl g)) (srcPos := sp) (destPos := dp) (n := n) (by rw [hT]; exact q1) (by rw [hT]; exact hc1)
    (fun k h => by rw [h] at q3; cases q3) (fun _ h => by cases h) q2 (fun h => by cases h) hk0 hk1 hkk0 hkk1 (by simp [refKind]) u1 u2 u3
    (by rw [g_nn u1, g_nn u3]; have := q5'.1; omega)
    (by rw [g_nn u2, g_nn u3]; show ¬ _ > ((arrV (g_A E .byte) n1 (fun j => .int (g j))).slots.size : Int); rw [arrV_size]; omega)
    (fun vm₁ _ i hi => by
      have e : cs.slots.getD (sp.toNatClampNeg + i) .null = .int (f (sp.toNatClampNeg + i)) := by
        rw [Array.getD_eq_getD_getElem?, hread _ (by omega)]
        rfl
      refine ⟨?_, ?_⟩
      · rw [e]
        exact hfit i hi
      · rw [e]
        exact trivial)
    (g := F0 m pc ls (.int n :: .int dp :: .ref a :: .int sp :: .ref a0 :: st)) rfl (by rw [C.ml]; exact hl.1) (rest := st) rfl (by rw [C.b]; exact hd) (by omega) (by
      have e9 : nativeFrameWords "java/lang/System" "arraycopy" 5 ≤ 1000 := by decide +kernel
      show 2 * 0 + _ + _ ≤ _; omega)
  have e1 : copied cs (vp_cell (g_A E .byte) (n1, .inl g)) sp dp n = vp_cell (g_A E .byte) (n1, .inl (va_cpy f g sp.toNatClampNeg dp.toNatClampNeg n.toNatClampNeg)) := va_copiedX (fun z => .int z) cs (g_A E .byte) f g hread u4
  rw [e1] at X' step
  have hlt : a < H.size := (Array.getElem?_eq_some_iff.mp hc1).1
  generalize hnew : vp_cell (g_A E .byte) (n1, .inl (va_cpy f g sp.toNatClampNeg dp.toNatClampNeg n.toNatClampNeg)) = cn at X' step
  have hheap : ((T.setVm vm').setCell a cn).heap = H.setIfInBounds a cn := by rw [← hT]; rfl
  have oq : ∀ q : Nat, q ≠ a → (H.setIfInBounds a cn)[q]? = H[q]? := fun q hq => by simp [Array.getElem?_setIfInBounds, Ne.symm hq]
  have oa : (H.setIfInBounds a cn)[a]? = some cn := by simp [Array.getElem?_setIfInBounds, hlt]
  have oz : (H.setIfInBounds a cn).size = H.size := by simp
  have hR1 : g_Rep E (g_up G a (g_ab E n1 (va_cpy f g sp.toNatClampNeg dp.toNatClampNeg n.toNatClampNeg))) (H.setIfInBounds a cn) := by
    refine hR.set hB (g_vaA (show (H.setIfInBounds a cn)[a]? = some (vp_cell _ _) by rw [hnew]; exact oa)) oz oq (g_hs_cell hc1 oa oz oq ?_)
    rw [← hnew, vp_cell_size, vp_cell_size]
  have KK := fun hz => k p e R s m args below meth c _ ls _ C hR1 (by rw [oz]; exact h1) h2 hz hl _ hheap (by rw [oz]; exact X')
  obtain ⟨t, a1, b1⟩ := KK (fun z hz => by
      rcases List.mem_append.mp hz with h | h
      · exact h3 z h
      · obtain ⟨y, -, hy⟩ := List.mem_map.mp h
        rw [← hy]
        exact hB)
  exact ⟨t, step t a1, b1⟩
/-- System.arraycopy of references to objects, an array of type C0 to one of its own type -/
theorem V_copyQ {a0 a n0 n1 i : Nat} {C0 : String} {f g : Nat → Option Nat} {sp dp n : Int32} (hlink : (Cond.methodLink M.1.cls i arraycopyName) ∈ lw_all) (hnat : (Cond.native arraycopyName) ∈ lw_all) (hstat : (Cond.static arraycopyName) ∈ lw_all) (hini : (Cond.initialized "java/lang/System") ∈ lw_all) (hw : Cond.arrayOver (.object C0) ∈ lw_tbl)
    (hS : G.1 a0 = some (g_aq E C0 n0 f)) (hG : G.1 a = some (g_aq E C0 n1 g)) (hB : g_B E ≤ a) (u1 : ¬ sp < 0) (u2 : ¬ dp < 0) (u3 : ¬ n < 0) (u4 : sp.toNatClampNeg + n.toNatClampNeg ≤ n0) (u5 : dp.toNatClampNeg + n.toNatClampNeg ≤ n1) (hel : ∀ i, i < n.toNatClampNeg → ∀ y, f (sp.toNatClampNeg + i) = some y → ∃ x, G.1 y = some x ∧ g_cast E x C0)
    (hlen : st.length ≤ 14) (hdd : 1 ≤ d) (hd : decode M.2.1 pc = .ok (.invokestatic i, 3)) (k : V l E M d P (pc + 3) L st (g_up G a (g_aq E C0 n1 (va_cpy f g sp.toNatClampNeg dp.toNatClampNeg n.toNatClampNeg)))) : V l E M d P pc L (.int n :: .int dp :: .ref a :: .int sp :: .ref a0 :: st) G := by
  intro p e R s m args below meth c locs ls H C hR h1 h2 h3 hl T hT X
  obtain ⟨w1, ⟨kA, comp, z1, z2, z3, z4⟩, w3⟩ := g_arrO C.ok C.W hw
  obtain ⟨r1, r2, r3, r4⟩ := C.room
  have hc0 : H[a0]? = some (vp_cell (g_A E (.object C0)) (n0, .inr (.inr (.inr (.inr f))))) := hR.va hS
  have hc1 : H[a]? = some (vp_cell (g_A E (.object C0)) (n1, .inr (.inr (.inr (.inr g))))) := hR.va hG
  have hsum := g_sum st
  obtain ⟨vm', X', step⟩ := X.arraycopy C.x C.own (C.w hlink args) (C.w hnat args) (C.w hstat args) (C.w hini args) (src := a0) (dst := a) (cs := vp_cell (g_A E (.object C0)) (n0, .inr (.inr (.inr (.inr f))))) (cd := vp_cell (g_A E (.object C0)) (n1, .inr (.inr (.inr (.inr g))))) (srcPos := sp) (destPos := dp) (n := n) (by rw [hT]; exact hc0) (by rw [hT]; exact hc1)
    (fun _ h => by cases h) (fun _ h => by cases h) (fun h => by cases h) (fun h => by cases h) z1 z1 z2 z2 rfl u1 u2 u3
    (by rw [g_nn u1, g_nn u3]; show ¬ _ > ((arrV (g_A E (.object C0)) n0 (fun j => va_rf (f j))).slots.size : Int); rw [arrV_size]; omega)
    (by rw [g_nn u2, g_nn u3]; show ¬ _ > ((arrV (g_A E (.object C0)) n1 (fun j => va_rf (g j))).slots.size : Int); rw [arrV_size]; omega)
    (fun vm₁ hal i hi => by
      have e : (vp_cell (g_A E (.object C0)) (n0, .inr (.inr (.inr (.inr f))))).slots.getD (sp.toNatClampNeg + i) .null = va_rf (f (sp.toNatClampNeg + i)) := by
        show (arrV (g_A E (.object C0)) n0 (fun j => va_rf (f j))).slots.getD _ _ = _
        rw [Array.getD_eq_getD_getElem?, arrV_read _ _ (by omega)]
        rfl
      rw [e]
      cases hy : f (sp.toNatClampNeg + i) with
      | none => exact ⟨rfl, trivial⟩
      | some y =>
        obtain ⟨x, hx, hcs⟩ := hel i hi y hy
        obtain ⟨cv, kv, y1, y2, y3, y4⟩ : ∃ (cv : Cell) (kv : Class), H[y]? = some cv ∧ cv.vm = .none ∧ s.vm.classes[cv.cls]? = some kv ∧ s.vm.assignable cv.cls comp = true := by
          cases x with
          | inl _ => exact hcs.elim
          | inr q =>
            obtain ⟨r, hr, hcc⟩ := hcs
            obtain ⟨r', e1, cell, v1, v2, v3, v4⟩ := hR.va hx
            cases Option.some.inj (hr.symm.trans e1)
            obtain ⟨hSS, hfc, kC, hkC, hkind⟩ := g_K C.ok C.W hr
            refine ⟨cell, kC, v1, v3, by rw [v2]; exact hkC, ?_⟩
            rcases hcc with e | e
            · have e9 : comp = E.2.2.1 q.1 := Option.some.inj (z3.symm.trans (by rw [← e]; exact hfc))
              rw [v2, e9]
              exact va_assign (C := r.1) ⟨hfc, kC, hkC, hkind⟩
            · obtain ⟨c0, t0, f1, f2, f3⟩ := Cond.castable_spec (va_Nw.use (A := args) rfl (g_castW C.ok C.W e))
              have e8 : c0 = E.2.2.1 q.1 := Option.some.inj (f1.symm.trans hfc)
              have e9 : t0 = comp := Option.some.inj (f2.symm.trans z3)
              rw [v2, ← e8, ← e9]
              exact f3
        obtain ⟨kE, hkE, -⟩ := Vm.findClass_spec z3
        obtain ⟨kC', hkC', -⟩ := hal.2.2 _ _ y3
        obtain ⟨kE', hkE', -⟩ := hal.2.2 _ _ hkE
        refine ⟨rfl, cv, (show T.heap[y]? = some cv by rw [hT]; exact y1), (fun q h => by rw [y2] at h; cases h), ⟨kC', hkC'⟩, ?_, ?_⟩
        · exact ⟨kE', hkE'⟩
        · show vm₁.assignable _ _ = true
          rw [hal.assignable]
          exact y4)
    (g := F0 m pc ls (.int n :: .int dp :: .ref a :: .int sp :: .ref a0 :: st)) rfl (by rw [C.ml]; exact hl.1) (rest := st) rfl (by rw [C.b]; exact hd) (by omega) (by
      have e9 : nativeFrameWords "java/lang/System" "arraycopy" 5 ≤ 1000 := by decide +kernel
      show 2 * 0 + _ + _ ≤ _; omega)
  have e1 : copied (vp_cell (g_A E (.object C0)) (n0, .inr (.inr (.inr (.inr f))))) (vp_cell (g_A E (.object C0)) (n1, .inr (.inr (.inr (.inr g))))) sp dp n = vp_cell (g_A E (.object C0)) (n1, .inr (.inr (.inr (.inr (va_cpy f g sp.toNatClampNeg dp.toNatClampNeg n.toNatClampNeg))))) := va_copied va_rf (g_A E (.object C0)) (g_A E (.object C0)) f g u4
  rw [e1] at X' step
  have hlt : a < H.size := (Array.getElem?_eq_some_iff.mp hc1).1
  generalize hnew : vp_cell (g_A E (.object C0)) (n1, .inr (.inr (.inr (.inr (va_cpy f g sp.toNatClampNeg dp.toNatClampNeg n.toNatClampNeg))))) = cn at X' step
  have hheap : ((T.setVm vm').setCell a cn).heap = H.setIfInBounds a cn := by rw [← hT]; rfl
  have oq : ∀ q : Nat, q ≠ a → (H.setIfInBounds a cn)[q]? = H[q]? := fun q hq => by simp [Array.getElem?_setIfInBounds, Ne.symm hq]
  have oa : (H.setIfInBounds a cn)[a]? = some cn := by simp [Array.getElem?_setIfInBounds, hlt]
  have oz : (H.setIfInBounds a cn).size = H.size := by simp
  have hR1 : g_Rep E (g_up G a (g_aq E C0 n1 (va_cpy f g sp.toNatClampNeg dp.toNatClampNeg n.toNatClampNeg))) (H.setIfInBounds a cn) := by
    refine hR.set hB (g_vaA (show (H.setIfInBounds a cn)[a]? = some (vp_cell _ _) by rw [hnew]; exact oa)) oz oq (g_hs_cell hc1 oa oz oq ?_)
    rw [← hnew, vp_cell_size, vp_cell_size]
  have KK := fun hz => k p e R s m args below meth c _ ls _ C hR1 (by rw [oz]; exact h1) h2 hz hl _ hheap (by rw [oz]; exact X')
  obtain ⟨t, a1, b1⟩ := KK (fun z hz => by
      rcases List.mem_append.mp hz with h | h
      · exact h3 z h
      · obtain ⟨y, -, hy⟩ := List.mem_map.mp h
        rw [← hy]
        exact hB)
  exact ⟨t, step t a1, b1⟩
end VRD
