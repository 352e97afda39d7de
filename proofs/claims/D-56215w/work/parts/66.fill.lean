/-! Throwable: fillInStackTrace in a launch that keeps no traces (follows JvmDerived Shelf42/EX1), its constructors -/
set_option maxRecDepth 100000
/-- a static of the start that holds a reference or null -/
def st_o (E : g_E) (C n d : String) : Option Nat := match (Term.static C n d).eval #[Value.ref E.2.1] E.1 none [] E.1 with
  | some (.ref q) => some q
  | _ => none
theorem st_oev {l : Launch} {E : g_E} (ok : g_ok l E) {C n d : String} (hw : Cond.isRef (.static C n d) ∈ nrw) : (Term.static C n d).eval #[Value.ref E.2.1] E.1 none [] E.1 = some (va_rf (st_o E C n d)) := by
  obtain ⟨v, hv, h⟩ := Cond.isRef_spec (g_cond ok hw)
  unfold st_o
  rw [show (Term.static C n d).eval #[Value.ref E.2.1] E.1 none [] E.1 = some v from hv]
  cases v with
  | null => rfl
  | ref q => rfl
  | _ => cases (show false = true from h)
theorem st_oZ {l : Launch} {E : g_E} (ok : g_ok l E) {C n d : String} (hw : Cond.isRef (.static C n d) ∈ nrw) (hl : Cond.laysStatic C n d ∈ lw_tbl) (hi : Cond.initialized C ∈ lw_all) : va_Z C n d (va_rf (st_o E C n d)) (fun _ => False) E.1 E.1.heap :=
  va_Zof (ok.2.1 _ hl) (ok.2.1 _ (lw_all_tbl hi)) (st_oev ok hw) (fun _ _ h => h)
def un (E : g_E) : Option Nat := st_o E "java/lang/Throwable" "UNASSIGNED_STACK" "[Ljava/lang/StackTraceElement;"
def sn (E : g_E) : Option Nat := st_o E "java/lang/Throwable" "SUPPRESSED_SENTINEL" "Ljava/util/List;"
theorem un_w : Cond.isRef (.static "java/lang/Throwable" "UNASSIGNED_STACK" "[Ljava/lang/StackTraceElement;") ∈ nrw := by decide +kernel
theorem sn_w : Cond.isRef (.static "java/lang/Throwable" "SUPPRESSED_SENTINEL" "Ljava/util/List;") ∈ nrw := by decide +kernel
/-- a static's place, said of a state with the start's cells -/
theorem g_laysS {l : Launch} {E : g_E} (ok : g_ok l E) {s : State} (hW : E.1.WarmedH s.vm) (hh : ∀ q : Nat, q < g_B E → s.heap[q]? = E.1.heap[q]?) {C n d : String} (hl : Cond.laysStatic C n d ∈ lw_tbl) (args : Array Value) : (Cond.laysStatic C n d).before args s = true := by
  obtain ⟨c, k, i, f, a, cell, h1, h2, h3, h4, h5, h6, h7, h8, h9⟩ := Cond.laysStatic_spec (ok.2.1 _ hl)
  obtain ⟨k', hi', he⟩ := State.fieldFound?_setVm hW.alike h2
  show (Cond.laysStatic C n d).holds args s none s [] = true
  exact Cond.laysStatic_of (by rw [hW.alike.findClass]; exact h1) hi' h3 (by rw [he]; exact h4) (by rw [hh a (Array.getElem?_eq_some_iff.mp h5).1]; exact h5) h6 h7 h8 (by rw [he]; exact h9)
theorem g_thr {l : Launch} {E : g_E} (ok : g_ok l E) {s : State} (hW : E.1.WarmedH s.vm) (hh : ∀ q : Nat, q < g_B E → s.heap[q]? = E.1.heap[q]?) (args : Array Value) : ∀ x ∈ Bundle.throwableAtoms, x.before args s = true := by
  intro x hx
  simp only [Bundle.throwableAtoms, List.mem_cons, List.not_mem_nil, or_false] at hx
  rcases hx with rfl | rfl | rfl | rfl | rfl | rfl | rfl | rfl | rfl | rfl | rfl | rfl | rfl | rfl | rfl | rfl | rfl | rfl | rfl | rfl | rfl | rfl | rfl | rfl
  · exact g_wordAt ok hW q126 args
  · exact g_wordAt ok hW q435 args
  · exact g_wordAt ok hW q444 args
  · exact g_wordAt ok hW q456 args
  · exact g_wordAt ok hW q459 args
  · exact g_wordAt ok hW q461 args
  · exact g_wordAt ok hW q436 args
  · exact g_wordAt ok hW q437 args
  · exact g_wordAt ok hW q170 args
  · exact g_wordAt ok hW q171 args
  · exact g_wordAt ok hW q438 args
  · exact g_wordAt ok hW q443 args
  · exact g_wordAt ok hW q457 args
  · exact g_wordAt ok hW q474 args
  · exact g_wordAt ok hW q425 args
  · exact g_wordAt ok hW q475 args
  · exact g_wordAt ok hW q427 args
  · exact g_wordAt ok hW q476 args
  · exact g_wordAt ok hW q429 args
  · exact g_wordAt ok hW q439 args
  · exact g_laysS ok hW hh q440 args
  · exact g_wordAt ok hW q441 args
  · exact g_laysS ok hW hh q442 args
  · exact g_wordAt ok hW q431 args
theorem g_traces {l : Launch} {E : g_E} (ok : g_ok l E) {e : Env} (h : l.admits e) : e.platform.stackTraces = false := Launch.traces_off (l := l) (by rw [ok.1]; rfl) h
section VFILL
variable {l : Launch} {E : g_E} {M : g_M} {d : Nat} {P : Outcome → g_G → Prop} {pc : Nat} {L : List (Nat × Value)} {st : List Value} {G : g_G}
set_option maxHeartbeats 4000000 in
theorem V_fill {ci N : Nat} {C0 : String} {T : u_T} {ty : Nat → FieldType} {fs0 : List Value} (ck : g_ck ci C0 T N ty fs0) (hci : ci < 31) {a jS jB : Nat} {fs : List Value} (hjS : jS < N) (hjB : jB < N) (hTS : T jS = ("java/lang/Throwable", "stackTrace", "[Ljava/lang/StackTraceElement;", false)) (hTB : T jB = ("java/lang/Throwable", "backtrace", "Ljava/lang/Object;", false))
    (hG : G.1 a = some (g_ob ci fs)) (hB : g_B E ≤ a) (hfS : fs[jS]? = some (va_rf (un E))) (hfB : fs[jB]? = some .null) (hsel : Cond.selects C0 Bundle.tFill Bundle.tFill ∈ lw_all) (hsel0 : Cond.selects C0 Bundle.tFill0 Bundle.tFill0 ∈ lw_all)
    (hM : M.1.cls = "java/lang/Throwable") (hlen : st.length ≤ 14) (hdd : 3 ≤ d) (hd : decode M.2.1 pc = .ok (.invokevirtual 27, 3)) (k : V l E M d P (pc + 3) L (.ref a :: st) G) : V l E M d P pc L (.ref a :: st) G := by
  intro p e R s m args below meth c locs ls H C hR h1 h2 h3 hl T' hT X
  subst hT
  have hsum := g_sum st
  obtain ⟨r1, r2, r3, r4⟩ := C.room
  have htr := g_traces C.ok X.admits
  have hpl : e.platform.magicAccessors = ({} : Platform).magicAccessors := by rw [X.admits.platform]
  obtain ⟨r, e1, cell, y1, y2, y3, y4⟩ := hR.va hG
  have hr : r = (C0, T, N) := Option.some.inj (e1.symm.trans ck.1)
  subst hr
  obtain ⟨hfree, hcount⟩ := hR.mon hG hci y1
  obtain ⟨hS, hfc, kC, hkC, hkind⟩ := g_K C.ok C.W ck.1
  have hts : ∀ w ∈ lw_all, w.before args s = true := fun w hw => C.w hw args
  -- the call
  obtain ⟨mm, methM, hnamed, hmethM, hstM, habM⟩ := Cond.instanceMethod_spec (C.w q444 args)
  obtain ⟨c2, r2', m2, z1, z2, z3, z4, kP, hkP, hkPi⟩ := Cond.selects_spec (C.w hsel args)
  cases hfc.symm.trans z1
  cases (State.methodFound?_of_named hnamed (by decide)).symm.trans z2
  cases hnamed.symm.trans z3
  have hselP : selectMethod e.platform s.vm cell.cls mm = .method mm := by rw [Launch.admits_selectMethod X.admits, y2]; exact z4
  have hparams : ([] : List Value).length = methM.sig.parameters.length := by
    obtain ⟨methF, cF, w1, -, -, -, -, -, -, wsig⟩ := Cond.codeSync_spec hnamed (C.w q456 args)
    cases w1.symm.trans hmethM
    have e9 : parseMethodDescriptor "()Ljava/lang/Throwable;" = some methM.sig := wsig
    have e8 : (parseMethodDescriptor "()Ljava/lang/Throwable;").map (fun q => q.parameters.length) = some 0 := by decide +kernel
    rw [e9] at e8
    injection e8 with e8
    exact e8.symm
  obtain ⟨vm₁, X₁, hstep₁⟩ := X.invokevirtual C.x C.own (C.w (show Cond.methodLink M.1.cls 27 Bundle.tFill ∈ lw_all by rw [hM]; exact q443) args) hnamed hmethM hstM hkP hkPi (by decide) (a := a) (cell := cell) y1
    (fun z h => by rw [h] at y3; cases y3) hselP hmethM habM hkP hkPi (g := F0 m pc ls (.ref a :: st)) rfl (argsL := []) (rest := st) hparams rfl (by rw [C.b]; exact hd)
  -- the law at the state with the entry's classes and the present heap
  have hh : ∀ q : Nat, q < g_B E → (T'.setVm s.vm).heap[q]? = E.1.heap[q]? := hR.2.2.2.2.2.1
  have hW0 : E.1.WarmedH (T'.setVm s.vm).vm := C.W
  obtain ⟨T0, Z, Lk, LZ, Y⟩ := ThrowableC.of_atoms (args := args) (s := T'.setVm s.vm) (pl := e.platform) (by rw [X.admits.platform]) (by rw [X.admits.platform]) hpl (g_thr C.ok hW0 hh args)
  obtain rfl : mm = T0.fill := by
    have e9 : (T'.setVm s.vm).methodNamed? Bundle.tFill = s.methodNamed? Bundle.tFill := rfl
    exact Option.some.inj ((hnamed.symm.trans e9.symm).trans Y.fill)
  have hsel9 : selectMethod e.platform s.vm cell.cls T0.fill0 = .method T0.fill0 := by
    obtain ⟨c3, r3', m3, x1, x2, x3, x4, -⟩ := Cond.selects_spec (C.w hsel0 args)
    have e9 : s.methodNamed? Bundle.tFill0 = some T0.fill0 := Y.fill0
    cases hfc.symm.trans x1
    cases (State.methodFound?_of_named e9 (by decide)).symm.trans x2
    cases e9.symm.trans x3
    rw [Launch.admits_selectMethod X.admits, y2]; exact x4
  -- where the fields lie
  obtain ⟨cf, kf, fi, f, hi, hsl⟩ := hS jS hjS
  have hi0 : s.fieldFound? (T jS).1 (T jS).2.1 (T jS).2.2.1 = some (cf, kf, fi, f) := hi
  rw [hTS] at hi0
  have eS : f = T0.fStack := by
    have e9 : s.fieldFound? Bundle.tN "stackTrace" Bundle.steD = some (T0.cT, T0.kT, T0.i17, T0.fStack) := Y.stack
    have e8 := Option.some.inj ((show s.fieldFound? Bundle.tN "stackTrace" Bundle.steD = _ from hi0).symm.trans e9)
    injection e8 with _ e8
    injection e8 with _ e8
    injection e8
  obtain ⟨u1, u2, u3⟩ := u_facts hfc hkC (u_lays hts ck.2.1 hjS) hi
  have vS : cell.slots[T0.fStack.slot]? = some (va_rf (un E)) := by
    rw [← eS, hsl, y4 jS hjS]
    simp [vp_V, hfS]
  obtain ⟨cg, kg, gi, gf, hgi, hgsl⟩ := hS jB hjB
  have vB : cell.slots[gf.slot]? = some .null := by
    rw [hgsl, y4 jB hjB]
    simp [vp_V, hfB]
  have hgi0 : s.fieldFound? (T jB).1 (T jB).2.1 (T jB).2.2.1 = some (cg, kg, gi, gf) := hgi
  rw [hTB] at hgi0
  have hurV : (va_rf (un E)).isRef = true := by cases un E <;> rfl
  -- the statics
  obtain ⟨cu, ku, iu, fu, au, cellS, w1, w2, w3, w4, w5, w6, w7, -⟩ := va_Z.moved C.W.alike (st_oZ C.ok un_w q440 q126)
  have e9 : s.fieldFound? Bundle.tN "UNASSIGNED_STACK" Bundle.steD = some (T0.cT, T0.kT, T0.i13, T0.fUnassigned) := Y.unassigned
  have e8 := Option.some.inj ((show s.fieldFound? Bundle.tN "UNASSIGNED_STACK" Bundle.steD = _ from w1).symm.trans e9)
  injection e8 with e7 e8
  injection e8 with e6 e8
  injection e8 with e5 e4
  subst e6
  subst e4
  have haS : au = T0.aS := Option.some.inj (w4.symm.trans Lk.statics)
  subst haS
  have hltS : T0.aS < g_B E := (Array.getElem?_eq_some_iff.mp w5).1
  have hcS : T'.heap[T0.aS]? = some cellS := by rw [hR.2.2.2.2.2.1 _ hltS]; exact w5
  have hneS : T0.aS ≠ a := Nat.ne_of_lt (Nat.lt_of_lt_of_le hltS hB)
  -- room
  have hTf : T'.setVm vm₁ = T'.setVm vm₁ := rfl
  have hAt : At (T'.setVm vm₁) (F0 m pc ls st).method c below := X₁.here
  have hfr' : (T'.setVm vm₁).frames.length + 2 < (e.platform.stackLimits (T'.setVm vm₁).me).1 := X₁.framesAbove (by omega)
  have hwd' : (stackUse (.java (F0 m pc ls st) :: (T'.setVm vm₁).frames.tail)).2 + 42 ≤ (e.platform.stackLimits (T'.setVm vm₁).me).2 := X₁.stackAbove (g := F0 m pc ls st) (hl.1.trans C.ml.symm) (K := 42) (by show 2 * 0 + (st.map fun v => v.category).sum + 42 ≤ R.locals; omega)
  obtain ⟨g₀, hg0⟩ := Option.isSome_iff_exists.mp hAt.top
  obtain ⟨tl0, htl0⟩ := State.topJava?_eq_some.mp hg0
  have hlen0 : (T'.setVm vm₁).frames.length = (Frame.java (F0 m pc ls st) :: (T'.setVm vm₁).frames.tail).length := by rw [htl0]; rfl
  have hfg : ((T'.setVm vm₁).setTop (F0 m pc ls st)).frames = [] ++ (Frame.java (F0 m pc ls st) :: (T'.setVm vm₁).frames.tail) := by rw [State.frames_setTop _ htl0, htl0]; rfl
  have hroom : e.platform.stackFull ((((T'.setVm vm₁).setTop (F0 m pc ls st)).threads[((T'.setVm vm₁).setTop (F0 m pc ls st)).cur]?).getD { frames := [] }) ((T'.setVm vm₁).setTop (F0 m pc ls st)).frames (1 + 2) = false :=
    roomAbove (pushed := []) (base := (Frame.java (F0 m pc ls st) :: (T'.setVm vm₁).frames.tail)) (free := 42) (lim := e.platform.stackLimits (T'.setVm vm₁).me) hfg (State.stackLimits_setTop _ hAt.top _) (by rw [← hlen0]; simp only [List.length_nil]; omega) hwd' (by simp only [stackUse_nil]; omega)
  -- the native, which keeps nothing
  have hnat : ∀ vm1, (T'.setVm s.vm).WarmedH vm1 → At (fillInside ((T'.setVm vm₁).setVm vm1) (F0 m pc ls st) T0.fill a cell) T0.fill T0.codeFill below → ∀ t' : State,
      Steps p.tables e below ((fillInside ((T'.setVm vm₁).setVm vm1) (F0 m pc ls st) T0.fill a cell).setTop (fillJ T0.fill a 19 [.ref a])) t' →
      Steps p.tables e below (doInvoke e ((fillInside ((T'.setVm vm₁).setVm vm1) (F0 m pc ls st) T0.fill a cell).setTop (fillJ T0.fill a 16 [])) [] T0.fill0 #[.ref a, .int 0]).1 t' := by
    intro vm1 hWv hA1 t' hrest
    have htopE : (((T'.setVm vm₁).setVm vm1).setCell a (cell.withEntry ((T'.setVm vm₁).setVm vm1).cur)).topJava?.isSome := hAt.top
    have hfF : (fillInside ((T'.setVm vm₁).setVm vm1) (F0 m pc ls st) T0.fill a cell).frames = .java (entryFrameSync T0.fill #[.ref a] 1 a) :: .java (F0 m pc ls st) :: (T'.setVm vm₁).frames.tail := frames_entered (g := F0 m pc ls st) htopE _
    have htopF : (fillInside ((T'.setVm vm₁).setVm vm1) (F0 m pc ls st) T0.fill a cell).topJava?.isSome := by rw [State.topJava?_of_frames hfF]; rfl
    have hlimF : e.platform.stackLimits (fillInside ((T'.setVm vm₁).setVm vm1) (F0 m pc ls st) T0.fill a cell).me = e.platform.stackLimits (T'.setVm vm₁).me := by
      rw [State.stackLimits_pushFrame, State.stackLimits_setTop _ htopE]; rfl
    have hw14 : (stackUse [Frame.java (fillJ T0.fill a 16 [])]).2 ≤ 20 := by
      rw [stackUse_java, stackUse_nil]
      simp [operandWords]
    have hwd9 : (stackUse (.java (F0 m pc ls st) :: (T'.setVm vm₁).frames.tail)).2 + 100 ≤ (e.platform.stackLimits (T'.setVm vm₁).me).2 := X₁.stackAbove (g := F0 m pc ls st) (hl.1.trans C.ml.symm) (K := 100) (by show 2 * 0 + (st.map fun v => v.category).sum + 100 ≤ R.locals; omega)
    refine Lk.nativeOff p htr hA1 hWv (roomAbove (pl := e.platform) (pushed := [.java (fillJ T0.fill a 16 [])]) (base := .java (F0 m pc ls st) :: (T'.setVm vm₁).frames.tail) (free := 100) (lim := e.platform.stackLimits (T'.setVm vm₁).me) (State.frames_setTop _ hfF) (by rw [State.stackLimits_setTop _ htopF]; exact hlimF) (by rw [← hlen0]; simp only [List.length_cons, List.length_nil]; omega) hwd9 (by
      have e9 : nativeFrameWords "java/lang/Throwable" "fillInStackTrace" 2 ≤ 40 := by decide +kernel
      omega)) hrest
  have a' : ∀ {w : Cond}, w ∈ lw_all → w.holds args (T'.setVm s.vm) none (T'.setVm s.vm) [] = true := fun hw => g_wordAt C.ok hW0 hw args
  obtain ⟨ci198, i198, fB, hk198, hg198, ha198, hsB, -, hnB, htB, hffB⟩ := Cond.ownField (t := .object "java/lang/Object") Y.found Lk.cls (by decide +kernel) (a' q472) (a' q433) e.platform hpl
  have eB : gf = fB := by
    have e8 := Option.some.inj ((show s.fieldFound? Bundle.tN "backtrace" "Ljava/lang/Object;" = _ from hgi0).symm.trans hffB)
    injection e8 with _ e8
    injection e8 with _ e8
    injection e8
  have htS : Takes (T'.setVm s.vm) cell T0.fStack (va_rf (un E)) := by
    refine ⟨(Array.getElem?_eq_some_iff.mp vS).1, ?_⟩
    have u3' : kC.instanceTypes[T0.fStack.slot]? = some T0.fStack.type := by rw [← eS]; exact u3
    have hkC' : s.vm.classes[cell.cls]? = some kC := by rw [y2]; exact hkC
    have hfit : fits T0.fStack.type (va_rf (un E)) = true := by rw [Y.stackType]; cases un E <;> rfl
    simp [State.fitsSlot, State.slotType?, hkC', hkind, u3', hfit, y3]
  obtain ⟨vm', hW', stp⟩ := Steps.fillColdAnyV p (V := T'.setVm vm₁) (g := F0 m pc ls st) (c := c) (self := a) (s₀ := T'.setVm s.vm) hAt C.x T0 Lk X₁.warmed (Nn := fun u => u) heapOnly_id (fun _ _ => rfl) (fun _ => rfl) (fun u x y => setCell_twice _ _ _ _)
    (cell := cell) (cellS := cellS) (cN := cell.withEntry (T'.setVm vm₁).cur) (u0 := ⟨va_rf (un E), hurV⟩) (ig := .invokevirtual 27) (len := 3) [] y1 (fun k h => by rw [h] at y3; cases y3) (by rw [y3]; exact fun h => nomatch h) (Or.inl hfree) vS hsel9 hcS hneS (fun h => by rw [h] at w6; cases w6) w7
    (fun u hu => hu) (fun u hu => hu) rfl rfl rfl rfl htS (by rw [C.b]; exact hd) (fun _ => hnat) hroom ⟨{ ci198 := ci198, i198 := i198, fBack := fB }, ⟨hk198, hg198, ha198, hsB⟩, by rw [← eB]; exact vB, fun _ _ => rfl⟩
  have hend : ((cell.withEntry (T'.setVm vm₁).cur).setSlot T0.fStack.slot (va_rf (un E))).left = cell := by
    simp only [Cell.left_setSlot, Cell.left_withEntry (T'.setVm vm₁).cur hfree hcount]
    exact Cell.setSlot_same vS
  rw [hend] at stp
  have hasit : ((T'.setVm vm₁).setVm vm').setCell a cell = (T'.setVm vm₁).setVm vm' := State.setCell_asItLies y1
  rw [hasit] at stp
  have X2 := X₁.noted (vm' := vm') hW'
  obtain ⟨t, a1, b1⟩ := k p e R s m args below meth c locs ls T'.heap C hR h1 h2 h3 hl ((T'.setVm vm₁).setVm vm') rfl X2
  exact ⟨t, hstep₁ _ fun acts => by rw [doInvoke_state]; exact stp _ a1, b1⟩
end VFILL
