/-! V ROWS of calls and throws (printed by wip gen/calls.py; the steps follow the kit's va_call.., kit/laws EXCEPTIONS vx_call.., vx_catch, vx_out) -/
set_option maxRecDepth 100000
def g_psh (v : Option Value) (st : List Value) : List Value := match v with
  | some x => x :: st
  | none => st
/-- what a callee owes its caller, whose row is at pc, the call 'len' bytes long -/
abbrev g_Kt (l : Launch) (E : g_E) (M : g_M) (d : Nat) (P : Outcome → g_G → Prop) (pc len : Nat) (L : List (Nat × Value)) (st : List Value) : Outcome → g_G → Prop := fun o G' => match o with
  | .returned v => V l E M d P (pc + len) L (g_psh v st) G'
  | .threw q => VX l E M d P pc L q G'
/-- what the tables say of a method of n parameters -/
def g_mk (M : g_M) (n : Nat) : Prop :=
  g_cw M ∈ lw_all ∧ (Cond.initialized M.1.cls) ∈ lw_all ∧ (M.1.cls ≠ "java/lang/invoke/MethodHandle" ∧ M.1.cls ≠ "java/lang/invoke/VarHandle") ∧ (parseMethodDescriptor M.1.desc).map (fun d => d.parameters.length) = some n ∧ M.2.2.1 ≤ 24
theorem g_mk.len {M : g_M} {n : Nat} (h : g_mk M n) : ∀ sig, parseMethodDescriptor M.1.desc = some sig → n = sig.parameters.length := fun sig hs => by
  have h2 := h.2.2.2.1
  rw [hs] at h2
  exact (Option.some.inj h2).symm
theorem g_cat (v : Value) : v.category ≤ 2 := by rcases lv_cat v with h | h <;> omega
theorem g_sum : ∀ (st : List Value), (st.map fun v => v.category).sum ≤ 2 * st.length
  | [] => by simp
  | v :: t => by
    have := g_sum t
    have := g_cat v
    simp only [List.map_cons, List.sum_cons, List.length_cons]
    omega
theorem g_cw_full {M : g_M} {s : State} {args : Array Value} (h : (g_cw M).before args s = true) :
    ∃ mk meth c, s.methodNamed? M.1 = some mk ∧ s.vm.method? mk = some meth ∧ meth.code = some c ∧ parseMethodDescriptor M.1.desc = some meth.sig := by
  obtain ⟨mk, hn⟩ := g_cw_named h
  obtain ⟨meth, c, h1, h2, -, -, -, -, -, h8⟩ := g_cw_spec hn h
  exact ⟨mk, meth, c, hn, h1, h2, h8⟩
theorem g_cw_sig {M : g_M} {s : State} {args : Array Value} (h : (g_cw M).before args s = true) {mk : MethodId} {meth : Method} (hn : s.methodNamed? M.1 = some mk) (hm : s.vm.method? mk = some meth) : parseMethodDescriptor M.1.desc = some meth.sig := by
  obtain ⟨mk', meth', c, h1, h2, h3, h4⟩ := g_cw_full h
  cases hn.symm.trans h1
  cases hm.symm.trans h2
  exact h4
/-- words that don't ride in the lists, brought along from the start -/
theorem g_nwM {l : Launch} {E : g_E} (ok : g_ok l E) {s : State} (hW : E.1.WarmedH s.vm) {a : String} {i : Nat} {x : MethodName} {h : String} (hw : Cond.methodLinkNest a i x h ∈ lw_tbl) (args : Array Value) : (Cond.methodLinkNest a i x h).before args s = true :=
  va_Nw.use rfl (va_Nw.warmM hW (va_Nw.of rfl (ok.2.1 _ hw)))
theorem g_nwD {l : Launch} {E : g_E} (ok : g_ok l E) {s : State} (hW : E.1.WarmedH s.vm) {x : MethodName} (hw : Cond.declares x ∈ lw_tbl) (args : Array Value) : (Cond.declares x).before args s = true :=
  va_Nw.use rfl (va_Nw.warmD hW (va_Nw.of rfl (ok.2.1 _ hw)))
theorem g_nwF {l : Launch} {E : g_E} (ok : g_ok l E) {s : State} (hW : E.1.WarmedH s.vm) {C : String} {x y : MethodName} (hx : x.cls ≠ "java/lang/invoke/MethodHandle" ∧ x.cls ≠ "java/lang/invoke/VarHandle") (h1 : Cond.declares x ∈ lw_tbl) (h2 : Cond.interfaceMethod x.cls x.cls x.name x.desc ∈ lw_tbl) (h3 : Cond.publicMethod y ∈ lw_tbl) (h4 : Cond.unhidden C x.name x.desc ∈ lw_tbl) (h5 : Cond.castable C x.cls ∈ lw_tbl) : va_Fw C x y s :=
  va_Fw.moved hx hW.alike (va_Fw.of (ok.2.1 _ h1) (ok.2.1 _ h2) (ok.2.1 _ h3) (ok.2.1 _ h4) (ok.2.1 _ h5))
section VC
variable {l : Launch} {E : g_E} {M M' : g_M} {d d' n : Nat} {P : Outcome → g_G → Prop} {pc : Nat} {L : List (Nat × Value)} {st stk as : List Value} {G : g_G}
theorem g_fin {p : Program} {e : Env} {R : Room} {s : State} {m : MethodId} {args : Array Value} {below : List Frame} {meth : Method} {c : Code} {locs : List Loc} {ls : Array Slot} {T : State} {len : Nat} {ig : Instr} {cells slots : Nat}
    (C : g_Ctx l E M d p R s m meth c) (mk : g_mk M' n) (S : g_Spc l E M' d' as G (g_Kt l E M d P pc len L st)) (hdd : d' + 1 ≤ d) (hst : st.length ≤ 14) (hR : g_Rep E G T.heap) (h3 : ∀ z ∈ locs, g_B E ≤ z.base) (hl : lv_has ls M.2.2.1 L)
    {vm₁ : Vm} (X₁ : Stand p l e R s m args below meth c (T.setVm vm₁) locs cells slots) (hdg : decode c.code pc = .ok (ig, len)) {mm : MethodId} (hn : (T.setVm vm₁).methodNamed? M'.1 = some mm)
    (hstep : ∀ target, (∀ acts, Steps p.tables e below (doInvoke e ((T.setVm vm₁).setTop (F0 m pc ls st)) acts mm as.toArray).1 target) → Steps p.tables e below (T.setTop (F0 m pc ls stk)) target) :
    ∃ t, Steps p.tables e below (T.setTop (F0 m pc ls stk)) t ∧ g_Z E P below s t := by
  obtain ⟨o, Bt, L', G', XB, hlocs, hR', hP, z1, z2, hsteps⟩ := g_back0 (g := F0 m pc ls st) C.ok C.W C.room S mk.1 mk.2.1 hdd mk.2.2.2.2 (U := T.setVm vm₁) hR h3 X₁ rfl (hl.1.trans C.ml.symm) hdg (by
    have := g_sum st
    show 2 * 0 + (st.map fun v => v.category).sum ≤ 28
    omega) hn
  cases o with
  | returned v =>
    have hs2 : Steps p.tables e below (doInvoke e ((T.setVm vm₁).setTop (F0 m pc ls st)) [] mm as.toArray).1 (Bt.setTop (F0 m (pc + len) ls (g_psh v st))) := by
      cases v <;> exact hsteps
    obtain ⟨t, a1, b1⟩ := (show V l E M d P (pc + len) L (g_psh v st) G' from hP) p e R s m args below meth c _ ls Bt.heap C hR' z1 z2 hlocs hl Bt rfl (by rw [← hR'.2.1]; exact XB)
    exact ⟨t, hstep _ fun acts => by rw [doInvoke_state]; exact hs2.trans a1, b1⟩
  | threw q =>
    obtain ⟨t, a1, b1⟩ := (show VX l E M d P pc L q G' from hP) p e R s m args below meth c _ ls Bt.heap st C hR' z1 z2 hlocs hl Bt rfl (by rw [← hR'.2.1]; exact XB)
    exact ⟨t, hstep _ fun acts => by rw [doInvoke_state]; exact hsteps.trans a1, b1⟩

theorem V_callS {i : Nat}  (mk : g_mk M' n) (hlink : Cond.methodLink M.1.cls i M'.1 ∈ lw_all) (hstat : Cond.static M'.1 ∈ lw_all) (hd : decode M.2.1 pc = .ok (.invokestatic i, 3)) (S : g_Spc l E M' d' as G (g_Kt l E M d P pc 3 L st)) (hn : as.length = n := by rfl) (hst : stk = as.reverse ++ st := by rfl) (hdd : d' + 1 ≤ d := by decide) (hlen : st.length ≤ 14 := by exact Nat.le_of_ble_eq_true rfl) : V l E M d P pc L stk G := by
  subst hst
  intro p e R s m args below meth c locs ls H C hR h1 h2 h3 hl T hT X
  subst hT
  obtain ⟨mm, methM, cM, hnamed, hmethM, -, hsigM⟩ := g_cw_full (C.w mk.1 args)
  have hstatic : methM.isStatic = true := Cond.static_spec hnamed hmethM (C.w hstat args)
  obtain ⟨kP, hkP, -⟩ := className_of_methodNamed hnamed
  have hinitP : kP.init = .initialized := Cond.initialized_spec (findClass_of_methodNamed hnamed) hkP (C.w mk.2.1 args)
  obtain ⟨vm₁, X₁, hstep₁⟩ := X.invokestatic C.x C.own (C.w hlink args) hnamed hmethM hstatic hkP hinitP mk.2.2.1 (g := F0 m pc ls (as.reverse ++ st)) rfl (argsL := as) (rest := st) (hn.trans (mk.len _ hsigM)) rfl (by rw [C.b]; exact hd)
  exact g_fin C mk S hdd hlen hR h3 hl X₁ (by rw [C.b]; exact hd) (X₁.named hnamed) hstep₁
theorem V_callSN {i : Nat} {host : String} (mk : g_mk M' n) (hlink : Cond.methodLinkNest M.1.cls i M'.1 host ∈ lw_tbl) (hstat : Cond.static M'.1 ∈ lw_all) (hd : decode M.2.1 pc = .ok (.invokestatic i, 3)) (S : g_Spc l E M' d' as G (g_Kt l E M d P pc 3 L st)) (hn : as.length = n := by rfl) (hst : stk = as.reverse ++ st := by rfl) (hdd : d' + 1 ≤ d := by decide) (hlen : st.length ≤ 14 := by exact Nat.le_of_ble_eq_true rfl) : V l E M d P pc L stk G := by
  subst hst
  intro p e R s m args below meth c locs ls H C hR h1 h2 h3 hl T hT X
  subst hT
  obtain ⟨mm, methM, cM, hnamed, hmethM, -, hsigM⟩ := g_cw_full (C.w mk.1 args)
  have hstatic : methM.isStatic = true := Cond.static_spec hnamed hmethM (C.w hstat args)
  obtain ⟨kP, hkP, -⟩ := className_of_methodNamed hnamed
  have hinitP : kP.init = .initialized := Cond.initialized_spec (findClass_of_methodNamed hnamed) hkP (C.w mk.2.1 args)
  obtain ⟨vm₁, X₁, hstep₁⟩ := X.invokestaticNest C.x C.own (g_nwM C.ok C.W hlink args) hnamed hmethM hstatic hkP hinitP mk.2.2.1 (g := F0 m pc ls (as.reverse ++ st)) rfl (argsL := as) (rest := st) (hn.trans (mk.len _ hsigM)) rfl (by rw [C.b]; exact hd)
  exact g_fin C mk S hdd hlen hR h3 hl X₁ (by rw [C.b]; exact hd) (X₁.named hnamed) hstep₁
theorem V_callV {i b ci : Nat}  {fs : List Value} {q : vw_C} (mk : g_mk M' n) (hlink : Cond.methodLink M.1.cls i M'.1 ∈ lw_all) (hinst : Cond.instanceMethod M'.1 ∈ lw_all) (hsel : Cond.selects q.1 M'.1 M'.1 ∈ lw_all) (hG : G.1 b = some (g_ob ci fs)) (hc : g_cl[ci]? = some q) (hd : decode M.2.1 pc = .ok (.invokevirtual i, 3)) (S : g_Spc l E M' d' (.ref b :: as) G (g_Kt l E M d P pc 3 L st)) (hn : as.length = n := by rfl) (hst : stk = as.reverse ++ .ref b :: st := by rfl) (hdd : d' + 1 ≤ d := by decide) (hlen : st.length ≤ 14 := by exact Nat.le_of_ble_eq_true rfl) : V l E M d P pc L stk G := by
  subst hst
  intro p e R s m args below meth c locs ls H C hR h1 h2 h3 hl T hT X
  subst hT
  obtain ⟨mm, methM, hnamed, hmethM, hstM, habM⟩ := Cond.instanceMethod_spec (C.w hinst args)
  have hsigM := g_cw_sig (C.w mk.1 args) hnamed hmethM
  obtain ⟨cellB, hcell, hobj, hcls⟩ := g_recv C.ok C.W hR hG hc
  obtain ⟨c2, r2, m2, q1, q2, q3, q4, kP, hkP, hkPi⟩ := Cond.selects_spec (C.w hsel args)
  cases hcls.symm.trans q1
  cases (State.methodFound?_of_named hnamed mk.2.2.1).symm.trans q2
  cases hnamed.symm.trans q3
  have hselP : selectMethod e.platform s.vm cellB.cls mm = .method mm := by rw [Launch.admits_selectMethod X.admits]; exact q4
  obtain ⟨vm₁, X₁, hstep₁⟩ := X.invokevirtual C.x C.own (C.w hlink args) hnamed hmethM hstM hkP hkPi mk.2.2.1 (a := b) (cell := cellB) hcell
    (fun z h => by rw [h] at hobj; cases hobj) hselP hmethM habM hkP hkPi (g := F0 m pc ls (as.reverse ++ .ref b :: st)) rfl (argsL := as) (rest := st) (hn.trans (mk.len _ hsigM)) rfl (by rw [C.b]; exact hd)
  exact g_fin C mk S hdd hlen hR h3 hl X₁ (by rw [C.b]; exact hd) (X₁.named hnamed) hstep₁
theorem V_callVN {i b ci : Nat} {host : String} {fs : List Value} {q : vw_C} (mk : g_mk M' n) (hlink : Cond.methodLinkNest M.1.cls i M'.1 host ∈ lw_tbl) (hinst : Cond.instanceMethod M'.1 ∈ lw_all) (hsel : Cond.selects q.1 M'.1 M'.1 ∈ lw_all) (hG : G.1 b = some (g_ob ci fs)) (hc : g_cl[ci]? = some q) (hd : decode M.2.1 pc = .ok (.invokevirtual i, 3)) (S : g_Spc l E M' d' (.ref b :: as) G (g_Kt l E M d P pc 3 L st)) (hn : as.length = n := by rfl) (hst : stk = as.reverse ++ .ref b :: st := by rfl) (hdd : d' + 1 ≤ d := by decide) (hlen : st.length ≤ 14 := by exact Nat.le_of_ble_eq_true rfl) : V l E M d P pc L stk G := by
  subst hst
  intro p e R s m args below meth c locs ls H C hR h1 h2 h3 hl T hT X
  subst hT
  obtain ⟨mm, methM, hnamed, hmethM, hstM, habM⟩ := Cond.instanceMethod_spec (C.w hinst args)
  have hsigM := g_cw_sig (C.w mk.1 args) hnamed hmethM
  obtain ⟨cellB, hcell, hobj, hcls⟩ := g_recv C.ok C.W hR hG hc
  obtain ⟨c2, r2, m2, q1, q2, q3, q4, kP, hkP, hkPi⟩ := Cond.selects_spec (C.w hsel args)
  cases hcls.symm.trans q1
  cases (State.methodFound?_of_named hnamed mk.2.2.1).symm.trans q2
  cases hnamed.symm.trans q3
  have hselP : selectMethod e.platform s.vm cellB.cls mm = .method mm := by rw [Launch.admits_selectMethod X.admits]; exact q4
  obtain ⟨vm₁, X₁, hstep₁⟩ := X.invokevirtualNest C.x C.own (g_nwM C.ok C.W hlink args) hnamed hmethM hstM hkP hkPi mk.2.2.1 (a := b) (cell := cellB) hcell
    (fun z h => by rw [h] at hobj; cases hobj) hselP hmethM habM hkP hkPi (g := F0 m pc ls (as.reverse ++ .ref b :: st)) rfl (argsL := as) (rest := st) (hn.trans (mk.len _ hsigM)) rfl (by rw [C.b]; exact hd)
  exact g_fin C mk S hdd hlen hR h3 hl X₁ (by rw [C.b]; exact hd) (X₁.named hnamed) hstep₁
theorem V_callU {i b ci : Nat} {owner : String} {x : MethodName} {fs : List Value} {q : vw_C} (mk : g_mk M' n) (hlink : Cond.methodLink M.1.cls i x ∈ lw_all) (hsame : Cond.sameMethod x.cls owner x.name x.desc ∈ lw_all) (hdecl : Cond.declares ⟨owner, x.name, x.desc⟩ ∈ lw_tbl ∨ ∃ M2 : g_M, g_cw M2 ∈ lw_all ∧ Cond.instanceMethod M2.1 ∈ lw_all ∧ M2.1 = ⟨owner, x.name, x.desc⟩) (how : owner ≠ "java/lang/invoke/MethodHandle" ∧ owner ≠ "java/lang/invoke/VarHandle") (hxn : (parseMethodDescriptor x.desc).map (fun d => d.parameters.length) = some n) (hinst : Cond.instanceMethod M'.1 ∈ lw_all) (hsel : Cond.selects q.1 x M'.1 ∈ lw_all) (hG : G.1 b = some (g_ob ci fs)) (hc : g_cl[ci]? = some q) (hd : decode M.2.1 pc = .ok (.invokevirtual i, 3)) (S : g_Spc l E M' d' (.ref b :: as) G (g_Kt l E M d P pc 3 L st)) (hn : as.length = n := by rfl) (hst : stk = as.reverse ++ .ref b :: st := by rfl) (hdd : d' + 1 ≤ d := by decide) (hlen : st.length ≤ 14 := by exact Nat.le_of_ble_eq_true rfl) : V l E M d P pc L stk G := by
  subst hst
  intro p e R s m args below meth c locs ls H C hR h1 h2 h3 hl T hT X
  subst hT
  obtain ⟨r0, r, hn0, hrm, hstR, hsigR⟩ : va_Decl s ⟨owner, x.name, x.desc⟩ := by
    rcases hdecl with hd9 | ⟨M2, w1, w2, w3⟩
    · exact va_Decl.abs (va_Nw.warmD C.W (va_Nw.of rfl (C.ok.2.1 _ hd9)))
    · obtain ⟨r0, r, e1, e2, e3, -⟩ := Cond.instanceMethod_spec (C.w w2 args)
      rw [← w3]
      exact ⟨r0, r, e1, e2, e3, g_cw_sig (C.w w1 args) e1 e2⟩
  obtain ⟨cn, ck, r1, hcn, hck, hni, hf, hn1⟩ := Cond.sameMethod_found (C.w hsame args)
  cases hn0.symm.trans hn1
  obtain ⟨mm, methM, hnamed, hmethM, -, habM⟩ := Cond.instanceMethod_spec (C.w hinst args)
  obtain ⟨cellB, hcell, hobj, hcls⟩ := g_recv C.ok C.W hR hG hc
  obtain ⟨c2, r2, m2, q1, q2, q3, q4, kP, hkP, hkPi⟩ := Cond.selects_spec (C.w hsel args)
  cases hcls.symm.trans q1
  cases hf.symm.trans q2
  cases hnamed.symm.trans q3
  have hselP : selectMethod e.platform s.vm cellB.cls r0 = .method mm := by rw [Launch.admits_selectMethod X.admits]; exact q4
  obtain ⟨vm₁, X₁, hstep₁⟩ := X.invokevirtualUp C.x C.own (C.w hlink args) (C.w hsame args) how hn0 hrm hstR (a := b) (cell := cellB) hcell
    (fun z h => by rw [h] at hobj; cases hobj) hselP hmethM habM hkP hkPi (g := F0 m pc ls (as.reverse ++ .ref b :: st)) rfl (argsL := as) (rest := st) (by
      rw [hsigR] at hxn
      exact hn.trans (Option.some.inj hxn).symm) rfl (by rw [C.b]; exact hd)
  exact g_fin C mk S hdd hlen hR h3 hl X₁ (by rw [C.b]; exact hd) (X₁.named hnamed) hstep₁
theorem V_callI {i b : Nat}  (mk : g_mk M' n) (hy1 : M'.1.name = "<init>") (hrt : M'.2.2.2 = (none, [])) (hlink : Cond.methodLink M.1.cls i M'.1 ∈ lw_all) (hinst : Cond.instanceMethod M'.1 ∈ lw_all) (hd : decode M.2.1 pc = .ok (.invokespecial i, 3)) (S : g_Spc l E M' d' (.ref b :: as) G (g_Kt l E M d P pc 3 L st)) (hn : as.length = n := by rfl) (hst : stk = as.reverse ++ .ref b :: st := by rfl) (hdd : d' + 1 ≤ d := by decide) (hlen : st.length ≤ 14 := by exact Nat.le_of_ble_eq_true rfl) : V l E M d P pc L stk G := by
  subst hst
  intro p e R s m args below meth c locs ls H C hR h1 h2 h3 hl T hT X
  subst hT
  have hpl : e.platform.magicAccessors = ({} : Platform).magicAccessors := by rw [X.admits.platform]
  have hcode : (Cond.code M'.1 M'.2.1 M'.2.2.1 none).before args s = true := by
    obtain ⟨y, cc, mL, rt, hh⟩ := M'
    have e1 : (rt, hh) = (none, []) := hrt
    cases e1
    exact C.w mk.1 args
  obtain ⟨mm, methM, cM, kP, vm₁, hnamed, hmethM, hcodeM, -, hlocalsM, -, hkP, -, hW₁, hstep₁⟩ := Steps.initColdArgs (e := e) X.here C.x X.warmed hpl C.own hy1 mk.2.2.1 (C.w hlink args) (C.w hinst args) hcode (f := F0 m pc ls (as.reverse ++ .ref b :: st)) rfl (argsL := as) (fun sig hs => hn.trans (mk.len sig hs)) rfl (by rw [C.b]; exact hd)
  have X₁ := X.noted hW₁
  exact g_fin C mk S hdd hlen hR h3 hl X₁ (by rw [C.b]; exact hd) (X₁.named hnamed) hstep₁
theorem V_callIN {i b : Nat} {host : String} (mk : g_mk M' n) (hy1 : M'.1.name = "<init>") (hrt : M'.2.2.2 = (none, [])) (hlink : Cond.methodLinkNest M.1.cls i M'.1 host ∈ lw_tbl) (hinst : Cond.instanceMethod M'.1 ∈ lw_all) (hd : decode M.2.1 pc = .ok (.invokespecial i, 3)) (S : g_Spc l E M' d' (.ref b :: as) G (g_Kt l E M d P pc 3 L st)) (hn : as.length = n := by rfl) (hst : stk = as.reverse ++ .ref b :: st := by rfl) (hdd : d' + 1 ≤ d := by decide) (hlen : st.length ≤ 14 := by exact Nat.le_of_ble_eq_true rfl) : V l E M d P pc L stk G := by
  subst hst
  intro p e R s m args below meth c locs ls H C hR h1 h2 h3 hl T hT X
  subst hT
  have hpl : e.platform.magicAccessors = ({} : Platform).magicAccessors := by rw [X.admits.platform]
  have hcode : (Cond.code M'.1 M'.2.1 M'.2.2.1 none).before args s = true := by
    obtain ⟨y, cc, mL, rt, hh⟩ := M'
    have e1 : (rt, hh) = (none, []) := hrt
    cases e1
    exact C.w mk.1 args
  obtain ⟨mm, methM, cM, kP, vm₁, hnamed, hmethM, hcodeM, -, hlocalsM, -, hkP, -, hW₁, hstep₁⟩ := Steps.initColdArgsNest (e := e) X.here C.x X.warmed hpl C.own hy1 mk.2.2.1 (g_nwM C.ok C.W hlink args) (C.w hinst args) hcode (f := F0 m pc ls (as.reverse ++ .ref b :: st)) rfl (argsL := as) (fun sig hs => hn.trans (mk.len sig hs)) rfl (by rw [C.b]; exact hd)
  have X₁ := X.noted hW₁
  exact g_fin C mk S hdd hlen hR h3 hl X₁ (by rw [C.b]; exact hd) (X₁.named hnamed) hstep₁
theorem V_callF {i b ci count : Nat} {x : MethodName} {fs : List Value} {q : vw_C} (mk : g_mk M' n) (hlink : Cond.methodLink M.1.cls i x ∈ lw_all) (hx : x.cls ≠ "java/lang/invoke/MethodHandle" ∧ x.cls ≠ "java/lang/invoke/VarHandle") (f1 : Cond.declares x ∈ lw_tbl) (f2 : Cond.interfaceMethod x.cls x.cls x.name x.desc ∈ lw_tbl) (f3 : Cond.publicMethod M'.1 ∈ lw_tbl) (f4 : Cond.unhidden q.1 x.name x.desc ∈ lw_tbl) (f5 : Cond.castable q.1 x.cls ∈ lw_tbl) (hxn : (parseMethodDescriptor x.desc).map (fun d => d.parameters.length) = some n) (hinst : Cond.instanceMethod M'.1 ∈ lw_all) (hsel : Cond.selects q.1 x M'.1 ∈ lw_all) (hG : G.1 b = some (g_ob ci fs)) (hc : g_cl[ci]? = some q) (hd : decode M.2.1 pc = .ok (.invokeinterface i count, 5)) (S : g_Spc l E M' d' (.ref b :: as) G (g_Kt l E M d P pc 5 L st)) (hn : as.length = n := by rfl) (hst : stk = as.reverse ++ .ref b :: st := by rfl) (hdd : d' + 1 ≤ d := by decide) (hlen : st.length ≤ 14 := by exact Nat.le_of_ble_eq_true rfl) : V l E M d P pc L stk G := by
  subst hst
  intro p e R s m args below meth c locs ls H C hR h1 h2 h3 hl T hT X
  subst hT
  have hFw := g_nwF C.ok C.W hx f1 f2 f3 f4 f5
  obtain ⟨r0, r, hn0, hrm, hstR, hsigR⟩ := Cond.declares_spec hFw.1
  obtain ⟨cL, kL, r1, hcL, hkL, hiL, hfoundL, hn1⟩ := Cond.interfaceMethod_spec hFw.2.1
  cases hn0.symm.trans hn1
  have hr0cls : r0.cls = cL := Option.some.inj ((findClass_of_methodNamed hn0).symm.trans hcL)
  obtain ⟨hnameR, hdescR⟩ := name_of_methodNamed hn0 hrm
  obtain ⟨mm, methM, hnamed, hmethM, -, habM⟩ := Cond.instanceMethod_spec (C.w hinst args)
  obtain ⟨cellB, hcell, hobj, hcls⟩ := g_recv C.ok C.W hR hG hc
  obtain ⟨c2, r2, m2, q1, q2, q3, q4, -⟩ := Cond.selects_spec (C.w hsel args)
  cases hcls.symm.trans q1
  cases hfoundL.symm.trans q2
  cases hnamed.symm.trans q3
  have hselP : selectMethod e.platform s.vm cellB.cls r0 = .method mm := by rw [Launch.admits_selectMethod X.admits]; exact q4
  have hpubM : hasFlag methM.accessFlags Acc.public_ = true := Cond.publicMethod_spec hnamed hmethM hFw.2.2.1
  have hway : ((cellB.cls :: s.vm.superclasses cellB.cls).any fun k => (declaredIn s.vm r.name r.desc k).any fun (_, z) => z.isPrivate || z.isStatic) = false := by
    rw [hnameR, hdescR]; exact Cond.unhidden_spec hcls hFw.2.2.2.1
  obtain ⟨c3, t3, w1, w2, w3⟩ := Cond.castable_spec hFw.2.2.2.2
  cases hcls.symm.trans w1
  cases hcL.symm.trans w2
  obtain ⟨-, k9, hk9, -⟩ := (g_K C.ok C.W hc).2
  have hkB : s.vm.classes[cellB.cls]? = some k9 := by
    have e9 : cellB.cls = E.2.2.1 ci := Option.some.inj (hcls.symm.trans (g_K C.ok C.W hc).2.1)
    rw [e9]; exact hk9
  obtain ⟨vm₁, X₁, hstep₁⟩ := X.invokeinterface C.x C.own (C.w hlink args) hn0 hrm hstR (by rw [hr0cls]; exact hkL) hiL hx (a := b) (cell := cellB) (kcell := k9) hcell
    (fun z h => by rw [h] at hobj; cases hobj) hkB (by rw [hr0cls]; exact w3) hselP hmethM hway hpubM habM (g := F0 m pc ls (as.reverse ++ .ref b :: st)) rfl (argsL := as) (rest := st) (by
      rw [hsigR] at hxn
      exact hn.trans (Option.some.inj hxn).symm) rfl (by rw [C.b]; exact hd)
  exact g_fin C mk S hdd hlen hR h3 hl X₁ (by rw [C.b]; exact hd) (X₁.named hnamed) hstep₁
/-- the row z doesn't take an object of class C thrown at pc -/
def g_pass (M : g_M) (C : String) (pc : Nat) (z : Nat × Nat × Nat × Nat) : Prop := (decide (z.1 ≤ pc) && decide (pc < z.2.1)) = false ∨ (z.2.2.2 ≠ 0 ∧ ∃ nm : String, Cond.classLink M.1.cls z.2.2.2 nm ∈ lw_all ∧ Cond.not (.castable C nm) ∈ flatC (Jvm.Cond.and given_1 narrow_1))
/-- the row x takes it -/
def g_take (M : g_M) (C : String) (x : Nat × Nat × Nat × Nat) : Prop := x.2.2.2 = 0 ∨ (x.2.2.2 ≠ 0 ∧ ∃ nm : String, Cond.classLink M.1.cls x.2.2.2 nm ∈ lw_all ∧ (Cond.castable C nm ∈ lw_tbl ∨ C = nm))
theorem VX_catch {q ci : Nat} {fs : List Value} {r : vw_C} (hG : G.1 q = some (g_ob ci fs)) (hc : g_cl[ci]? = some r) (pre : List (Nat × Nat × Nat × Nat)) (x : Nat × Nat × Nat × Nat) (suf : List (Nat × Nat × Nat × Nat)) (hsp : M.2.2.2.2 = pre ++ x :: suf)
    (hpass : ∀ z ∈ pre, g_pass M r.1 pc z) (hx : (decide (x.1 ≤ pc) && decide (pc < x.2.1)) = true) (htake : g_take M r.1 x) (k : V l E M d P x.2.2.1 L [.ref q] G) : VX l E M d P pc L q G := by
  intro p e R s m args below meth c locs ls H st C hR h1 h2 h3 hl T hT X
  have hpl : e.platform.magicAccessors = ({} : Platform).magicAccessors := by rw [X.admits.platform]
  obtain ⟨cell, hcell, hobj, hcls⟩ := g_recv C.ok C.W hR hG hc
  obtain ⟨-, k9, hk9, hkd⟩ := (g_K C.ok C.W hc).2
  have hke : cell.cls = E.2.2.1 ci := Option.some.inj (hcls.symm.trans (g_K C.ok C.W hc).2.1)
  have hsplit : c.exceptionTable.toList = tableOf pre ++ (⟨x.1, x.2.1, x.2.2.1, x.2.2.2⟩ : ExceptionTableEntry) :: tableOf suf := by
    rw [C.table, hsp]
    simp [tableOf]
  obtain ⟨vm', X', st'⟩ := X.thenCaughtThrough q (g := F0 m pc ls st) rfl (Steps.refl _) (by rw [hT]; exact hcell) hobj ⟨k9, by rw [hke]; exact hk9⟩ (tableOf pre) ⟨x.1, x.2.1, x.2.2.1, x.2.2.2⟩ (tableOf suf) hsplit
    (fun y hy => by
      simp only [tableOf, List.mem_map] at hy
      obtain ⟨z, hz, rfl⟩ := hy
      rcases hpass z hz with h | ⟨hz0, nm, hl1, hn1⟩
      · exact Or.inl h
      · obtain ⟨c6, hc6, hcl6⟩ := Cond.classLink_spec C.own (C.w hl1 args) e.platform hpl
        obtain ⟨a8, b8, w1, w2, w3⟩ := (va_Nc.of (flat_of_before _ C.ok.2.2.2 _ hn1)).moved C.W.alike
        cases Option.some.inj (w1.symm.trans hcls)
        cases Option.some.inj (w2.symm.trans hc6)
        exact Or.inr ⟨hz0, _, hcl6, w3⟩) hx (by
      rcases htake with h | ⟨h0, nm, hl1, hcs⟩
      · exact Or.inl h
      · obtain ⟨c6, hc6, hcl6⟩ := Cond.classLink_spec C.own (C.w hl1 args) e.platform hpl
        refine Or.inr ⟨h0, c6, hcl6, ?_⟩
        rcases hcs with h | h
        · obtain ⟨c0, t0, f1, f2, f3⟩ := Cond.castable_spec (va_Nw.use (A := args) rfl (g_castW C.ok C.W h))
          cases Option.some.inj (f1.symm.trans hcls)
          cases Option.some.inj (f2.symm.trans hc6)
          exact f3
        · have e9 : c6 = cell.cls := Option.some.inj (hc6.symm.trans (by rw [← h]; exact hcls))
          rw [e9, hke]
          exact va_assign (C := r.1) ⟨(g_K C.ok C.W hc).2.1, k9, hk9, hkd⟩)
  obtain ⟨t, a1, b1⟩ := k p e R s m args below meth c locs ls H C hR h1 h2 h3 hl (T.setVm vm') hT X'
  exact ⟨t, st'.trans a1, b1⟩
theorem VX_out {q ci : Nat} {fs : List Value} (hout : M.2.2.2.2.all (fun z => !(decide (z.1 ≤ pc) && decide (pc < z.2.1))) = true) (k : P (.threw q) G) : VX l E M d P pc L q G := by
  intro p e R s m args below meth c locs ls H st C hR h1 h2 h3 hl T hT X
  have hout' : ∀ x ∈ c.exceptionTable.toList, covers x pc = false := by
    intro y hy
    rw [C.table] at hy
    simp only [tableOf, List.mem_map] at hy
    obtain ⟨z, hz, rfl⟩ := hy
    have := List.all_eq_true.mp hout z hz
    simp [covers] at this ⊢
    omega
  obtain ⟨st1, hrun, hend, hW, hsm⟩ := X.leaveThrown q (g := F0 m pc ls st) rfl rfl rfl hout' C.locks
  refine ⟨_, st1, .threw q, hrun, hend, hW, ⟨locs, _, _, hsm, h3⟩, G, ?_, k⟩
  show g_Rep E G T.heap
  rw [hT]; exact hR
theorem V_athrow {q : Nat} (hd : decode M.2.1 pc = .ok (.athrow, 1)) (k : VX l E M d P pc L q G) : V l E M d P pc L (.ref q :: st) G := by
  intro p e R s m args below meth c locs ls H C hR h1 h2 h3 hl T hT X
  obtain ⟨t, a1, b1⟩ := k p e R s m args below meth c locs ls H st C hR h1 h2 h3 hl T hT X
  refine ⟨t, ?_, b1⟩
  have hdg' : decode c.code pc = .ok (.athrow, 1) := by rw [C.b]; exact hd
  have hx := C.x
  jvm_step X.here [X.here.top, hx, hdg', athrow.wp_sem]
  exact a1
end VC
