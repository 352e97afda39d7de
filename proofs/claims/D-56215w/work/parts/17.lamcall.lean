/-! a call of a lambda of metricOf through the interface (follows JvmDerived Shelf42/NT83, Example/ForwardStatic) -/
set_option maxRecDepth 100000
def lam_if : MethodName := ⟨"ColourOffice$Metric", "combine", "(III)I"⟩
section VLC
variable {l : Launch} {E : g_E} {M M' : g_M} {d d' : Nat} {P : Outcome → g_G → Prop} {pc : Nat} {L : List (Nat × Value)} {st : List Value} {G : g_G}
theorem V_callL {i count pl il : Nat} {nm : String} {x y z r : Int32} (hnm : lam_ok nm) (hs : Cond.lambdaSite yX1_metricOf pl il (lam_sh nm) ∈ flatC (Jvm.Cond.and given_1 narrow_1)) (mk : g_mk M' 3) (hMn : M'.1 = ⟨"ColourOffice", nm, "(III)I"⟩) (hstat : Cond.static M'.1 ∈ lw_all)
    (hlink : Cond.methodLink M.1.cls i lam_if ∈ lw_all) (hdecl : Cond.declares lam_if ∈ lw_tbl) (hface : Cond.interfaceMethod "ColourOffice$Metric" "ColourOffice$Metric" "combine" "(III)I" ∈ lw_tbl)
    (hd : decode M.2.1 pc = .ok (.invokeinterface i count, 5)) (hlen : st.length ≤ 14) (hdd : d' + 2 ≤ d)
    (S : g_Spc l E M' d' [.int x, .int y, .int z] G (fun o G' => o = .returned (some (.int r)) ∧ G' = G))
    (k : V l E M d P (pc + 5) L (.int r :: st) G) : V l E M d P pc L (.int z :: .int y :: .int x :: .ref (lam_ad E pl il nm) :: st) G := by
  intro p e R s m args below meth c locs ls H C hR h1 h2 h3 hl T hT X
  subst hT
  obtain ⟨rm1, rm2, rm3, rm4⟩ := C.room
  have hsum := g_sum st
  have hu := hR.2.1
  have hz := hR.1
  -- the lambda's object
  obtain ⟨mD, kD, i0, p0, cell, e1, e2, -, e4, hvmc, hmade0, hcan0⟩ := lam_known C.ok hs
  have hcell : T.heap[lam_ad E pl il nm]? = some cell := by rw [hR.2.2.2.2.2.1 _ (Array.getElem?_eq_some_iff.mp e4).1]; exact e4
  -- the interface's method, at the invocation
  have hFd : (Cond.declares lam_if).before args s = true := g_nwD C.ok C.W hdecl args
  have hFf : (Cond.interfaceMethod "ColourOffice$Metric" "ColourOffice$Metric" "combine" "(III)I").before args s = true := by
    have h0 : (Cond.declares lam_if).before #[] E.1 = true := va_any rfl (C.ok.2.1 _ hdecl)
    obtain ⟨r9, meth9, hn9, -⟩ := Cond.declares_spec h0
    have h1' : (Cond.interfaceMethod "ColourOffice$Metric" "ColourOffice$Metric" "combine" "(III)I").before #[] E.1 = true := va_any rfl (C.ok.2.1 _ hface)
    have h2' : (Cond.interfaceMethod "ColourOffice$Metric" "ColourOffice$Metric" "combine" "(III)I").before #[] (E.1.setVm s.vm) = true := (Cond.interfaceMethod_setVm C.W.alike (r := r9) hn9 (by decide)).trans h1'
    exact va_tabs rfl (rfl : (E.1.setVm s.vm).vm = s.vm) h2'
  obtain ⟨r0, rr, hn, hrm, hstR, hsigR⟩ := Cond.declares_spec hFd
  obtain ⟨cL, kL, r1, hcL, hkL, hiL, hfoundL, hn1⟩ := Cond.interfaceMethod_spec hFf
  cases hn.symm.trans hn1
  have hr0cls : r0.cls = cL := Option.some.inj ((findClass_of_methodNamed hn).symm.trans hcL)
  obtain ⟨hnameR, hdescR⟩ := name_of_methodNamed hn hrm
  -- the made class, at the invocation
  obtain ⟨kDs, hkDs, heDs⟩ := C.W.alike.2.2 _ _ e2
  have hmade : Lambda.isMade { classPath := fun _ => none } s.vm mD.cls (lam_sh nm) cell.cls = true := Lambda.isMade_warmer C.W hmade0
  have hnameD : kDs.name = "ColourOffice" := by
    obtain ⟨k9, hk9, hn9⟩ := className_of_methodNamed e1
    cases e2.symm.trans hk9
    rw [heDs]; exact hn9
  obtain ⟨kK, tk, file, methk, ckK, toy, t, hkK, hkn, hfile, hpool, hmk, hckK, hbytes, hml, hlk, hfl, hretk, htoy, htk, hlook, hready, hclsR⟩ := lam_made hnm hkDs hnameD hmade
  obtain ⟨-, -, -, -, -, -, -, iface', -, -, -, -, found, -, -, -, -, -, hi', -, -, -, -, -, -, hfound', -, -, -, -, -, -, -, -, -, -, hsel⟩ := Lambda.isMade_spec hmade
  have esam : (lam_sh nm).sam.toString = "(III)I" := by show lam_sg.toString = _; decide +kernel
  have hcL' : s.vm.findClass "ColourOffice$Metric" = some cL := hcL
  cases hcL'.symm.trans (show s.vm.findClass "ColourOffice$Metric" = some iface' from hi')
  have hfr : found = r0 := by
    have h1 : s.methodFound? "ColourOffice$Metric" "combine" "(III)I" = some r0 := hfoundL
    simp only [State.methodFound?, hcL', hkL, hiL, Option.bind_eq_bind, Option.bind_some] at h1
    rw [esam] at hfound'
    have h2 : ((methodIn cL "combine" "(III)I" true none).ask { classPath := fun _ => none } s.vm).1 = .ok found := hfound'
    rw [h2] at h1
    exact Option.some.inj h1
  subst hfr
  have hcan : s.lambdaCallable (lam_sh nm) cell.cls = true := by
    have hA := C.W.alike
    simp only [State.lambdaCallable, hA.findClass, hA.assignable, hA.superclasses, hA.declaredIn] at hcan0 ⊢
    exact hcan0
  obtain ⟨i2, hi2, hasg, hway⟩ := State.lambdaCallable_spec hcan
  cases hcL'.symm.trans (show s.vm.findClass "ColourOffice$Metric" = some i2 from hi2)
  have hsigI : rr.sig = lam_sg := (Option.some.inj ((by decide +kernel : parseMethodDescriptor "(III)I" = some lam_sg).symm.trans hsigR)).symm
  obtain ⟨vm₁, X₁, hstep₁⟩ := X.invokeinterface C.x C.own (C.w hlink args) hn hrm hstR (by rw [hr0cls]; exact hkL) hiL (by decide) (a := lam_ad E pl il nm) (cell := cell) (kcell := kK) hcell (fun q h => by rw [hvmc] at h; cases h) hkK (by rw [hr0cls]; exact hasg)
    (m' := ⟨cell.cls, 1⟩) (meth' := methk) (by rw [Launch.admits_selectMethod X.admits]; exact hsel) hmk (by rw [hnameR, hdescR]; rw [esam] at hway; exact hway) (by rw [hfl]; decide) (by simp [Method.isAbstract, hfl, hasFlag, Acc.abstract])
    (g := F0 m pc ls (.int z :: .int y :: .int x :: .ref (lam_ad E pl il nm) :: st)) rfl (argsL := [.int x, .int y, .int z]) (rest := st) (by rw [hsigI]; rfl) rfl (by rw [C.b]; exact hd)
  have hW₁ : s.WarmedH vm₁ := X₁.warmed
  obtain ⟨kD₁, hkD₁, heD₁⟩ := hW₁.alike.2.2 _ _ hkDs
  have hnameD₁ : kD₁.name = "ColourOffice" := by rw [heD₁]; exact hnameD
  obtain ⟨kK₁, tk₁, file₁, methk₁, ckK₁, toy₁, t₁, hkK₁, hkn₁, hfile₁, hpool₁, hmk₁, hckK₁, hbytes₁, hml₁, hlk₁, hfl₁, hretk₁, htoy₁, htk₁, hlook₁, hready₁, hclsR₁⟩ := lam_made hnm hkD₁ hnameD₁ (Lambda.isMade_warmer hW₁ hmade)
  -- the static method behind it
  obtain ⟨mT, methT, cT, hmT, hmethT, hcT, hsigT⟩ := g_cw_full (C.w mk.1 args)
  have hstaticT : methT.isStatic = true := Cond.static_spec hmT hmethT (C.w hstat args)
  obtain ⟨kT, hkT, hnameT⟩ := className_of_methodNamed hmT
  have hfT : s.vm.findClass "ColourOffice" = some mT.cls := by
    have := findClass_of_methodNamed hmT
    rw [hMn] at this
    exact this
  have hinitK : kT.init = .initialized := Cond.initialized_spec (findClass_of_methodNamed hmT) hkT (C.w mk.2.1 args)
  have hsigTI : methT.sig = lam_sg := by
    rw [hMn] at hsigT
    exact (Option.some.inj ((by decide +kernel : parseMethodDescriptor "(III)I" = some lam_sg).symm.trans hsigT)).symm
  have hfT₁ : vm₁.findClass "ColourOffice" = some mT.cls := by rw [hW₁.alike.findClass]; exact hfT
  cases htoy₁.symm.trans hfT₁
  have ht₁ : t₁ = mT := by
    have h1 : (s.setVm vm₁).methodFound? "ColourOffice" nm "(III)I" = some mT := by
      rw [State.methodFound?_setVm hW₁.alike]
      have h9 := State.methodFound?_of_named hmT mk.2.2.1
      rw [hMn] at h9
      exact h9
    simp only [State.methodFound?, State.vm_setVm, hfT₁, htk₁, Option.bind_eq_bind, Option.bind_some] at h1
    rw [hlook₁] at h1
    exact Option.some.inj h1
  subst ht₁
  have hmethT₁ : vm₁.method? t₁ = some methT := by rw [hW₁.alike.method?]; exact hmethT
  obtain ⟨kT₁, hkT₁, heT₁⟩ := hW₁.alike.2.2 _ _ hkT
  cases htk₁.symm.trans hkT₁
  have hnmT : tk₁.name = "ColourOffice" := by
    rw [heT₁]
    have := hnameT
    rw [hMn] at this
    exact this
  have hsp : ∀ y : Method, signaturePolymorphic tk₁ y = false := fun y => by simp [signaturePolymorphic, hnmT]
  obtain ⟨b, hmem⟩ := memberRef_ask' (e := e) (vm := vm₁) (d := cell.cls) (index := 17) hkK₁ hfile₁ (Or.inl (by rw [hpool₁]; exact hnm.2.2.2.2.1.1)) (by rw [hpool₁]; exact hnm.2.2.2.2.1.2.2)
  have hpk : (T.setVm vm₁).plainMethod ⟨cell.cls, 1⟩ := State.plainMethod.of_name (fun k' hk' => by cases hkK₁.symm.trans hk'; rw [hkn₁]; decide)
  have hdg2 : decode c.code pc = .ok (.invokeinterface i count, 5) := by rw [C.b]; exact hd
  obtain ⟨X₁t, z1, z2⟩ := g_tight X₁
  obtain ⟨Y₀, hin⟩ := X₁t.into (g := F0 m pc ls st) rfl (hl.1.trans C.ml.symm) hdg2 #[.ref (lam_ad E pl il nm), .int x, .int y, .int z] (R' := g_room E (d' + 1) G) hmk₁ hckK₁ hlk₁ hpk
    (by show d' + 1 + 1 ≤ R.frames; omega) (by rw [hml₁]; show 2 * 0 + (st.map fun v => v.category).sum + (4 + 11) + (4000 + 64 * (d' + 1)) ≤ R.locals; omega)
    (by show T.heap.size - s.heap.size + (g_capC E - G.2.1) ≤ R.cells; have := hR.2.2.1; omega) (by show g_hs T.heap - s.slotsUsed + (g_capS E - G.2.2) ≤ R.slots; have := hR.2.2.2.1; omega)
  have hbook : T.slotsUsed = G.2.2 := (g_used X.book).trans hu
  generalize hU : ((T.setVm vm₁).setTop (F0 m pc ls st)).pushFrame (.java (entryFrame ⟨cell.cls, 1⟩ #[.ref (lam_ad E pl il nm), .int x, .int y, .int z] ckK₁.maxLocals)) = U at Y₀ hin
  have hvm : U.vm = vm₁ := by rw [← hU]; rfl
  have hUh : U.heap = T.heap := by rw [← hU]; rfl
  have hRU : g_Rep E G U.heap := by rw [hUh]; exact hR
  have hnU : U.methodNamed? M'.1 = some t₁ := by
    have h9 := State.methodNamed?_setVm (s := s) (x := M'.1) hW₁.alike
    have h8 : (s.setVm vm₁).methodNamed? M'.1 = U.methodNamed? M'.1 := by
      unfold State.methodNamed?
      rw [hvm]; rfl
    rw [← h8, h9]; exact hmT
  obtain ⟨o, Bt, L', G', XB, hlocsB, hRB, ⟨ho, hGG⟩, zz1, zz2, hsteps⟩ := g_back0 (locs := []) (d := d' + 1) (g := { method := ⟨cell.cls, 1⟩, pc := 3, locals := #[.val (.ref (lam_ad E pl il nm)), .val (.int x), .val (.int y), .val (.int z)], stack := [], locked := none }) (ig := .invokestatic 17) (len := 3) C.ok (State.WarmedH.trans C.W hW₁)
    ⟨Nat.le_refl _, Nat.le_refl _, by show g_capC E ≤ T.heap.size + (g_capC E - G.2.1); omega, by show g_capS E ≤ T.slotsUsed + (g_capS E - G.2.2); omega⟩ S mk.1 mk.2.1 (Nat.le_refl _) mk.2.2.2.2 hRU (fun _ h => nomatch h) Y₀ rfl (by rw [hml₁]; rfl) (by rw [hbytes₁]; exact lam_d3) (by show 2 * 0 + 0 ≤ 28; omega) hnU
  subst ho
  subst hGG
  obtain ⟨fs, hleave, -, hended, hWe, hsame⟩ := XB.leave (v := some (.int r)) (hlocks := hlk₁) (fun h => by rw [hretk₁] at h; cases h)
  obtain ⟨T', X', hW', -, ht⟩ := X₁.outOf (g := F0 m pc ls st) rfl hdg2 hended hWe hsame
  have hT'h : T'.heap = Bt.heap := by
    have := congrArg State.heap ht
    exact this.symm
  obtain ⟨XT', zt1, zt2⟩ := g_tight X'
  have hRT' : g_Rep E G' T'.heap := by rw [hT'h]; exact hRB
  obtain ⟨tf, a1, b1⟩ := k p e R s m args below meth c _ ls T'.heap C hRT' zt1 (by rw [← hRT'.2.1]; exact zt2) (fun q hq => (List.mem_append.mp hq).elim (h3 q) (hlocsB q)) hl T' rfl (by rw [← hRT'.2.1]; exact XT')
  refine ⟨tf, hstep₁ _ fun acts => ?_, b1⟩
  refine Steps.trans ?_ a1
  rw [show doInvoke e ((T.setVm vm₁).setTop { method := m, pc := pc, locals := ls, stack := st, locked := none }) acts ⟨cell.cls, 1⟩ (Value.ref (lam_ad E pl il nm) :: [.int x, .int y, .int z]).toArray = doInvoke e ((T.setVm vm₁).setTop (F0 m pc ls st)) acts ⟨cell.cls, 1⟩ #[.ref (lam_ad E pl il nm), .int x, .int y, .int z] from rfl, hin acts]
  show Steps p.tables e below _ (T'.setTop { F0 m pc ls st with pc := pc + 5, stack := (some (Value.int r)).toList ++ st })
  rw [← ht]
  refine Steps.weaken (mid := [.java (F0 m pc ls st)]) ?_
  have hloc : entryFrame ⟨cell.cls, 1⟩ #[.ref (lam_ad E pl il nm), .int x, .int y, .int z] ckK₁.maxLocals = { method := ⟨cell.cls, 1⟩, pc := 0, locals := #[.val (.ref (lam_ad E pl il nm)), .val (.int x), .val (.int y), .val (.int z)], stack := [], locked := none } := by rw [hml₁]; rfl
  rw [hloc]
  have hx := C.x
  have hsU : U.topJava?.isSome := Y₀.here.top
  jvm_step Y₀.here [hx, hbytes₁, lam_d0]
  jvm_step Y₀.here [hx, hbytes₁, lam_d1]
  jvm_step Y₀.here [hx, hbytes₁, lam_d2]
  jvm_step Y₀.here [hx, hbytes₁, lam_d3, invokestatic.wp_ready (e := e) (s := U) (m := t₁) (k := tk₁) (meth := methT) (args := [.int x, .int y, .int z]) (rest := [])
    (f := { method := ⟨cell.cls, 1⟩, pc := 3, locals := #[.val (.ref (lam_ad E pl il nm)), .val (.int x), .val (.int y), .val (.int z)], stack := [.int z, .int y, .int x], locked := none }) hsU ⟨14, _, _, b, t₁.cls, tk₁, by rw [hvm]; exact hmem, by rw [hvm]; exact hclsR₁, by rw [hvm]; exact htk₁, by simp [hsp]⟩ (by rw [hvm]; exact hready₁) (by rw [hvm]; exact htk₁) (by rw [hvm]; exact hmethT₁) (hsp _) hstaticT (by rw [heT₁]; exact hinitK) (by rw [hsigTI]; rfl) rfl]
  intro acts'
  rw [doInvoke_state]
  refine hsteps.trans ?_
  show Steps p.tables e (.java (F0 m pc ls st) :: below) (Bt.setTop { method := ⟨cell.cls, 1⟩, pc := 6, locals := #[.val (.ref (lam_ad E pl il nm)), .val (.int x), .val (.int y), .val (.int z)], stack := [.int r], locked := none }) _
  have hmB : Bt.vm.method? ⟨cell.cls, 1⟩ = some methk₁ := XB.method'
  jvm_step XB.here [XB.here.top, hx, hbytes₁, lam_d6, hmB, hretk₁, narrow]
  intro acts''
  rw [hleave { method := ⟨cell.cls, 1⟩, pc := 6, locals := #[.val (.ref (lam_ad E pl il nm)), .val (.int x), .val (.int y), .val (.int z)], stack := [], locked := none } acts'' rfl rfl rfl]
  exact Steps.refl _
end VLC
