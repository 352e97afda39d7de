/-! the three lambdas of metricOf: their objects, a call of one (follows JvmDerived Shelf42/NT81, NT83, Example/ForwardStatic) -/
set_option maxRecDepth 100000
def lam_sg : MethodDescriptor := ⟨[.int, .int, .int], some .int⟩
def lam_sh (nm : String) : Jvm.Lambda.Shape := { iface := "ColourOffice$Metric", name := "combine", sam := lam_sg, captured := [], kind := 6, implClass := "ColourOffice", implName := nm, implDesc := lam_sg, implItf := false, inst := lam_sg }
theorem lam_s0 : Cond.lambdaSite yX1_metricOf 28 13 (lam_sh "lambda$metricOf$0") ∈ flatC (Jvm.Cond.and given_1 narrow_1) := by decide +kernel
theorem lam_s1 : Cond.lambdaSite yX1_metricOf 34 17 (lam_sh "lambda$metricOf$1") ∈ flatC (Jvm.Cond.and given_1 narrow_1) := by decide +kernel
theorem lam_s2 : Cond.lambdaSite yX1_metricOf 40 18 (lam_sh "lambda$metricOf$2") ∈ flatC (Jvm.Cond.and given_1 narrow_1) := by decide +kernel
/-- the lambda's one object -/
def lam_ad (E : g_E) (pc i : Nat) (nm : String) : Nat := ((E.1.lambdaAt? yX1_metricOf pc i (lam_sh nm)).bind (fun q => q.2)).getD 0
theorem lam_known {l : Launch} {E : g_E} (ok : g_ok l E) {pc i : Nat} {nm : String} (hs : Cond.lambdaSite yX1_metricOf pc i (lam_sh nm) ∈ flatC (Jvm.Cond.and given_1 narrow_1)) :
    ∃ (m : MethodId) (k : Class) (i0 p0 : Nat) (cell : Cell), E.1.methodNamed? yX1_metricOf = some m ∧ E.1.vm.classes[m.cls]? = some k ∧ (k.callSites.find? fun y => y.1 == m.idx && y.2.1 == pc) = some (i0, p0, .constant (lam_ad E pc i nm)) ∧
      E.1.heap[lam_ad E pc i nm]? = some cell ∧ cell.vm = .none ∧ Lambda.isMade { classPath := fun _ => none } E.1.vm m.cls (lam_sh nm) cell.cls = true ∧ E.1.lambdaCallable (lam_sh nm) cell.cls = true := by
  obtain ⟨cK, one, hat⟩ := Cond.lambdaSite_spec (flat_of_before _ ok.2.2.2 _ hs)
  obtain ⟨m, k, cf, i0, p0, lk, h1, h2, -, -, -, h6, h7, h8, h9⟩ := State.lambdaAt?_spec hat
  rcases h9 with ⟨a, cell, e1, e2, -, e4, e5, e6, -⟩ | ⟨-, -, h⟩
  · have ea : lam_ad E pc i nm = a := by
      unfold lam_ad
      rw [hat, e2]
      rfl
    rw [ea]
    refine ⟨m, k, i0, p0, cell, h1, h2, by rw [h6, e1], e4, e6, ?_, ?_⟩
    · rw [e5]; exact h7
    · rw [e5]; exact h8
  · exact absurd rfl h
section VLAM
variable {l : Launch} {E : g_E} {M : g_M} {d d' : Nat} {P : Outcome → g_G → Prop} {pc : Nat} {L : List (Nat × Value)} {st : List Value} {G : g_G}
theorem V_indy {i : Nat} {nm : String} (hM : M.1 = yX1_metricOf) (hs : Cond.lambdaSite yX1_metricOf pc i (lam_sh nm) ∈ flatC (Jvm.Cond.and given_1 narrow_1)) (hlen : st.length ≤ 14) (hd : decode M.2.1 pc = .ok (.invokedynamic i, 5)) (k : V l E M d P (pc + 5) L (.ref (lam_ad E pc i nm) :: st) G) : V l E M d P pc L st G := by
  intro p e R s m args below meth c locs ls H C hR h1 h2 h3 hl T hT X
  obtain ⟨m', k0, i0, p0, cell, e1, e2, e3, -⟩ := lam_known C.ok hs
  have hn : s.methodNamed? yX1_metricOf = some m' := by
    have h9 := State.methodNamed?_setVm (s := E.1) (x := yX1_metricOf) C.W.alike
    have h8 : (E.1.setVm s.vm).methodNamed? yX1_metricOf = s.methodNamed? yX1_metricOf := rfl
    rw [← h8, h9]; exact e1
  have hmm : m' = m := Option.some.inj (hn.symm.trans (by rw [← hM]; exact C.2.2.2.2.2.2.2.2.2.2.2.2))
  subst hmm
  obtain ⟨k1, hk1, he1⟩ := C.W.alike.2.2 _ _ e2
  obtain ⟨t, a1, b1⟩ := k p e R s m' args below meth c locs ls H C hR h1 h2 h3 hl T hT X
  obtain ⟨r1, r2, r3, r4⟩ := C.room
  have hsum := g_sum st
  refine ⟨t, X.lambdaConstant C.x (g := F0 m' pc ls st) rfl (by rw [C.ml]; exact hl.1) (by rw [C.b]; exact hd) hk1 (by rw [he1]; exact e3) ?_ a1, b1⟩
  rw [X.admits.platform]
  show 2 * 0 + (st.map fun v => v.category).sum + 3072 ≤ R.locals
  omega
end VLAM
/-! a call -/
def lam_code : ByteArray := ⟨#[0x1b, 0x1c, 0x1d, 0xb8, 0x00, 0x11, 0xac]⟩
theorem lam_d0 : decode lam_code 0 = .ok (.iload_n 1, 1) := by decide +kernel
theorem lam_d1 : decode lam_code 1 = .ok (.iload_n 2, 1) := by decide +kernel
theorem lam_d2 : decode lam_code 2 = .ok (.iload_n 3, 1) := by decide +kernel
theorem lam_d3 : decode lam_code 3 = .ok (.invokestatic 17, 3) := by decide +kernel
theorem lam_d6 : decode lam_code 6 = .ok (.ireturn, 1) := by decide +kernel
def lam_D (nm : String) : ClassFile := ((lam_sh nm).file "ColourOffice").getD { minorVersion := 0, majorVersion := 0, constantPool := #[], accessFlags := 0, thisClass := 0, superClass := 0, interfaces := #[], fields := #[], methods := #[], attributes := #[] }
def lam_fw (nm : String) : Method := ((layoutMethods (lam_D nm)).bind (·[1]?)).getD default
/-- what the kernel finds of a lambda's class file -/
def lam_ok (nm : String) : Prop :=
  ((lam_sh nm).file "ColourOffice").isSome = true ∧ ((layoutMethods (lam_D nm)).bind (·[1]?)).isSome = true ∧ ((lam_fw nm).code.map fun c => (c.code.data, c.maxLocals)) = some (lam_code.data, 4) ∧
  ((lam_fw nm).accessFlags, (lam_fw nm).name, (lam_fw nm).sig.returnType) = (0x0001, "combine", some FieldType.int) ∧
  ((lam_D nm).constantPool[17]? = some (.methodref 14 16) ∧ (lam_D nm).constantPool.className? 14 = some "ColourOffice" ∧ (lam_D nm).constantPool.nameAndType? 16 = some (nm, "(III)I")) ∧
  ((lam_D nm).constantPool[14]? = some (.class_ 13) ∧ (lam_D nm).constantPool.string? 13 = some "ColourOffice" ∧ 14 ≠ (lam_D nm).thisClass)
theorem lam_ok0 : lam_ok "lambda$metricOf$0" := by unfold lam_ok; decide +kernel
theorem lam_ok1 : lam_ok "lambda$metricOf$1" := by unfold lam_ok; decide +kernel
theorem lam_ok2 : lam_ok "lambda$metricOf$2" := by unfold lam_ok; decide +kernel
theorem lam_made {nm : String} (hk : lam_ok nm) {vm : Vm} {d c : ClassId} {dk : Class} (hd : vm.classes[d]? = some dk) (hname : dk.name = "ColourOffice") (h : Lambda.isMade { classPath := fun _ => none } vm d (lam_sh nm) c = true) :
    ∃ (k tk : Class) (file : ClassFile) (methk : Method) (ck : Code) (toy : ClassId) (t : MethodId),
      vm.classes[c]? = some k ∧ k.name = "ColourOffice$$Lambda" ∧ k.cf = some file ∧ file.constantPool = (lam_D nm).constantPool ∧
      vm.method? ⟨c, 1⟩ = some methk ∧ methk.code = some ck ∧ ck.code = lam_code ∧ ck.maxLocals = 4 ∧ methk.locks = false ∧ methk.accessFlags = 0x0001 ∧ methk.sig.returnType = some .int ∧
      vm.findClass "ColourOffice" = some toy ∧ vm.classes[toy]? = some tk ∧ ((methodIn toy nm "(III)I" tk.isInterface none).ask { classPath := fun _ => none } vm).1 = .ok t ∧
      vm.methodReady c 17 t ∧ vm.classReady c 14 toy := by
  obtain ⟨o1, o2, o3, o4, ⟨o5, o6, o7⟩, o8, o9, o10⟩ := hk
  have file_is : (lam_sh nm).file "ColourOffice" = some (lam_D nm) := by
    obtain ⟨x, hx⟩ := Option.isSome_iff_exists.mp o1
    simp [lam_D, hx]
  have second_is : ∀ ms, layoutMethods (lam_D nm) = some ms → ms[1]? = some (lam_fw nm) := by
    intro ms hms
    obtain ⟨x, hx⟩ := Option.isSome_iff_exists.mp o2
    have hf : lam_fw nm = x := by simp [lam_fw, hx]
    rw [hms] at hx
    rw [hf]
    exact hx
  obtain ⟨dk', k, ok, tk, file, cf, object, iface, toy, lay, methods, target, found, hd', hk, hfile, hcf, -, -, -, -, hms, ht, htk, hg, -, hrec, -, -, -, -, hpool, hmeth, -, -, hres, -⟩ := Lambda.isMade_spec h
  cases hd.symm.trans hd'
  rw [hname, file_is] at hcf
  cases hcf
  obtain ⟨b, hb, hsame⟩ := hmeth 1 (lam_fw nm) (second_is methods hms)
  simp only [Lambda.sameMethod, Bool.and_eq_true, decide_eq_true_eq] at hsame
  obtain ⟨⟨hn, -, hsig, hfl⟩, hcode⟩ := hsame
  simp only [Prod.mk.injEq] at o4
  cases hfc : (lam_fw nm).code with
  | none => rw [hfc] at o3; cases o3
  | some x =>
    cases hbc : b.code with
    | none => simp [hfc, hbc] at hcode
    | some y =>
      simp only [hfc, hbc, Bool.and_eq_true, decide_eq_true_eq] at hcode
      simp only [hfc, Option.map_some, Option.some.injEq, Prod.mk.injEq] at o3
      refine ⟨k, tk, file, b, y, toy, target, hk, by rw [hrec.1, hname]; rfl, hfile, hpool.2.1, by simp [Vm.method?, hk, hb], hbc, ?_, by rw [← hcode.1.1.1.1.2.1]; exact o3.2, ?_, by rw [← hfl]; exact o4.1, by rw [← hsig]; exact o4.2.2, ht, htk, hg,
        ⟨k, hk, hres 17 _ (Lambda.resolvedOf_method o5 o6 ht htk o7 hg)⟩, ⟨k, hk, hres 14 _ (Lambda.resolvedOf_class o8 o10 o9 ht)⟩⟩
      · rw [← hcode.1.1.1.1.2.2]
        exact ByteArray.ext o3.1
      · simp [Method.locks, Method.isSynchronized, ← hfl, o4.1, hasFlag, Acc.synchronized]
