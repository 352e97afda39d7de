/-! constants of the start: ArrayList's empty array; class mirrors -/
set_option maxRecDepth 100000
abbrev nrw : List Cond := flatC (Jvm.Cond.and given_1 narrow_1)
/-- what a static of the start holds -/
def st_ad (E : g_E) (C n d : String) : Nat := match (Term.static C n d).eval #[Value.ref E.2.1] E.1 none [] E.1 with
  | some (.ref q) => q
  | _ => 0
theorem g_cond {l : Launch} {E : g_E} (ok : g_ok l E) {w : Cond} (hw : w ∈ nrw) : w.before #[Value.ref E.2.1] E.1 = true := flat_of_before _ ok.2.2.2 _ hw
theorem V_okk {l : Launch} {E : g_E} {P : Outcome → g_G → Prop} {G : g_G} {M : g_M} {d pc : Nat} {L : List (Nat × Value)} {st : List Value} (k : g_ok l E → V l E M d P pc L st G) : V l E M d P pc L st G := by
  intro p e R s m args below meth c locs ls H C hR h1 h2 h3 hl
  exact k C.ok p e R s m args below meth c locs ls H C hR h1 h2 h3 hl
def emp_t : Term := .static "java/util/ArrayList" "DEFAULTCAPACITY_EMPTY_ELEMENTDATA" "[Ljava/lang/Object;"
def emp (E : g_E) : Nat := st_ad E "java/util/ArrayList" "DEFAULTCAPACITY_EMPTY_ELEMENTDATA" "[Ljava/lang/Object;"
theorem emp_w1 : Cond.exactly (.static "java/util/ArrayList" "DEFAULTCAPACITY_EMPTY_ELEMENTDATA" "[Ljava/lang/Object;") "[Ljava/lang/Object;" ∈ nrw := by decide +kernel
theorem emp_w2 : Cond.arrayOf (.static "java/util/ArrayList" "DEFAULTCAPACITY_EMPTY_ELEMENTDATA" "[Ljava/lang/Object;") (.object "java/lang/Object") ∈ nrw := by decide +kernel
theorem emp_w3 : Cond.eq (.length (.static "java/util/ArrayList" "DEFAULTCAPACITY_EMPTY_ELEMENTDATA" "[Ljava/lang/Object;")) (.int 0) ∈ nrw := by decide +kernel
theorem emp_ev {l : Launch} {E : g_E} (ok : g_ok l E) : emp_t.eval #[Value.ref E.2.1] E.1 none [] E.1 = some (.ref (emp E)) := by
  obtain ⟨a, c, cell, k, h1, -⟩ := Cond.exactly_spec (g_cond ok emp_w1)
  have e : emp E = a := by
    unfold emp st_ad
    rw [h1]
  rw [e]
  exact h1
theorem emp_Z {l : Launch} {E : g_E} (ok : g_ok l E) : va_Z "java/util/ArrayList" "DEFAULTCAPACITY_EMPTY_ELEMENTDATA" "[Ljava/lang/Object;" (.ref (emp E)) (fun _ => False) E.1 E.1.heap :=
  va_Zof (ok.2.1 _ q208) (ok.2.1 _ (lw_all_tbl q116)) (emp_ev ok) (fun _ _ h => h)
theorem emp_c {l : Launch} {E : g_E} (ok : g_ok l E) : g_cstA E (emp E) (.object "java/lang/Object") (0, .inr (.inr (.inr (.inr (fun _ => none))))) := by
  obtain ⟨a, c, cell, k, h1, -, h2, -, h3, -⟩ := Cond.exactly_spec (g_cond ok emp_w1)
  cases h1.symm.trans (emp_ev ok)
  obtain ⟨h4, h5⟩ := Cond.arrayOf_spec (g_cond ok emp_w2) (emp_ev ok) h2
  obtain ⟨a', cell', e1, e2, e3⟩ := Term.length_spec (va_eqt (g_cond ok emp_w3))
  cases e1.symm.trans (emp_ev ok)
  obtain ⟨e4, -⟩ := State.arrayAt?_spec e2
  cases h2.symm.trans e4
  injection e3 with e3
  exact ⟨cell, h2, h5, h3, h4, ⟨Nat.zero_le _, e3.symm⟩, fun j hj => absurd hj (Nat.not_lt_zero _)⟩
theorem V_emp {l : Launch} {E : g_E} {M : g_M} {d : Nat} {P : Outcome → g_G → Prop} {pc i : Nat} {L : List (Nat × Value)} {st : List Value} {G : g_G} (hlink : Cond.fieldLink M.1.cls i "java/util/ArrayList" "DEFAULTCAPACITY_EMPTY_ELEMENTDATA" "[Ljava/lang/Object;" ∈ lw_all) (hd : decode M.2.1 pc = .ok (.getstatic i, 3)) (k : V l E M d P (pc + 3) L (.ref (emp E) :: st) G) : V l E M d P pc L st G :=
  V_okk fun ok => V_gets (emp_Z ok) hlink rfl hd k
/-! the mirror of Object[] -/
def mir (E : g_E) : Nat := match (Term.mirror "[Ljava/lang/Object;").eval #[Value.ref E.2.1] E.1 none [] E.1 with
  | some (.ref q) => q
  | _ => 0
theorem mir_w : Cond.isRef (.mirror "[Ljava/lang/Object;") ∈ nrw := by decide +kernel
theorem mir_M {l : Launch} {E : g_E} (ok : g_ok l E) : va_Mi "[Ljava/lang/Object;" (mir E) E.1 := by
  obtain ⟨v, hv, -⟩ := Cond.isRef_spec (g_cond ok mir_w)
  obtain ⟨c, k, a, h1, h2, h3, h4⟩ := Term.mirror_spec hv
  have e : mir E = a := by
    unfold mir
    rw [show (Term.mirror "[Ljava/lang/Object;").eval #[Value.ref E.2.1] E.1 none [] E.1 = some (.ref a) from by rw [hv, h4]]
  rw [e]
  exact ⟨c, k, h1, h2, h3⟩
section VMIR
variable {l : Launch} {E : g_E} {M : g_M} {d : Nat} {P : Outcome → g_G → Prop} {pc : Nat} {L : List (Nat × Value)} {st : List Value} {G : g_G}
theorem V_ldcM {i : Nat} (hlink : Cond.classLink M.1.cls i "[Ljava/lang/Object;" ∈ lw_all) (hd : decode M.2.1 pc = .ok (.ldc i, 2)) (k : V l E M d P (pc + 2) L (.ref (mir E) :: st) G) : V l E M d P pc L st G := by
  intro p e R s m args below meth c locs ls H C hR h1 h2 h3 hl
  exact va_ldcM C.x C.b C.own (C.w hlink args) ((mir_M C.ok).moved C.W.alike) hd (k p e R s m args below meth c locs ls H C hR h1 h2 h3 hl)
theorem V_getC {i a n : Nat} {f : Nat → Option Nat} (hlink : Cond.methodLink M.1.cls i ⟨"java/lang/Object", "getClass", "()Ljava/lang/Class;"⟩ ∈ lw_all) (hG : G.1 a = some (g_aq E "java/lang/Object" n f)) (hw : Cond.arrayOver (.object "java/lang/Object") ∈ lw_tbl) (hdd : 1 ≤ d) (hlen : st.length ≤ 14) (hd : decode M.2.1 pc = .ok (.invokevirtual i, 3)) (k : V l E M d P (pc + 3) L (.ref (mir E) :: st) G) : V l E M d P pc L (.ref a :: st) G := by
  intro p e R s m args below meth c locs ls H C hR h1 h2 h3 hl
  obtain ⟨r1, r2, r3, r4⟩ := C.room
  have hsum := g_sum st
  obtain ⟨w1, w2, w3⟩ := g_arrO C.ok C.W hw
  have hc : H[a]? = some (vp_cell (g_A E (.object "java/lang/Object")) (n, .inr (.inr (.inr (.inr f))))) := hR.va hG
  have hfc : s.vm.findClass "[Ljava/lang/Object;" = some (g_A E (.object "java/lang/Object")) := va_nmO w2 (by decide +kernel)
  refine va_getC C.x C.b (by rw [C.ml]; first | exact hl.1 | exact hl.1.symm) C.own (C.w hlink args) (g_nwD C.ok C.W q3345 args) (C.w q3344 args) (C.w q863 args) (C.w q899 args) ((mir_M C.ok).moved C.W.alike) ⟨_, hc, rfl, hfc⟩ (by omega) (by omega) hd (k p e R s m args below meth c locs ls H C hR h1 h2 h3 hl)
end VMIR
