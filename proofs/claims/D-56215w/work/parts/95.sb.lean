/-! MODULE StringBuilder -/
set_option maxRecDepth 100000
theorem g_nwP {l : Launch} {E : g_E} (ok : g_ok l E) {s : State} (hW : E.1.WarmedH s.vm) {x : MethodName} (hw : Cond.privateMethod x ∈ lw_tbl) (args : Array Value) : (Cond.privateMethod x).before args s = true :=
  va_Nw.use rfl (va_tabs (A' := #[]) rfl (rfl : (E.1.setVm s.vm).vm = s.vm) (by rw [Cond.privateMethod_setVm hW.alike]; exact va_Nw.of rfl (ok.2.1 _ hw)))
section VCP
variable {l : Launch} {E : g_E} {M M' : g_M} {d d' n : Nat} {P : Outcome → g_G → Prop} {pc : Nat} {L : List (Nat × Value)} {st stk as : List Value} {G : g_G}
/-- a private method called by invokevirtual -/
theorem V_callP {i b ci : Nat} {fs : List Value} {q : vw_C} (mk : g_mk M' n) (hlink : Cond.methodLink M.1.cls i M'.1 ∈ lw_all) (hinst : Cond.instanceMethod M'.1 ∈ lw_all) (hp : Cond.privateMethod M'.1 ∈ lw_tbl) (hsame : Cond.sameMethod M'.1.cls M'.1.cls M'.1.name M'.1.desc ∈ lw_all) (hG : g_rd E G b (g_ob ci fs)) (hc : g_cl[ci]? = some q) (hd : decode M.2.1 pc = .ok (.invokevirtual i, 3)) (S : g_Spc l E M' d' (.ref b :: as) G (g_Kt l E M d P pc 3 L st)) (hn : as.length = n := by rfl) (hst : stk = as.reverse ++ .ref b :: st := by rfl) (hdd : d' + 1 ≤ d := by decide) (hlen : st.length ≤ 14 := by exact Nat.le_of_ble_eq_true rfl) : V l E M d P pc L stk G := by
  subst hst
  intro p e R s m args below meth c locs ls H C hR h1 h2 h3 hl T hT X
  subst hT
  obtain ⟨mm, methM, hnamed, hmethM, hstM, habM⟩ := Cond.instanceMethod_spec (C.w hinst args)
  have hsigM := g_cw_sig (C.w mk.1 args) hnamed hmethM
  obtain ⟨cellB, hcell, hobj, hcls⟩ := g_rcv C.ok C.W hR hG hc
  obtain ⟨cn, kP, r1, hcn, hkP0, hkPi, -, -⟩ := Cond.sameMethod_found (C.w hsame args)
  cases hcn.symm.trans (findClass_of_methodNamed hnamed)
  have hkP : s.vm.classes[mm.cls]? = some kP := hkP0
  have hpr := Cond.privateMethod_at (g_nwP C.ok C.W hp args) mm methM hnamed hmethM
  have hselP : selectMethod e.platform s.vm cellB.cls mm = .method mm := selectMethod_private hmethM hpr
  obtain ⟨vm₁, X₁, hstep₁⟩ := X.invokevirtual C.x C.own (C.w hlink args) hnamed hmethM hstM hkP hkPi mk.2.2.1 (a := b) (cell := cellB) hcell
    (fun z h => by rw [h] at hobj; cases hobj) hselP hmethM habM hkP hkPi (g := F0 m pc ls (as.reverse ++ .ref b :: st)) rfl (argsL := as) (rest := st) (hn.trans (mk.len _ hsigM)) rfl (by rw [C.b]; exact hd)
  exact g_fin C mk S hdd hlen hR h3 hl X₁ (by rw [C.b]; exact hd) (X₁.named hnamed) hstep₁
/-- a method of the super class by invokespecial -/
theorem V_callSup {i b ci : Nat} {fs : List Value} {q : vw_C} (mk : g_mk M' n) (hno : M'.1.name ≠ "<init>") (hlink : Cond.methodLink M.1.cls i M'.1 ∈ lw_all) (hsame : Cond.sameMethod M'.1.cls M'.1.cls M'.1.name M'.1.desc ∈ lw_all) (hsup : Cond.superclass M.1.cls M'.1.cls ∈ lw_all) (hinst : Cond.instanceMethod M'.1 ∈ lw_all) (hG : G.1 b = some (g_ob ci fs)) (hc : g_cl[ci]? = some q) (hd : decode M.2.1 pc = .ok (.invokespecial i, 3)) (S : g_Spc l E M' d' (.ref b :: as) G (g_Kt l E M d P pc 3 L st)) (hn : as.length = n := by rfl) (hst : stk = as.reverse ++ .ref b :: st := by rfl) (hdd : d' + 1 ≤ d := by decide) (hlen : st.length ≤ 14 := by exact Nat.le_of_ble_eq_true rfl) : V l E M d P pc L stk G := by
  subst hst
  intro p e R s m args below meth c locs ls H C hR h1 h2 h3 hl T hT X
  subst hT
  obtain ⟨mm, methM, hnamed, hmethM, hstM, habM⟩ := Cond.instanceMethod_spec (C.w hinst args)
  have hsigM := g_cw_sig (C.w mk.1 args) hnamed hmethM
  obtain ⟨cellB, hcell, hobj, hcls⟩ := g_recv C.ok C.W hR hG hc
  obtain ⟨-, -, kB, hkB, -⟩ := g_K C.ok C.W hc
  have hcB : cellB.cls = E.2.2.1 ci := Option.some.inj (hcls.symm.trans (g_K C.ok C.W hc).2.1)
  obtain ⟨ps, dk, kp, hps, hdk, hkp, hsuper, -, -, hnid⟩ := Cond.superclass_spec C.own (C.w hsup args)
  have hn9 : s.methodNamed? ⟨M'.1.cls, M'.1.name, M'.1.desc⟩ = some mm := hnamed
  have hpm : ps = mm.cls := Option.some.inj (hps.symm.trans (findClass_of_methodNamed hnamed))
  have hsub : s.vm.isSubclass ps mm.cls = true := by rw [hpm]; simp [Vm.isSubclass, Vm.isSubclassAux]
  obtain ⟨vm₁, X₁, hstep₁⟩ := X.invokespecialUp C.x C.own (C.w hlink args) (C.w hsame args) hn9 hmethM hstM habM hno hdk hnid hps hsuper hsub (a := b) (cell := cellB) hcell
    (fun z h => by rw [h] at hobj; cases hobj) (by rw [hcB]; exact hkB) (g := F0 m pc ls (as.reverse ++ .ref b :: st)) rfl (argsL := as) (rest := st) (hn.trans (mk.len _ hsigM)) rfl (by rw [C.b]; exact hd)
  exact g_fin C mk S hdd hlen hR h3 hl X₁ (by rw [C.b]; exact hd) (X₁.named hnamed) (fun target h => hstep₁ target (h []))
end VCP
section SB
variable {l : Launch} {E : g_E} {P : Outcome → g_G → Prop} {G : g_G}
/-- a StringBuilder: its array of cap places, all signs; cnt of them in use -/
def SbB (E : g_E) (n : Nat) (G : g_G) (a : Nat) (ml : Int32) (cnt cap : Nat) (f : Nat → Int32) : Prop := n ≤ a ∧ ∃ ar, n ≤ ar ∧ G.1 a = some (g_ob 21 [.ref ar, .int 0, .int ml, .int (nI cnt)]) ∧ G.1 ar = some (g_ab E cap f) ∧ cap ≤ 310 ∧ ∀ j, j < cap → isC (f j)
def SbAr (G : g_G) (a z : Nat) : Prop := ∃ (c ml cnt : Value), G.1 a = some (g_ob 21 [.ref z, c, ml, cnt])
def SbAt (E : g_E) (n : Nat) (G : g_G) (a : Nat) (w : List Int32) : Prop := ∃ ml cap f, SbB E n G a ml w.length cap f ∧ w.length ≤ cap ∧ ∀ k c, w[k]? = some c → f k = c
theorem SbB.ke2 {n a cnt cap : Nat} {ml : Int32} {f : Nat → Int32} {B : Nat → Prop} {G' : g_G} (h : SbB E n G a ml cnt cap f) (hk : g_ke B G G') (h1 : B a) (h2 : ∀ ar, SbAr G a ar → B ar) : SbB E n G' a ml cnt cap f := by
  obtain ⟨a1, ar, a2, a3, a4, a5⟩ := h
  exact ⟨a1, ar, a2, hk _ _ h1 a3, hk _ _ (h2 ar ⟨_, _, _, a3⟩) a4, a5⟩
theorem SbAt.ke2 {n a : Nat} {w : List Int32} {B : Nat → Prop} {G' : g_G} (h : SbAt E n G a w) (hk : g_ke B G G') (h1 : B a) (h2 : ∀ ar, SbAr G a ar → B ar) : SbAt E n G' a w := by
  obtain ⟨ml, cap, f, q1, q2, q3⟩ := h
  exact ⟨ml, cap, f, q1.ke2 hk h1 h2, q2, q3⟩
theorem SbAt.cell {n a : Nat} {w : List Int32} (h : SbAt E n G a w) : ∃ (ar : Nat) (ml : Int32), G.1 a = some (g_ob 21 [.ref ar, .int 0, .int ml, .int (nI w.length)]) := by
  obtain ⟨ml, cap, f, ⟨-, ar, -, q, -⟩, -⟩ := h
  exact ⟨ar, ml, q⟩
theorem SbAt.isC {n a : Nat} {w : List Int32} (h : SbAt E n G a w) : ∀ c ∈ w, isC c := by
  obtain ⟨ml, cap, f, ⟨-, ar, -, q, -, -, q2⟩, q3, q4⟩ := h
  intro c hc
  obtain ⟨k, hk⟩ := List.mem_iff_getElem?.mp hc
  rw [← q4 k c hk]
  exact q2 k (by have := (List.getElem?_eq_some_iff.mp hk).1; omega)
theorem sb5_init {a : Nat} (h : G.1 a = some (g_ob 21 [.null, .int 0, .int 0, .int 0])) (hB : g_B E ≤ a) (hf : g_fit E G 1 16) (k : P (.returned none) (g_up (g_new G (g_ab E 16 (fun _ => 0)) 16) a (g_ob 21 [.ref G.2.1, .int 0, .int 0, .int 0]))) : g_Spc l E mJ5_init 1 [.ref a, .int 16] G P := by
  obtain ⟨hf1, hf2⟩ := hf
  refine V_intro (plainFor_of_name plJ5) (Nat.le_of_ble_eq_true rfl) ?_
  refine V_wf (fun wf hBG => ?_)
  have ha := wf.ne h
  refine V_aload_n dJ5_init_0 rfl (Or.inl ⟨_, rfl⟩) ?_
  refine V_objInit q298 q170 q171 dJ5_init_1 (by decide) (by decide) ?_
  refine V_cs q299 dJ5_init_4 ?_
  refine V_if_eq 25 dJ5_init_7 (by decide) (fun c7 => absurd c7 (by decide)) (fun _ => ?_)
  refine V_aload_n dJ5_init_10 rfl (Or.inl ⟨_, rfl⟩) ?_
  refine V_iload_n dJ5_init_11 rfl ?_
  refine V_newarray_byte 16 rfl (by decide) q322 dJ5_init_12 (by first | omega | (simp only [g_new, g_up]; omega)) (by first | omega | (simp only [g_new, g_up]; omega)) ?_
  refine V_put ckJ6 (g_new_of ha h) (by first | assumption | omega | (simp only [g_new, g_up]; omega) | (simp only [g_new, g_up, g_B] at *; omega)) 0 (by decide) q308 rfl rfl rfl rfl (Nat.le_of_ble_eq_true rfl) dJ5_init_14 ?_
  refine V_aload_n dJ5_init_17 rfl (Or.inl ⟨_, rfl⟩) ?_
  refine V_iconstv 0 dJ5_init_18 (by decide) ?_
  refine V_put ckJ6 g_up_at (by first | assumption | omega | (simp only [g_new, g_up]; omega) | (simp only [g_new, g_up, g_B] at *; omega)) 1 (by decide) q309 rfl rfl rfl rfl (Nat.le_of_ble_eq_true rfl) dJ5_init_19 ?_
  refine V_goto 38 dJ5_init_22 (by decide) ?_
  refine V_return dJ5_init_38 rfl ?_
  rw [g_up_up]
  exact k
theorem sb_init {a : Nat} (h : G.1 a = some (g_ob 21 [.null, .int 0, .int 0, .int 0])) (hB : g_B E ≤ a) (hf : g_fit E G 1 16) (kk : ∀ G', g_mod (fun z => z ≠ a) G G' 1 16 → (∀ n, n ≤ a → n ≤ G.2.1 → SbAt E n G' a []) → P (.returned none) G') : g_Spc l E mJ6_init 2 [.ref a] G P := by
  refine V_intro (plainFor_of_name plJ6) (Nat.le_of_ble_eq_true rfl) ?_
  refine V_wf (fun wf hBG => ?_)
  have ha := wf.ne h
  refine V_aload_n dJ6_init_0 rfl (Or.inl ⟨_, rfl⟩) ?_
  refine V_bipushv 16 dJ6_init_1 (by decide) ?_
  refine V_callI kJ5_init rfl rfl q295 q296 dJ6_init_3 ?_ (d' := 1) (as := [_]) (hst := rfl)
  refine (sb5_init h hB hf ?_)
  refine V_return dJ6_init_6 rfl ?_
  refine kk _ ⟨?_, ?_, ?_, ?_, ?_⟩ (fun n hn hn2 => ⟨0, 16, fun _ => 0, ⟨hn, G.2.1, hn2, g_up_at, g_up_of (Ne.symm ha) (g_new_at rfl), by decide, fun _ _ => isC.zero⟩, Nat.zero_le _, fun k c hk => by cases hk⟩)
  · intro q x hq hx
    exact g_up_of hq (g_new_of (wf.ne hx) hx)
  · exact Nat.le_succ _
  · exact Nat.le_refl _
  · exact Nat.le_add_right _ _
  · exact Nat.le_refl _
/-- Arrays.copyOf of bytes, to more places -/
theorem arr_copyOfB {a n m : Nat} {f : Nat → Int32} (h : G.1 a = some (g_ab E n f)) (hfit : ∀ j, j < n → isC (f j)) (hn : n < m) (hm : m ≤ 1000) (hf : g_fit E G 1 m) (k : P (.returned (some (.ref G.2.1))) (g_new G (g_ab E m (va_cpy f (fun _ => 0) 0 0 n)) m)) : g_Spc l E mJ18_copyOf 1 [.ref a, .int (nI m)] G P := by
  obtain ⟨hf1, hf2⟩ := hf
  refine V_intro (plainFor_of_name plJ18) (Nat.le_of_ble_eq_true rfl) ?_
  refine V_wf (fun wf hB => ?_)
  have ha := wf.ne h
  have e : i_min (nI n) (nI m) = nI n := if_neg (nI_nlt (by omega) (by omega))
  refine V_iload_n dJ18_copyOf_0 rfl ?_
  refine V_aload_n dJ18_copyOf_1 rfl (Or.inl ⟨_, rfl⟩) ?_
  refine V_alen_b (by first | assumption | (repeat (first | exact g_up_at | exact g_new_at rfl | assumption | refine g_up_of (by first | assumption | (simp only [g_new, g_up]; omega) | omega) ?_ | refine g_new_of (by first | assumption | (simp only [g_new, g_up]; omega) | omega) ?_))) q322 dJ18_copyOf_2 ?_
  refine V_icmp_ne 14 dJ18_copyOf_3 (by decide) (fun _ => ?_) (fun c3 => absurd c3 (fun q => absurd ((nI_eq (by omega) (by omega)).mp q) (by omega)))
  refine V_iload_n dJ18_copyOf_14 rfl ?_
  refine V_newarray_byte m rfl (by omega) q322 dJ18_copyOf_15 (by first | omega | (simp only [g_new, g_up]; omega)) (by first | omega | (simp only [g_new, g_up]; omega)) ?_
  refine V_astore_n dJ18_copyOf_17 (Or.inl ⟨_, rfl⟩) (by decide) ?_
  refine V_aload_n dJ18_copyOf_18 rfl (Or.inl ⟨_, rfl⟩) ?_
  refine V_iconstv 0 dJ18_copyOf_19 (by decide) ?_
  refine V_aload_n dJ18_copyOf_20 rfl (Or.inl ⟨_, rfl⟩) ?_
  refine V_iconstv 0 dJ18_copyOf_21 (by decide) ?_
  refine V_aload_n dJ18_copyOf_22 rfl (Or.inl ⟨_, rfl⟩) ?_
  refine V_alen_b (g_new_of ha h) q322 dJ18_copyOf_23 ?_
  refine V_iload_n dJ18_copyOf_24 rfl ?_
  refine V_callS kJ17_min q629 q630 dJ18_copyOf_25 ?_ (d' := 0) (as := [_, _]) (hst := rfl)
  refine (math_min ?_)
  rw [e]
  refine V_copyB q632 q634 q633 q137 q322 (Or.inl (g_new_of ha h)) (g_new_at rfl) hB (by decide) (by decide) (nI_pos (by omega)) (by rw [nI_clamp (by omega), sb_cl0]; omega) (by rw [nI_clamp (by omega), sb_cl0]; omega) ?_ (Nat.le_of_ble_eq_true rfl) (by decide) dJ18_copyOf_28 ?_
  · intro i hi
    rw [nI_clamp (by omega)] at hi
    rw [sb_cl0, Nat.zero_add]
    exact (hfit i hi).fitB
  · rw [nI_clamp (by omega), sb_cl0, g_new_up rfl]
    refine V_aload_n dJ18_copyOf_31 rfl (Or.inl ⟨_, rfl⟩) ?_
    refine V_areturnA dJ18_copyOf_32 rfl ?_
    exact k
theorem sb_ensure {n a q cnt cap : Nat} {ml : Int32} {f : Nat → Int32} (H : SbB E n G a ml cnt cap f) (hB : g_B E ≤ n) (hn : n ≤ G.2.1) (hq : q ≤ 150) (hf : g_fit E G 1 310) (kk : ∀ G' cap' f', g_mod (fun z => z ≠ a) G G' 1 310 → SbB E n G' a ml cnt cap' f' → q ≤ cap' → cap ≤ cap' → (∀ j, j < cap → f' j = f j) → (∀ z, SbAr G' a z → SbAr G a z ∨ G.2.1 ≤ z) → P (.returned none) G') : g_Spc l E mJ5_ensureCapacityInternal 3 [.ref a, .int (nI q)] G P := by
  have H0 := H
  obtain ⟨a1, ar, a2, a3, a4, a5, a6⟩ := H
  obtain ⟨hf1, hf2⟩ := hf
  refine V_intro (plainFor_of_name plJ5) (Nat.le_of_ble_eq_true rfl) ?_
  refine V_wf (fun wf hBG => ?_)
  have ha := wf.ne a3
  have haa := wf.ne a4
  refine V_aload_n dJ5_ensureCapacityInternal_0 rfl (Or.inl ⟨_, rfl⟩) ?_
  refine V_get ckJ6 (by first | assumption | (repeat (first | exact g_up_at | exact g_new_at rfl | assumption | refine g_up_of (by first | assumption | (simp only [g_new, g_up]; omega) | omega) ?_ | refine g_new_of (by first | assumption | (simp only [g_new, g_up]; omega) | omega) ?_))) 0 (by decide) q308 rfl (by rfl) dJ5_ensureCapacityInternal_1 ?_
  refine V_alen_b (by first | assumption | (repeat (first | exact g_up_at | exact g_new_at rfl | assumption | refine g_up_of (by first | assumption | (simp only [g_new, g_up]; omega) | omega) ?_ | refine g_new_of (by first | assumption | (simp only [g_new, g_up]; omega) | omega) ?_))) q322 dJ5_ensureCapacityInternal_4 ?_
  refine V_aload_n dJ5_ensureCapacityInternal_5 rfl (Or.inl ⟨_, rfl⟩) ?_
  refine V_get ckJ6 (by first | assumption | (repeat (first | exact g_up_at | exact g_new_at rfl | assumption | refine g_up_of (by first | assumption | (simp only [g_new, g_up]; omega) | omega) ?_ | refine g_new_of (by first | assumption | (simp only [g_new, g_up]; omega) | omega) ?_))) 1 (by decide) q309 rfl (by rfl) dJ5_ensureCapacityInternal_6 ?_
  refine V_ishr dJ5_ensureCapacityInternal_9 ?_
  rw [sb_shr0]
  by_cases hc : q ≤ cap
  · have e : nI q - nI cap ≤ 0 := by
      rw [Int32.le_iff_toInt_le, pk_sub_toInt (by omega) (by omega), Int32.toInt_zero]
      omega
    refine V_istore_n dJ5_ensureCapacityInternal_10 (by decide) ?_
    refine V_iload_n dJ5_ensureCapacityInternal_11 rfl ?_
    refine V_iload_n dJ5_ensureCapacityInternal_12 rfl ?_
    refine V_isub dJ5_ensureCapacityInternal_13 ?_
    refine V_if_le 38 dJ5_ensureCapacityInternal_14 (by decide) (fun _ => ?_) (fun c14 => absurd e c14)
    refine V_return dJ5_ensureCapacityInternal_38 rfl ?_
    exact kk G cap f ⟨g_ke.refl, Nat.le_refl _, Nat.le_add_right _ _, Nat.le_refl _, Nat.le_add_right _ _⟩ H0 hc (Nat.le_refl _) (fun _ _ => rfl) (fun z hz => Or.inl hz)
  · have e : ¬ nI q - nI cap ≤ 0 := by
      rw [Int32.le_iff_toInt_le, pk_sub_toInt (by omega) (by omega), Int32.toInt_zero]
      omega
    generalize hm : cap + max (q - cap) (cap + 2) = m
    have hm1 : q ≤ m := by omega
    have hm2 : m ≤ 310 := by omega
    have hnew : nI cap + i_max (nI (q - cap)) (nI (cap + 2)) = nI m := by
      rw [nI_max (by omega) (by omega), nI_add, hm]
    have cap_ok : ∀ (P' : Outcome → g_G → Prop), P' (.returned (some (.int (nI m)))) G → g_Spc l E mJ5_newCapacity 2 [.ref a, .int (nI q)] G P' := by
      intro P' k
      refine V_intro (plainFor_of_name plJ5) (Nat.le_of_ble_eq_true rfl) ?_
      refine V_aload_n dJ5_newCapacity_0 rfl (Or.inl ⟨_, rfl⟩) ?_
      refine V_get ckJ6 (by first | assumption | (repeat (first | exact g_up_at | exact g_new_at rfl | assumption | refine g_up_of (by first | assumption | (simp only [g_new, g_up]; omega) | omega) ?_ | refine g_new_of (by first | assumption | (simp only [g_new, g_up]; omega) | omega) ?_))) 0 (by decide) q308 rfl (by rfl) dJ5_newCapacity_1 ?_
      refine V_alen_b (by first | assumption | (repeat (first | exact g_up_at | exact g_new_at rfl | assumption | refine g_up_of (by first | assumption | (simp only [g_new, g_up]; omega) | omega) ?_ | refine g_new_of (by first | assumption | (simp only [g_new, g_up]; omega) | omega) ?_))) q322 dJ5_newCapacity_4 ?_
      refine V_istore_n dJ5_newCapacity_5 (by decide) ?_
      refine V_iload_n dJ5_newCapacity_6 rfl ?_
      refine V_aload_n dJ5_newCapacity_7 rfl (Or.inl ⟨_, rfl⟩) ?_
      refine V_get ckJ6 (by first | assumption | (repeat (first | exact g_up_at | exact g_new_at rfl | assumption | refine g_up_of (by first | assumption | (simp only [g_new, g_up]; omega) | omega) ?_ | refine g_new_of (by first | assumption | (simp only [g_new, g_up]; omega) | omega) ?_))) 1 (by decide) q309 rfl (by rfl) dJ5_newCapacity_8 ?_
      refine V_ishl dJ5_newCapacity_11 ?_
      rw [sb_shl0]
      refine V_istore_n dJ5_newCapacity_12 (by decide) ?_
      refine V_iload_n dJ5_newCapacity_13 rfl ?_
      refine V_iload_n dJ5_newCapacity_14 rfl ?_
      refine V_isub dJ5_newCapacity_15 ?_
      rw [pk_sub (by omega)]
      refine V_istore dJ5_newCapacity_16 (by decide) ?_
      refine V_iload_n dJ5_newCapacity_18 rfl ?_
      refine V_iload dJ5_newCapacity_19 rfl ?_
      refine V_iload_n dJ5_newCapacity_21 rfl ?_
      refine V_iconstv 2 dJ5_newCapacity_22 (by decide) ?_
      refine V_aload_n dJ5_newCapacity_23 rfl (Or.inl ⟨_, rfl⟩) ?_
      refine V_get ckJ6 (by first | assumption | (repeat (first | exact g_up_at | exact g_new_at rfl | assumption | refine g_up_of (by first | assumption | (simp only [g_new, g_up]; omega) | omega) ?_ | refine g_new_of (by first | assumption | (simp only [g_new, g_up]; omega) | omega) ?_))) 1 (by decide) q309 rfl (by rfl) dJ5_newCapacity_24 ?_
      refine V_ishl dJ5_newCapacity_27 ?_
      rw [sb_shl0]
      refine V_iadd dJ5_newCapacity_28 ?_
      rw [show nI cap + 2 = nI (cap + 2) from nI_add cap 2]
      refine V_callS kJ16_newLength q608 q609 dJ5_newCapacity_29 ?_ (d' := 1) (as := [_, _, _]) (hst := rfl)
      refine (jc_newLength hnew (by omega) (by omega) ?_)
      refine V_istore dJ5_newCapacity_32 (by decide) ?_
      refine V_iload dJ5_newCapacity_34 rfl ?_
      refine V_ldc 2147483647 q618 dJ5_newCapacity_36 ?_
      refine V_icmp_ne 51 dJ5_newCapacity_38 (by decide) (fun _ => ?_) (fun c38 => absurd c38 (fun qq => absurd ((nI_eq (b := 2147483647) (by omega) (by decide)).mp qq) (by omega)))
      refine V_iload dJ5_newCapacity_51 rfl ?_
      refine V_aload_n dJ5_newCapacity_53 rfl (Or.inl ⟨_, rfl⟩) ?_
      refine V_get ckJ6 (by first | assumption | (repeat (first | exact g_up_at | exact g_new_at rfl | assumption | refine g_up_of (by first | assumption | (simp only [g_new, g_up]; omega) | omega) ?_ | refine g_new_of (by first | assumption | (simp only [g_new, g_up]; omega) | omega) ?_))) 1 (by decide) q309 rfl (by rfl) dJ5_newCapacity_54 ?_
      refine V_ishr dJ5_newCapacity_57 ?_
      rw [sb_shr0]
      refine V_ireturn dJ5_newCapacity_58 rfl ?_
      exact k
    refine V_istore_n dJ5_ensureCapacityInternal_10 (by decide) ?_
    refine V_iload_n dJ5_ensureCapacityInternal_11 rfl ?_
    refine V_iload_n dJ5_ensureCapacityInternal_12 rfl ?_
    refine V_isub dJ5_ensureCapacityInternal_13 ?_
    refine V_if_le 38 dJ5_ensureCapacityInternal_14 (by decide) (fun c14 => absurd c14 e) (fun _ => ?_)
    refine V_aload_n dJ5_ensureCapacityInternal_17 rfl (Or.inl ⟨_, rfl⟩) ?_
    refine V_aload_n dJ5_ensureCapacityInternal_18 rfl (Or.inl ⟨_, rfl⟩) ?_
    refine V_get ckJ6 (by first | assumption | (repeat (first | exact g_up_at | exact g_new_at rfl | assumption | refine g_up_of (by first | assumption | (simp only [g_new, g_up]; omega) | omega) ?_ | refine g_new_of (by first | assumption | (simp only [g_new, g_up]; omega) | omega) ?_))) 0 (by decide) q308 rfl (by rfl) dJ5_ensureCapacityInternal_19 ?_
    refine V_aload_n dJ5_ensureCapacityInternal_22 rfl (Or.inl ⟨_, rfl⟩) ?_
    refine V_iload_n dJ5_ensureCapacityInternal_23 rfl ?_
    refine V_callP (q := (RJ6, TJ6, 4)) kJ5_newCapacity q604 q606 q605 q3296 (Or.inl (by first | assumption | (repeat (first | exact g_up_at | exact g_new_at rfl | assumption | refine g_up_of (by first | assumption | (simp only [g_new, g_up]; omega) | omega) ?_ | refine g_new_of (by first | assumption | (simp only [g_new, g_up]; omega) | omega) ?_)))) rfl dJ5_ensureCapacityInternal_24 ?_ (d' := 2) (as := [_]) (hst := rfl)
    refine (cap_ok _ ?_)
    refine V_aload_n dJ5_ensureCapacityInternal_27 rfl (Or.inl ⟨_, rfl⟩) ?_
    refine V_get ckJ6 (by first | assumption | (repeat (first | exact g_up_at | exact g_new_at rfl | assumption | refine g_up_of (by first | assumption | (simp only [g_new, g_up]; omega) | omega) ?_ | refine g_new_of (by first | assumption | (simp only [g_new, g_up]; omega) | omega) ?_))) 1 (by decide) q309 rfl (by rfl) dJ5_ensureCapacityInternal_28 ?_
    refine V_ishl dJ5_ensureCapacityInternal_31 ?_
    rw [sb_shl0]
    refine V_callS kJ18_copyOf q619 q620 dJ5_ensureCapacityInternal_32 ?_ (d' := 1) (as := [_, _]) (hst := rfl)
    refine (arr_copyOfB a4 a6 (by omega) (by omega) ⟨by omega, by omega⟩ ?_)
    refine V_put ckJ6 (g_new_of ha a3) (by first | assumption | omega | (simp only [g_new, g_up]; omega) | (simp only [g_new, g_up, g_B] at *; omega)) 0 (by decide) q308 rfl rfl rfl rfl (Nat.le_of_ble_eq_true rfl) dJ5_ensureCapacityInternal_35 ?_
    refine V_return dJ5_ensureCapacityInternal_38 rfl ?_
    refine kk _ m (va_cpy f (fun _ => 0) 0 0 cap) ⟨?_, ?_, ?_, ?_, ?_⟩ ⟨a1, G.2.1, hn, g_up_at, g_up_of (Ne.symm ha) (g_new_at rfl), by omega, fun j hj => ?_⟩ hm1 (by omega) (fun j hj => sb_cpy0 hj) (fun z hz => ?_)
    · intro z x hz hx
      exact g_up_of hz (g_new_of (wf.ne hx) hx)
    · exact Nat.le_succ _
    · exact Nat.le_refl _
    · exact Nat.le_add_right _ _
    · show G.2.2 + m ≤ _
      omega
    · by_cases hj2 : j < cap
      · rw [sb_cpy0 hj2]; exact a6 j hj2
      · rw [pk_cpy_out (Or.inr (by omega))]; exact isC.zero
    · obtain ⟨c9, ml9, cnt9, hz⟩ := hz
      rw [g_up_self] at hz
      cases hz
      exact Or.inr (Nat.le_refl _)
theorem sb_isLatin1 {n a cnt cap : Nat} {ml : Int32} {f : Nat → Int32} (H : SbB E n G a ml cnt cap f) (k : P (.returned (some (.int 1))) G) : g_Spc l E mJ5_isLatin1 0 [.ref a] G P := by
  obtain ⟨a1, ar, a2, a3, a4, a5, a6⟩ := H
  refine V_intro (plainFor_of_name plJ5) (Nat.le_of_ble_eq_true rfl) ?_
  refine V_cs q299 dJ5_isLatin1_0 ?_
  refine V_if_eq 17 dJ5_isLatin1_3 (by decide) (fun c3 => absurd c3 (by decide)) (fun _ => ?_)
  refine V_aload_n dJ5_isLatin1_6 rfl (Or.inl ⟨_, rfl⟩) ?_
  refine V_get ckJ6 (by first | assumption | (repeat (first | exact g_up_at | exact g_new_at rfl | assumption | refine g_up_of (by first | assumption | (simp only [g_new, g_up]; omega) | omega) ?_ | refine g_new_of (by first | assumption | (simp only [g_new, g_up]; omega) | omega) ?_))) 1 (by decide) q309 rfl (by rfl) dJ5_isLatin1_7 ?_
  refine V_if_ne 17 dJ5_isLatin1_10 (by decide) (fun c10 => absurd c10 (fun q => q rfl)) (fun _ => ?_)
  refine V_iconstv 1 dJ5_isLatin1_13 (by decide) ?_
  refine V_goto 18 dJ5_isLatin1_14 (by decide) ?_
  refine V_zreturn dJ5_isLatin1_18 rfl rfl ?_
  exact k
theorem la_canEncode2 {c : Int32} (hc : isC c) (k : P (.returned (some (.int 1))) G) : g_Spc l E mJ19_canEncode_2 0 [.int c] G P := by
  have e : ¬ 255 < c := by
    obtain ⟨j, hj, rfl⟩ := hc
    exact nI_nlt (b := 255) (a := 255) (Nat.le_refl _) (by decide) |> fun _ => (show ¬ nI 255 < nI j from nI_nlt (by omega) (by decide))
  refine V_intro (plainFor_of_name plJ19) (Nat.le_of_ble_eq_true rfl) ?_
  refine V_iload_n dJ19_canEncode_2_0 rfl ?_
  refine V_sipushv 255 dJ19_canEncode_2_1 (by decide) ?_
  refine V_icmp_gt 11 dJ19_canEncode_2_4 (by decide) (fun c4 => absurd c4 e) (fun _ => ?_)
  refine V_iconstv 1 dJ19_canEncode_2_7 (by decide) ?_
  refine V_goto 12 dJ19_canEncode_2_8 (by decide) ?_
  refine V_zreturn dJ19_canEncode_2_12 rfl rfl ?_
  exact k
theorem sb5_appendC {n a : Nat} {w : List Int32} {c : Int32} (H : SbAt E n G a w) (hB : g_B E ≤ n) (hn : n ≤ G.2.1) (hc : isC c) (hl : w.length ≤ 140) (hf : g_fit E G 1 310) (kk : ∀ G', g_mod (fun z => z ≠ a ∧ ¬ SbAr G a z) G G' 1 310 → (∀ z, SbAr G' a z → SbAr G a z ∨ G.2.1 ≤ z) → SbAt E n G' a (w ++ [c]) → P (.returned (some (.ref a))) G') : g_Spc l E mJ5_append_3 4 [.ref a, .int c] G P := by
  obtain ⟨ml, cap, f, HB, q2, q3⟩ := H
  obtain ⟨ar0, b3⟩ : ∃ ar, G.1 a = some (g_ob 21 [.ref ar, .int 0, .int ml, .int (nI w.length)]) := by
    obtain ⟨-, ar, -, b3, -⟩ := HB
    exact ⟨ar, b3⟩
  refine V_intro (plainFor_of_name plJ5) (Nat.le_of_ble_eq_true rfl) ?_
  refine V_wf (fun wf hBG => ?_)
  refine V_aload_n dJ5_append_3_0 rfl (Or.inl ⟨_, rfl⟩) ?_
  refine V_aload_n dJ5_append_3_1 rfl (Or.inl ⟨_, rfl⟩) ?_
  refine V_get ckJ6 (by first | assumption | (repeat (first | exact g_up_at | exact g_new_at rfl | assumption | refine g_up_of (by first | assumption | (simp only [g_new, g_up]; omega) | omega) ?_ | refine g_new_of (by first | assumption | (simp only [g_new, g_up]; omega) | omega) ?_))) 3 (by decide) q312 rfl (by rfl) dJ5_append_3_2 ?_
  refine V_iconstv 1 dJ5_append_3_5 (by decide) ?_
  refine V_iadd dJ5_append_3_6 ?_
  rw [show nI w.length + 1 = nI (w.length + 1) from nI_1 _]
  refine V_callP (q := (RJ6, TJ6, 4)) kJ5_ensureCapacityInternal q600 q602 q601 q3295 (Or.inl (by first | assumption | (repeat (first | exact g_up_at | exact g_new_at rfl | assumption | refine g_up_of (by first | assumption | (simp only [g_new, g_up]; omega) | omega) ?_ | refine g_new_of (by first | assumption | (simp only [g_new, g_up]; omega) | omega) ?_)))) rfl dJ5_append_3_7 ?_ (d' := 3) (as := [_]) (hst := rfl)
  refine (sb_ensure HB hB hn (by omega) hf (fun G1 cap1 f1 m HB1 r1 r2 r3 r4 => ?_))
  have HB10 := HB1
  obtain ⟨a1, ar, a2, a3, a4, a5, a6⟩ := HB1
  have hin : vp_in (nI w.length) cap1 := vp_in_nI (by omega) (by omega)
  have hara : ar ≠ a := g_apart a4 a3 (by intro e; cases e)
  have hBa : g_B E ≤ a := Nat.le_trans hB a1
  have hBar : g_B E ≤ ar := Nat.le_trans hB a2
  refine V_aload_n dJ5_append_3_10 rfl (Or.inl ⟨_, rfl⟩) ?_
  refine V_callV (q := (RJ6, TJ6, 4)) kJ5_isLatin1 q635 q636 q638 (by first | assumption | (repeat (first | exact g_up_at | exact g_new_at rfl | assumption | refine g_up_of (by first | assumption | (simp only [g_new, g_up]; omega) | omega) ?_ | refine g_new_of (by first | assumption | (simp only [g_new, g_up]; omega) | omega) ?_))) rfl dJ5_append_3_11 ?_ (d' := 0) (as := []) (hst := rfl)
  refine (sb_isLatin1 HB10 ?_)
  refine V_if_eq 45 dJ5_append_3_14 (by decide) (fun c14 => absurd c14 (by decide)) (fun _ => ?_)
  refine V_iload_n dJ5_append_3_17 rfl ?_
  refine V_callS kJ19_canEncode_2 q2289 q2290 dJ5_append_3_18 ?_ (d' := 0) (as := [_]) (hst := rfl)
  refine (la_canEncode2 hc ?_)
  refine V_if_eq 45 dJ5_append_3_21 (by decide) (fun c21 => absurd c21 (by decide)) (fun _ => ?_)
  refine V_aload_n dJ5_append_3_24 rfl (Or.inl ⟨_, rfl⟩) ?_
  refine V_get ckJ6 (by first | assumption | (repeat (first | exact g_up_at | exact g_new_at rfl | assumption | refine g_up_of (by first | assumption | (simp only [g_new, g_up]; omega) | omega) ?_ | refine g_new_of (by first | assumption | (simp only [g_new, g_up]; omega) | omega) ?_))) 0 (by decide) q308 rfl (by rfl) dJ5_append_3_25 ?_
  refine V_aload_n dJ5_append_3_28 rfl (Or.inl ⟨_, rfl⟩) ?_
  refine V_dup dJ5_append_3_29 rfl ?_
  refine V_get ckJ6 (by first | assumption | (repeat (first | exact g_up_at | exact g_new_at rfl | assumption | refine g_up_of (by first | assumption | (simp only [g_new, g_up]; omega) | omega) ?_ | refine g_new_of (by first | assumption | (simp only [g_new, g_up]; omega) | omega) ?_))) 3 (by decide) q312 rfl (by rfl) dJ5_append_3_30 ?_
  refine V_dup_x1 dJ5_append_3_33 rfl rfl ?_
  refine V_iconstv 1 dJ5_append_3_34 (by decide) ?_
  refine V_iadd dJ5_append_3_35 ?_
  rw [show nI w.length + 1 = nI (w.length + 1) from nI_1 _]
  refine V_put ckJ6 (by first | assumption | (repeat (first | exact g_up_at | exact g_new_at rfl | assumption | refine g_up_of (by first | assumption | (simp only [g_new, g_up]; omega) | omega) ?_ | refine g_new_of (by first | assumption | (simp only [g_new, g_up]; omega) | omega) ?_))) (by first | assumption | omega | (simp only [g_new, g_up]; omega) | (simp only [g_new, g_up, g_B] at *; omega)) 3 (by decide) q312 rfl rfl rfl rfl (Nat.le_of_ble_eq_true rfl) dJ5_append_3_36 ?_
  refine V_iload_n dJ5_append_3_39 rfl ?_
  refine V_i2b dJ5_append_3_40 ?_
  rw [hc.i2b]
  refine V_bastore (g_up_of hara a4) hBar hin q322 dJ5_append_3_41 ?_
  refine V_goto 75 dJ5_append_3_42 (by decide) ?_
  refine V_aload_n dJ5_append_3_75 rfl (Or.inl ⟨_, rfl⟩) ?_
  refine V_areturnO dJ5_append_3_76 rfl ?_
  rw [nI_clamp (by omega), hc.narB]
  refine kk _ ?_ ?_ ⟨ml, cap1, upd f1 w.length c, ⟨a1, ar, a2, g_up_of (Ne.symm hara) (by rw [g_up_self, List.length_append]; rfl), g_up_at, a5, fun j hj => ?_⟩, ?_, fun k x hk => ?_⟩
  · obtain ⟨m1, m2, m3, m4, m5⟩ := m
    refine ⟨fun z x hz hx => ?_, m2, m3, m4, m5⟩
    have hx1 := m1 z x hz.1 hx
    have hzar : z ≠ ar := fun e => by
      rcases r4 ar ⟨_, _, _, a3⟩ with h9 | h9
      · exact hz.2 (e ▸ h9)
      · have := wf _ _ hx; omega
    exact g_up_of hzar (g_up_of hz.1 hx1)
  · intro z hz
    obtain ⟨c9, ml9, cnt9, hz⟩ := hz
    rw [g_up_ne _ _ (Ne.symm hara), g_up_self] at hz
    cases hz
    exact r4 _ ⟨_, _, _, a3⟩
  · by_cases e : j = w.length
    · rw [e, pk_us]; exact hc
    · rw [pk_un e]; exact a6 j hj
  · rw [List.length_append]
    exact r1
  · by_cases e : k < w.length
    · rw [List.getElem?_append_left e] at hk
      rw [pk_un (by omega), r3 k (by omega)]
      exact q3 k x hk
    · have hkl := (List.getElem?_eq_some_iff.mp hk).1
      rw [List.length_append] at hkl
      have hkl : k < w.length + 1 := hkl
      have ek : k = w.length := by omega
      subst ek
      rw [List.getElem?_append_right (Nat.le_refl _), Nat.sub_self] at hk
      cases hk
      exact pk_us
theorem sb_appendC {n a : Nat} {w : List Int32} {c : Int32} (H : SbAt E n G a w) (hB : g_B E ≤ n) (hn : n ≤ G.2.1) (hc : isC c) (hl : w.length ≤ 140) (hf : g_fit E G 1 310) (kk : ∀ G', g_mod (fun z => z ≠ a ∧ ¬ SbAr G a z) G G' 1 310 → (∀ z, SbAr G' a z → SbAr G a z ∨ G.2.1 ≤ z) → SbAt E n G' a (w ++ [c]) → P (.returned (some (.ref a))) G') : g_Spc l E mJ6_append_3 5 [.ref a, .int c] G P := by
  obtain ⟨ar, ml, hx⟩ := H.cell
  refine V_intro (plainFor_of_name plJ6) (Nat.le_of_ble_eq_true rfl) ?_
  refine V_aload_n dJ6_append_3_0 rfl (Or.inl ⟨_, rfl⟩) ?_
  refine V_iload_n dJ6_append_3_1 rfl ?_
  refine V_callSup (q := (RJ6, TJ6, 4)) kJ5_append_3 (by decide) q2286 q3303 q321 q2287 (by first | assumption | (repeat (first | exact g_up_at | exact g_new_at rfl | assumption | refine g_up_of (by first | assumption | (simp only [g_new, g_up]; omega) | omega) ?_ | refine g_new_of (by first | assumption | (simp only [g_new, g_up]; omega) | omega) ?_))) rfl dJ6_append_3_2 ?_ (d' := 4) (as := [_]) (hst := rfl)
  refine (sb5_appendC H hB hn hc hl hf (fun G1 m h1 h2 => ?_))
  refine V_pop dJ6_append_3_5 rfl ?_
  refine V_aload_n dJ6_append_3_6 rfl (Or.inl ⟨_, rfl⟩) ?_
  refine V_areturnO dJ6_append_3_7 rfl ?_
  exact kk G1 m h1 h2
theorem sb_getBytes {b at_ cap : Nat} {ar : Nat} {u : List Int32} {h z : Int32} {g : Nat → Int32} (K : StrR E G b u h z) (hu : ∀ c ∈ u, isC c) (hG : G.1 ar = some (g_ab E cap g)) (hB : g_B E ≤ ar) (hc : at_ + u.length ≤ cap) (hcap : cap ≤ 310) (k : ∀ f : Nat → Int32, (∀ k c, u[k]? = some c → f k = c) → P (.returned none) (g_up G ar (g_ab E cap (va_cpy f g 0 at_ u.length)))) : g_Spc l E mJ7_getBytes 1 [.ref b, .ref ar, .int (nI at_), .int 0] G P := by
  have K0 := K
  obtain ⟨vb, g1, f, g2, g3⟩ := K
  refine V_intro (plainFor_of_name plJ7) (Nat.le_of_ble_eq_true rfl) ?_
  refine V_aload_n dJ7_getBytes_0 rfl (Or.inl ⟨_, rfl⟩) ?_
  refine V_callVR (q := (RJ7, TJ7, 4)) kJ7_coder q670 q671 q672 g1 rfl dJ7_getBytes_1 ?_ (d' := 0) (as := []) (hst := rfl)
  refine (str_coder K0 ?_)
  refine V_iload_n dJ7_getBytes_4 rfl ?_
  refine V_icmp_ne 28 dJ7_getBytes_5 (by decide) (fun c5 => absurd c5 (fun q => q rfl)) (fun _ => ?_)
  refine V_aload_n dJ7_getBytes_8 rfl (Or.inl ⟨_, rfl⟩) ?_
  refine V_getR ckJ7 g1 0 (by decide) q813 rfl (by rfl) dJ7_getBytes_9 ?_
  refine V_iconstv 0 dJ7_getBytes_12 (by decide) ?_
  refine V_aload_n dJ7_getBytes_13 rfl (Or.inl ⟨_, rfl⟩) ?_
  refine V_iload_n dJ7_getBytes_14 rfl ?_
  refine V_iload_n dJ7_getBytes_15 rfl ?_
  refine V_ishl dJ7_getBytes_16 ?_
  rw [show nI at_ <<< ((0 : Int32) &&& 31) = nI at_ from sb_shl0 _]
  refine V_aload_n dJ7_getBytes_17 rfl (Or.inl ⟨_, rfl⟩) ?_
  refine V_getR ckJ7 g1 0 (by decide) q813 rfl (by rfl) dJ7_getBytes_18 ?_
  refine V_alenR_b g2 q322 dJ7_getBytes_21 ?_
  refine V_copyB q707 q634 q633 q137 q322 g2 hG hB (by decide) (nI_pos (by omega)) (nI_pos (by omega)) (by rw [nI_clamp (by omega), sb_cl0]; omega) (by rw [nI_clamp (by omega), nI_clamp (by omega)]; omega) ?_ (Nat.le_of_ble_eq_true rfl) (by decide) dJ7_getBytes_22 ?_
  · intro i hi
    rw [nI_clamp (by omega)] at hi
    obtain ⟨x, hx, -⟩ := drop_at hi
    rw [sb_cl0, Nat.zero_add, g3 i x hx]
    exact (hu x (List.mem_of_getElem? hx)).fitB
  · rw [nI_clamp (by omega), nI_clamp (by omega), sb_cl0]
    refine V_goto 43 dJ7_getBytes_25 (by decide) ?_
    refine V_return dJ7_getBytes_43 rfl ?_
    exact k f g3
theorem sb5_appendS {n a b : Nat} {w u : List Int32} {h z : Int32} (H : SbAt E n G a w) (K : StrR E G b u h z) (hu : ∀ c ∈ u, isC c) (hB : g_B E ≤ n) (hn : n ≤ G.2.1) (hl : w.length + u.length ≤ 150) (hf : g_fit E G 1 310) (kk : ∀ G', g_mod (fun z => z ≠ a ∧ ¬ SbAr G a z) G G' 1 310 → (∀ z, SbAr G' a z → SbAr G a z ∨ G.2.1 ≤ z) → SbAt E n G' a (w ++ u) → P (.returned (some (.ref a))) G') : g_Spc l E mJ5_append 4 [.ref a, .ref b] G P := by
  obtain ⟨ml, cap, f, HB, q2, q3⟩ := H
  obtain ⟨ar0, b3⟩ : ∃ ar, G.1 a = some (g_ob 21 [.ref ar, .int 0, .int ml, .int (nI w.length)]) := by
    obtain ⟨-, ar, -, b3, -⟩ := HB
    exact ⟨ar, b3⟩
  obtain ⟨vb, g1, gf, g2, g3⟩ := id K
  refine V_intro (plainFor_of_name plJ5) (Nat.le_of_ble_eq_true rfl) ?_
  refine V_wf (fun wf hBG => ?_)
  refine V_aload_n dJ5_append_0 rfl (Or.inl ⟨_, rfl⟩) ?_
  refine V_ifnonnull 9 dJ5_append_1 (by decide) ?_
  refine V_aload_n dJ5_append_9 rfl (Or.inl ⟨_, rfl⟩) ?_
  refine V_callVR (q := (RJ7, TJ7, 4)) kJ7_length q666 q667 q668 g1 rfl dJ5_append_10 ?_ (d' := 1) (as := []) (hst := rfl)
  refine (str_length K ?_)
  refine V_istore_n dJ5_append_13 (by decide) ?_
  refine V_aload_n dJ5_append_14 rfl (Or.inl ⟨_, rfl⟩) ?_
  refine V_aload_n dJ5_append_15 rfl (Or.inl ⟨_, rfl⟩) ?_
  refine V_get ckJ6 (by first | assumption | (repeat (first | exact g_up_at | exact g_new_at rfl | assumption | refine g_up_of (by first | assumption | (simp only [g_new, g_up]; omega) | omega) ?_ | refine g_new_of (by first | assumption | (simp only [g_new, g_up]; omega) | omega) ?_))) 3 (by decide) q312 rfl (by rfl) dJ5_append_16 ?_
  refine V_iload_n dJ5_append_19 rfl ?_
  refine V_iadd dJ5_append_20 ?_
  rw [nI_add]
  refine V_callP (q := (RJ6, TJ6, 4)) kJ5_ensureCapacityInternal q600 q602 q601 q3295 (Or.inl (by first | assumption | (repeat (first | exact g_up_at | exact g_new_at rfl | assumption | refine g_up_of (by first | assumption | (simp only [g_new, g_up]; omega) | omega) ?_ | refine g_new_of (by first | assumption | (simp only [g_new, g_up]; omega) | omega) ?_)))) rfl dJ5_append_21 ?_ (d' := 3) (as := [_]) (hst := rfl)
  refine (sb_ensure HB hB hn (by omega) hf (fun G1 cap1 f1 m HB1 r1 r2 r3 r4 => ?_))
  have HB10 := HB1
  obtain ⟨a1, ar, a2, a3, a4, a5, a6⟩ := HB1
  have hara : ar ≠ a := g_apart a4 a3 (by intro e; cases e)
  have hBa : g_B E ≤ a := Nat.le_trans hB a1
  have hBar : g_B E ≤ ar := Nat.le_trans hB a2
  have K1 : StrR E G1 b u h z := K.ke2 m.1 (fun q x hx hi e => by
    subst e
    rw [b3] at hx
    cases hx
    cases hi)
  obtain ⟨vb1, k1, kf1, k2, k3⟩ := id K1
  have put : ∀ (P' : Outcome → g_G → Prop), (∀ fu : Nat → Int32, (∀ k c, u[k]? = some c → fu k = c) → P' (.returned none) (g_up G1 ar (g_ab E cap1 (va_cpy fu f1 0 w.length u.length)))) → g_Spc l E mJ5_putStringAt 2 [.ref a, .int (nI w.length), .ref b] G1 P' := by
    intro P' kP
    have infl : ∀ (P'' : Outcome → g_G → Prop), P'' (.returned none) G1 → g_Spc l E mJ5_inflateIfNeededFor 1 [.ref a, .ref b] G1 P'' := by
      intro P'' k9
      refine V_intro (plainFor_of_name plJ5) (Nat.le_of_ble_eq_true rfl) ?_
      refine V_cs q299 dJ5_inflateIfNeededFor_0 ?_
      refine V_if_eq 21 dJ5_inflateIfNeededFor_3 (by decide) (fun c3 => absurd c3 (by decide)) (fun _ => ?_)
      refine V_aload_n dJ5_inflateIfNeededFor_6 rfl (Or.inl ⟨_, rfl⟩) ?_
      refine V_get ckJ6 (by first | assumption | (repeat (first | exact g_up_at | exact g_new_at rfl | assumption | refine g_up_of (by first | assumption | (simp only [g_new, g_up]; omega) | omega) ?_ | refine g_new_of (by first | assumption | (simp only [g_new, g_up]; omega) | omega) ?_))) 1 (by decide) q309 rfl (by rfl) dJ5_inflateIfNeededFor_7 ?_
      refine V_aload_n dJ5_inflateIfNeededFor_10 rfl (Or.inl ⟨_, rfl⟩) ?_
      refine V_callVR (q := (RJ7, TJ7, 4)) kJ7_coder q683 q671 q672 k1 rfl dJ5_inflateIfNeededFor_11 ?_ (d' := 0) (as := []) (hst := rfl)
      refine (str_coder K1 ?_)
      refine V_icmp_eq 21 dJ5_inflateIfNeededFor_14 (by decide) (fun _ => ?_) (fun c14 => absurd rfl c14)
      refine V_return dJ5_inflateIfNeededFor_21 rfl ?_
      exact k9
    refine V_intro (plainFor_of_name plJ5) (Nat.le_of_ble_eq_true rfl) ?_
    refine V_aload_n dJ5_putStringAt_0 rfl (Or.inl ⟨_, rfl⟩) ?_
    refine V_aload_n dJ5_putStringAt_1 rfl (Or.inl ⟨_, rfl⟩) ?_
    refine V_callP (q := (RJ6, TJ6, 4)) kJ5_inflateIfNeededFor q679 q681 q680 q3298 (Or.inl (by first | assumption | (repeat (first | exact g_up_at | exact g_new_at rfl | assumption | refine g_up_of (by first | assumption | (simp only [g_new, g_up]; omega) | omega) ?_ | refine g_new_of (by first | assumption | (simp only [g_new, g_up]; omega) | omega) ?_)))) rfl dJ5_putStringAt_2 ?_ (d' := 1) (as := [_]) (hst := rfl)
    refine (infl _ ?_)
    refine V_aload_n dJ5_putStringAt_5 rfl (Or.inl ⟨_, rfl⟩) ?_
    refine V_aload_n dJ5_putStringAt_6 rfl (Or.inl ⟨_, rfl⟩) ?_
    refine V_get ckJ6 (by first | assumption | (repeat (first | exact g_up_at | exact g_new_at rfl | assumption | refine g_up_of (by first | assumption | (simp only [g_new, g_up]; omega) | omega) ?_ | refine g_new_of (by first | assumption | (simp only [g_new, g_up]; omega) | omega) ?_))) 0 (by decide) q308 rfl (by rfl) dJ5_putStringAt_7 ?_
    refine V_iload_n dJ5_putStringAt_10 rfl ?_
    refine V_aload_n dJ5_putStringAt_11 rfl (Or.inl ⟨_, rfl⟩) ?_
    refine V_get ckJ6 (by first | assumption | (repeat (first | exact g_up_at | exact g_new_at rfl | assumption | refine g_up_of (by first | assumption | (simp only [g_new, g_up]; omega) | omega) ?_ | refine g_new_of (by first | assumption | (simp only [g_new, g_up]; omega) | omega) ?_))) 1 (by decide) q309 rfl (by rfl) dJ5_putStringAt_12 ?_
    refine V_callVR (q := (RJ7, TJ7, 4)) kJ7_getBytes q703 q704 q705 k1 rfl dJ5_putStringAt_15 ?_ (d' := 1) (as := [_, _, _]) (hst := rfl)
    refine (sb_getBytes K1 hu a4 hBar r1 a5 (fun fu hfu => ?_))
    refine V_return dJ5_putStringAt_18 rfl ?_
    exact kP fu hfu
  refine V_aload_n dJ5_append_24 rfl (Or.inl ⟨_, rfl⟩) ?_
  refine V_aload_n dJ5_append_25 rfl (Or.inl ⟨_, rfl⟩) ?_
  refine V_get ckJ6 (by first | assumption | (repeat (first | exact g_up_at | exact g_new_at rfl | assumption | refine g_up_of (by first | assumption | (simp only [g_new, g_up]; omega) | omega) ?_ | refine g_new_of (by first | assumption | (simp only [g_new, g_up]; omega) | omega) ?_))) 3 (by decide) q312 rfl (by rfl) dJ5_append_26 ?_
  refine V_aload_n dJ5_append_29 rfl (Or.inl ⟨_, rfl⟩) ?_
  refine V_callP (q := (RJ6, TJ6, 4)) kJ5_putStringAt q675 q677 q676 q3297 (Or.inl (by first | assumption | (repeat (first | exact g_up_at | exact g_new_at rfl | assumption | refine g_up_of (by first | assumption | (simp only [g_new, g_up]; omega) | omega) ?_ | refine g_new_of (by first | assumption | (simp only [g_new, g_up]; omega) | omega) ?_)))) rfl dJ5_append_30 ?_ (d' := 2) (as := [_, _]) (hst := rfl)
  refine (put _ (fun fu hfu => ?_))
  refine V_aload_n dJ5_append_33 rfl (Or.inl ⟨_, rfl⟩) ?_
  refine V_dup dJ5_append_34 rfl ?_
  refine V_get ckJ6 (g_up_of (Ne.symm hara) a3) 3 (by decide) q312 rfl (by rfl) dJ5_append_35 ?_
  refine V_iload_n dJ5_append_38 rfl ?_
  refine V_iadd dJ5_append_39 ?_
  rw [nI_add]
  refine V_put ckJ6 (g_up_of (Ne.symm hara) a3) (by first | assumption | omega | (simp only [g_new, g_up]; omega) | (simp only [g_new, g_up, g_B] at *; omega)) 3 (by decide) q312 rfl rfl rfl rfl (Nat.le_of_ble_eq_true rfl) dJ5_append_40 ?_
  refine V_aload_n dJ5_append_43 rfl (Or.inl ⟨_, rfl⟩) ?_
  refine V_areturnO dJ5_append_44 rfl ?_
  refine kk _ ?_ ?_ ⟨ml, cap1, va_cpy fu f1 0 w.length u.length, ⟨a1, ar, a2, (by rw [g_up_self, List.length_append]; rfl), g_up_of hara g_up_at, a5, fun j hj => ?_⟩, ?_, fun k x hk => ?_⟩
  · obtain ⟨m1, m2, m3, m4, m5⟩ := m
    refine ⟨fun z x hz hx => ?_, m2, m3, m4, m5⟩
    have hx1 := m1 z x hz.1 hx
    have hzar : z ≠ ar := fun e => by
      rcases r4 ar ⟨_, _, _, a3⟩ with h9 | h9
      · exact hz.2 (e ▸ h9)
      · have := wf _ _ hx; omega
    exact g_up_of hz.1 (g_up_of hzar hx1)
  · intro z hz
    obtain ⟨c9, ml9, cnt9, hz⟩ := hz
    rw [g_up_self] at hz
    cases hz
    exact r4 _ ⟨_, _, _, a3⟩
  · by_cases e : w.length ≤ j ∧ j < w.length + u.length
    · rw [pk_cpy_in e.1 e.2]
      obtain ⟨x, hx, -⟩ := drop_at (show j - w.length < u.length by omega)
      rw [Nat.zero_add, hfu _ x hx]
      exact hu x (List.mem_of_getElem? hx)
    · rw [pk_cpy_out (by omega)]; exact a6 j hj
  · rw [List.length_append]
    exact r1
  · by_cases e : k < w.length
    · rw [List.getElem?_append_left e] at hk
      rw [pk_cpy_out (Or.inl e), r3 k (by omega)]
      exact q3 k x hk
    · rw [List.getElem?_append_right (by omega)] at hk
      have hkl := (List.getElem?_eq_some_iff.mp hk).1
      rw [pk_cpy_in (by omega) (by omega), Nat.zero_add]
      exact hfu _ x hk
theorem sb_appendS {n a b : Nat} {w u : List Int32} {h z : Int32} (H : SbAt E n G a w) (K : StrR E G b u h z) (hu : ∀ c ∈ u, isC c) (hB : g_B E ≤ n) (hn : n ≤ G.2.1) (hl : w.length + u.length ≤ 150) (hf : g_fit E G 1 310) (kk : ∀ G', g_mod (fun z => z ≠ a ∧ ¬ SbAr G a z) G G' 1 310 → (∀ z, SbAr G' a z → SbAr G a z ∨ G.2.1 ≤ z) → SbAt E n G' a (w ++ u) → P (.returned (some (.ref a))) G') : g_Spc l E mJ6_append 5 [.ref a, .ref b] G P := by
  obtain ⟨ar, ml, hx⟩ := H.cell
  refine V_intro (plainFor_of_name plJ6) (Nat.le_of_ble_eq_true rfl) ?_
  refine V_aload_n dJ6_append_0 rfl (Or.inl ⟨_, rfl⟩) ?_
  refine V_aload_n dJ6_append_1 rfl (Or.inl ⟨_, rfl⟩) ?_
  refine V_callSup (q := (RJ6, TJ6, 4)) kJ5_append (by decide) q593 q3293 q321 q594 (by first | assumption | (repeat (first | exact g_up_at | exact g_new_at rfl | assumption | refine g_up_of (by first | assumption | (simp only [g_new, g_up]; omega) | omega) ?_ | refine g_new_of (by first | assumption | (simp only [g_new, g_up]; omega) | omega) ?_))) rfl dJ6_append_2 ?_ (d' := 4) (as := [_]) (hst := rfl)
  refine (sb5_appendS H K hu hB hn hl hf (fun G1 m h1 h2 => ?_))
  refine V_pop dJ6_append_5 rfl ?_
  refine V_aload_n dJ6_append_6 rfl (Or.inl ⟨_, rfl⟩) ?_
  refine V_areturnO dJ6_append_7 rfl ?_
  exact kk G1 m h1 h2
theorem sb_length {n a : Nat} {w : List Int32} (H : SbAt E n G a w) (k : P (.returned (some (.int (nI w.length)))) G) : g_Spc l E mJ6_length 1 [.ref a] G P := by
  obtain ⟨ar, ml, hx⟩ := H.cell
  have in5 : ∀ (P' : Outcome → g_G → Prop), P' (.returned (some (.int (nI w.length)))) G → g_Spc l E mJ5_length 0 [.ref a] G P' := by
    intro P' k
    refine V_intro (plainFor_of_name plJ5) (Nat.le_of_ble_eq_true rfl) ?_
    refine V_aload_n dJ5_length_0 rfl (Or.inl ⟨_, rfl⟩) ?_
    refine V_get ckJ6 (by first | assumption | (repeat (first | exact g_up_at | exact g_new_at rfl | assumption | refine g_up_of (by first | assumption | (simp only [g_new, g_up]; omega) | omega) ?_ | refine g_new_of (by first | assumption | (simp only [g_new, g_up]; omega) | omega) ?_))) 3 (by decide) q312 rfl (by rfl) dJ5_length_1 ?_
    refine V_ireturn dJ5_length_4 rfl ?_
    exact k
  refine V_intro (plainFor_of_name plJ6) (Nat.le_of_ble_eq_true rfl) ?_
  refine V_aload_n dJ6_length_0 rfl (Or.inl ⟨_, rfl⟩) ?_
  refine V_callSup (q := (RJ6, TJ6, 4)) kJ5_length (by decide) q759 q755 q321 q754 (by first | assumption | (repeat (first | exact g_up_at | exact g_new_at rfl | assumption | refine g_up_of (by first | assumption | (simp only [g_new, g_up]; omega) | omega) ?_ | refine g_new_of (by first | assumption | (simp only [g_new, g_up]; omega) | omega) ?_))) rfl dJ6_length_1 ?_ (d' := 0) (as := []) (hst := rfl)
  refine (in5 _ ?_)
  refine V_ireturn dJ6_length_4 rfl ?_
  exact k
end SB
