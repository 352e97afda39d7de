/-! MODULE failures: constructors of Throwable, of the exceptions, of the component's failures -/
set_option maxRecDepth 100000
/-- Throwable's fields in the table of a class -/
def thT (T : u_T) (ty : Nat → FieldType) (N jC jS jP jM jB : Nat) : Prop :=
  (jC < N ∧ T jC = ("java/lang/Throwable", "cause", "Ljava/lang/Throwable;", false) ∧ ty jC = .object "java/lang/Throwable") ∧
  (jS < N ∧ T jS = ("java/lang/Throwable", "stackTrace", "[Ljava/lang/StackTraceElement;", false) ∧ ty jS = .array (.object "java/lang/StackTraceElement")) ∧
  (jP < N ∧ T jP = ("java/lang/Throwable", "suppressedExceptions", "Ljava/util/List;", false) ∧ ty jP = .object "java/util/List") ∧
  (jM < N ∧ T jM = ("java/lang/Throwable", "detailMessage", "Ljava/lang/String;", false) ∧ ty jM = .object "java/lang/String") ∧
  (jB < N ∧ T jB = ("java/lang/Throwable", "backtrace", "Ljava/lang/Object;", false)) ∧ (jS ≠ jC ∧ jP ≠ jC ∧ jP ≠ jS ∧ jB ≠ jC ∧ jB ≠ jS ∧ jB ≠ jP ∧ jM ≠ jC)
theorem va_rf_nar (C : String) (r : Option Nat) : narrow (.object C) (va_rf r) = va_rf r := by cases r <;> rfl
theorem va_rf_fit (C : String) (r : Option Nat) : fits (.object C) (va_rf r) = true := by cases r <;> rfl
theorem va_rf_narA (C : FieldType) (r : Option Nat) : narrow (.array C) (va_rf r) = va_rf r := by cases r <;> rfl
theorem va_rf_fitA (C : FieldType) (r : Option Nat) : fits (.array C) (va_rf r) = true := by cases r <;> rfl
theorem isC.fit {x : Int32} (h : isC x) : fits .char (.int x) = true := by
  have e : ∀ j, j < 128 → fits .char (.int (nI j)) = true := by decide +kernel
  obtain ⟨j, hj, rfl⟩ := h
  exact e j hj
section THR
variable {l : Launch} {E : g_E} {P : Outcome → g_G → Prop} {G : g_G}
section GEN
variable {ci N : Nat} {C0 : String} {T : u_T} {ty : Nat → FieldType} {fs0 : List Value} {jC jS jP jM jB a : Nat} {fs : List Value}
theorem thr_init (ck : g_ck ci C0 T N ty fs0) (hci : ci < 31) (hT : thT T ty N jC jS jP jM jB) (hsel : Cond.selects C0 Bundle.tFill Bundle.tFill ∈ lw_all) (hsel0 : Cond.selects C0 Bundle.tFill0 Bundle.tFill0 ∈ lw_all) (hG : G.1 a = some (g_ob ci fs)) (hB : g_B E ≤ a) (hf : fs.length = N) (hfB : fs[jB]? = some .null) (k : ∀ fs', fs'.length = N → P (.returned none) (g_up G a (g_ob ci fs'))) : g_Spc l E mJ9_init 3 [.ref a] G P := by
  obtain ⟨⟨c1, c2, c3⟩, ⟨s1, s2, s3⟩, ⟨p1, p2, p3⟩, ⟨m1, m2, m3⟩, ⟨b1, b2⟩, n1, n2, n3, n4, n5, n6, n7⟩ := hT
  refine V_intro (plainFor_of_name plJ9) (Nat.le_of_ble_eq_true rfl) ?_
  refine V_okk fun ok => ?_
  refine V_aload_n dJ9_init_0 rfl (Or.inl ⟨_, rfl⟩) ?_
  refine V_objInit q438 q170 q171 dJ9_init_1 (by decide) (by decide) ?_
  refine V_aload_n dJ9_init_4 rfl (Or.inl ⟨_, rfl⟩) ?_
  refine V_aload_n dJ9_init_5 rfl (Or.inl ⟨_, rfl⟩) ?_
  refine V_put ck hG hB jC c1 (by rw [c2]; exact q474) (by rw [c2]) (by rw [c2]) (by rw [c3]; rfl) (by rw [c3]; rfl) (by omega) dJ9_init_6 ?_
  refine V_aload_n dJ9_init_9 rfl (Or.inl ⟨_, rfl⟩) ?_
  refine V_gets (st_oZ ok un_w q440 q126) q439 rfl dJ9_init_10 ?_
  refine V_put ck g_up_at hB jS s1 (by rw [s2]; exact q475) (by rw [s2]) (by rw [s2]) (by rw [s3]; exact va_rf_narA _ _) (by rw [s3]; exact va_rf_fitA _ _) (by rw [List.length_set]; omega) dJ9_init_13 ?_
  rw [g_up_up]
  refine V_aload_n dJ9_init_16 rfl (Or.inl ⟨_, rfl⟩) ?_
  refine V_gets (st_oZ ok sn_w q442 q126) q441 rfl dJ9_init_17 ?_
  refine V_put ck g_up_at hB jP p1 (by rw [p2]; exact q476) (by rw [p2]) (by rw [p2]) (by rw [p3]; exact va_rf_nar _ _) (by rw [p3]; exact va_rf_fit _ _) (by rw [List.length_set, List.length_set]; omega) dJ9_init_20 ?_
  rw [g_up_up]
  refine V_aload_n dJ9_init_23 rfl (Or.inl ⟨_, rfl⟩) ?_
  refine V_fill ck hci s1 b1 s2 b2 g_up_at hB ?_ ?_ hsel hsel0 rfl (Nat.le_of_ble_eq_true rfl) (by decide) dJ9_init_24 ?_
  · rw [List.getElem?_set_ne n3, List.getElem?_set_self (by rw [List.length_set]; omega)]
    rfl
  · rw [List.getElem?_set_ne n6.symm, List.getElem?_set_ne n5.symm, List.getElem?_set_ne n4.symm]
    exact hfB
  refine V_pop dJ9_init_27 rfl ?_
  refine V_return dJ9_init_28 rfl ?_
  exact k _ (by rw [List.length_set, List.length_set, List.length_set]; exact hf)
theorem thr_init3 {cz : Option Nat} (ck : g_ck ci C0 T N ty fs0) (hci : ci < 31) (hT : thT T ty N jC jS jP jM jB) (hsel : Cond.selects C0 Bundle.tFill Bundle.tFill ∈ lw_all) (hsel0 : Cond.selects C0 Bundle.tFill0 Bundle.tFill0 ∈ lw_all) (hG : G.1 a = some (g_ob ci fs)) (hB : g_B E ≤ a) (hf : fs.length = N) (hfB : fs[jB]? = some .null) (k : ∀ fs', fs'.length = N → (∀ j, j ≠ jC → j ≠ jS → j ≠ jP → j ≠ jM → fs'[j]? = fs[j]?) → fs'[jC]? = some (va_rf cz) → P (.returned none) (g_up G a (g_ob ci fs'))) : g_Spc l E mJ9_init_3 3 [.ref a, .null, va_rf cz] G P := by
  rcases cz with _ | c
  · obtain ⟨⟨c1, c2, c3⟩, ⟨s1, s2, s3⟩, ⟨p1, p2, p3⟩, ⟨m1, m2, m3⟩, ⟨b1, b2⟩, n1, n2, n3, n4, n5, n6, n7⟩ := hT
    refine V_intro (plainFor_of_name plJ9) (Nat.le_of_ble_eq_true rfl) ?_
    refine V_okk fun ok => ?_
    refine V_aload_n dJ9_init_3_0 rfl (Or.inl ⟨_, rfl⟩) ?_
    refine V_objInit q438 q170 q171 dJ9_init_3_1 (by decide) (by decide) ?_
    refine V_aload_n dJ9_init_3_4 rfl (Or.inl ⟨_, rfl⟩) ?_
    refine V_aload_n dJ9_init_3_5 rfl (Or.inl ⟨_, rfl⟩) ?_
    refine V_put ck hG hB jC c1 (by rw [c2]; exact q474) (by rw [c2]) (by rw [c2]) (by rw [c3]; rfl) (by rw [c3]; rfl) (by omega) dJ9_init_3_6 ?_
    refine V_aload_n dJ9_init_3_9 rfl (Or.inl ⟨_, rfl⟩) ?_
    refine V_gets (st_oZ ok un_w q440 q126) q439 rfl dJ9_init_3_10 ?_
    refine V_put ck g_up_at hB jS s1 (by rw [s2]; exact q475) (by rw [s2]) (by rw [s2]) (by rw [s3]; exact va_rf_narA _ _) (by rw [s3]; exact va_rf_fitA _ _) (by rw [List.length_set]; omega) dJ9_init_3_13 ?_
    rw [g_up_up]
    refine V_aload_n dJ9_init_3_16 rfl (Or.inl ⟨_, rfl⟩) ?_
    refine V_gets (st_oZ ok sn_w q442 q126) q441 rfl dJ9_init_3_17 ?_
    refine V_put ck g_up_at hB jP p1 (by rw [p2]; exact q476) (by rw [p2]) (by rw [p2]) (by rw [p3]; exact va_rf_nar _ _) (by rw [p3]; exact va_rf_fit _ _) (by rw [List.length_set, List.length_set]; omega) dJ9_init_3_20 ?_
    rw [g_up_up]
    refine V_aload_n dJ9_init_3_23 rfl (Or.inl ⟨_, rfl⟩) ?_
    refine V_fill ck hci s1 b1 s2 b2 g_up_at hB ?_ ?_ hsel hsel0 rfl (Nat.le_of_ble_eq_true rfl) (by decide) dJ9_init_3_24 ?_
    · rw [List.getElem?_set_ne n3, List.getElem?_set_self (by rw [List.length_set]; omega)]
      rfl
    · rw [List.getElem?_set_ne n6.symm, List.getElem?_set_ne n5.symm, List.getElem?_set_ne n4.symm]
      exact hfB
    refine V_pop dJ9_init_3_27 rfl ?_
    refine V_aload_n dJ9_init_3_28 rfl (Or.inl ⟨_, rfl⟩) ?_
    refine V_aload_n dJ9_init_3_29 rfl g_nv ?_
    refine V_put ck g_up_at hB jM m1 (by rw [m2]; exact q473) (by rw [m2]) (by rw [m2]) (by rw [m3]; rfl) (by rw [m3]; rfl) (by rw [List.length_set, List.length_set, List.length_set]; omega) dJ9_init_3_30 ?_
    rw [g_up_up]
    refine V_aload_n dJ9_init_3_33 rfl (Or.inl ⟨_, rfl⟩) ?_
    refine V_aload_n dJ9_init_3_34 rfl g_nv ?_
    refine V_put ck g_up_at hB jC c1 (by rw [c2]; exact q474) (by rw [c2]) (by rw [c2]) (by rw [c3]; exact va_rf_nar _ _) (by rw [c3]; exact va_rf_fit _ _) (by simp only [List.length_set]; omega) dJ9_init_3_35 ?_
    rw [g_up_up]
    refine V_return dJ9_init_3_38 rfl ?_
    refine k _ (by simp only [List.length_set]; exact hf) (fun j h1 h2 h3 h4 => ?_) ?_
    · rw [List.getElem?_set_ne h1.symm, List.getElem?_set_ne h4.symm, List.getElem?_set_ne h3.symm, List.getElem?_set_ne h2.symm, List.getElem?_set_ne h1.symm]
    · exact List.getElem?_set_self (by simp only [List.length_set]; omega)
  · obtain ⟨⟨c1, c2, c3⟩, ⟨s1, s2, s3⟩, ⟨p1, p2, p3⟩, ⟨m1, m2, m3⟩, ⟨b1, b2⟩, n1, n2, n3, n4, n5, n6, n7⟩ := hT
    refine V_intro (plainFor_of_name plJ9) (Nat.le_of_ble_eq_true rfl) ?_
    refine V_okk fun ok => ?_
    refine V_aload_n dJ9_init_3_0 rfl (Or.inl ⟨_, rfl⟩) ?_
    refine V_objInit q438 q170 q171 dJ9_init_3_1 (by decide) (by decide) ?_
    refine V_aload_n dJ9_init_3_4 rfl (Or.inl ⟨_, rfl⟩) ?_
    refine V_aload_n dJ9_init_3_5 rfl (Or.inl ⟨_, rfl⟩) ?_
    refine V_put ck hG hB jC c1 (by rw [c2]; exact q474) (by rw [c2]) (by rw [c2]) (by rw [c3]; rfl) (by rw [c3]; rfl) (by omega) dJ9_init_3_6 ?_
    refine V_aload_n dJ9_init_3_9 rfl (Or.inl ⟨_, rfl⟩) ?_
    refine V_gets (st_oZ ok un_w q440 q126) q439 rfl dJ9_init_3_10 ?_
    refine V_put ck g_up_at hB jS s1 (by rw [s2]; exact q475) (by rw [s2]) (by rw [s2]) (by rw [s3]; exact va_rf_narA _ _) (by rw [s3]; exact va_rf_fitA _ _) (by rw [List.length_set]; omega) dJ9_init_3_13 ?_
    rw [g_up_up]
    refine V_aload_n dJ9_init_3_16 rfl (Or.inl ⟨_, rfl⟩) ?_
    refine V_gets (st_oZ ok sn_w q442 q126) q441 rfl dJ9_init_3_17 ?_
    refine V_put ck g_up_at hB jP p1 (by rw [p2]; exact q476) (by rw [p2]) (by rw [p2]) (by rw [p3]; exact va_rf_nar _ _) (by rw [p3]; exact va_rf_fit _ _) (by rw [List.length_set, List.length_set]; omega) dJ9_init_3_20 ?_
    rw [g_up_up]
    refine V_aload_n dJ9_init_3_23 rfl (Or.inl ⟨_, rfl⟩) ?_
    refine V_fill ck hci s1 b1 s2 b2 g_up_at hB ?_ ?_ hsel hsel0 rfl (Nat.le_of_ble_eq_true rfl) (by decide) dJ9_init_3_24 ?_
    · rw [List.getElem?_set_ne n3, List.getElem?_set_self (by rw [List.length_set]; omega)]
      rfl
    · rw [List.getElem?_set_ne n6.symm, List.getElem?_set_ne n5.symm, List.getElem?_set_ne n4.symm]
      exact hfB
    refine V_pop dJ9_init_3_27 rfl ?_
    refine V_aload_n dJ9_init_3_28 rfl (Or.inl ⟨_, rfl⟩) ?_
    refine V_aload_n dJ9_init_3_29 rfl g_nv ?_
    refine V_put ck g_up_at hB jM m1 (by rw [m2]; exact q473) (by rw [m2]) (by rw [m2]) (by rw [m3]; rfl) (by rw [m3]; rfl) (by rw [List.length_set, List.length_set, List.length_set]; omega) dJ9_init_3_30 ?_
    rw [g_up_up]
    refine V_aload_n dJ9_init_3_33 rfl (Or.inl ⟨_, rfl⟩) ?_
    refine V_aload_n dJ9_init_3_34 rfl g_rv ?_
    refine V_put ck g_up_at hB jC c1 (by rw [c2]; exact q474) (by rw [c2]) (by rw [c2]) (by rw [c3]; exact va_rf_nar _ _) (by rw [c3]; exact va_rf_fit _ _) (by simp only [List.length_set]; omega) dJ9_init_3_35 ?_
    rw [g_up_up]
    refine V_return dJ9_init_3_38 rfl ?_
    refine k _ (by simp only [List.length_set]; exact hf) (fun j h1 h2 h3 h4 => ?_) ?_
    · rw [List.getElem?_set_ne h1.symm, List.getElem?_set_ne h4.symm, List.getElem?_set_ne h3.symm, List.getElem?_set_ne h2.symm, List.getElem?_set_ne h1.symm]
    · exact List.getElem?_set_self (by simp only [List.length_set]; omega)
theorem exc_init (ck : g_ck ci C0 T N ty fs0) (hci : ci < 31) (hT : thT T ty N jC jS jP jM jB) (hsel : Cond.selects C0 Bundle.tFill Bundle.tFill ∈ lw_all) (hsel0 : Cond.selects C0 Bundle.tFill0 Bundle.tFill0 ∈ lw_all) (hG : G.1 a = some (g_ob ci fs)) (hB : g_B E ≤ a) (hf : fs.length = N) (hfB : fs[jB]? = some .null) (k : ∀ fs', fs'.length = N → P (.returned none) (g_up G a (g_ob ci fs'))) : g_Spc l E mJ10_init 4 [.ref a] G P := by
  refine V_intro (plainFor_of_name plJ10) (Nat.le_of_ble_eq_true rfl) ?_
  refine V_aload_n dJ10_init_0 rfl (Or.inl ⟨_, rfl⟩) ?_
  refine V_callI kJ9_init rfl rfl q471 q436 dJ10_init_1 ?_ (d' := 3) (as := []) (hst := rfl)
  refine (thr_init ck hci hT hsel hsel0 hG hB hf hfB (fun fs' e => ?_))
  refine V_return dJ10_init_4 rfl ?_
  exact k fs' e
theorem rte_init (ck : g_ck ci C0 T N ty fs0) (hci : ci < 31) (hT : thT T ty N jC jS jP jM jB) (hsel : Cond.selects C0 Bundle.tFill Bundle.tFill ∈ lw_all) (hsel0 : Cond.selects C0 Bundle.tFill0 Bundle.tFill0 ∈ lw_all) (hG : G.1 a = some (g_ob ci fs)) (hB : g_B E ≤ a) (hf : fs.length = N) (hfB : fs[jB]? = some .null) (k : ∀ fs', fs'.length = N → P (.returned none) (g_up G a (g_ob ci fs'))) : g_Spc l E mJ11_init 5 [.ref a] G P := by
  refine V_intro (plainFor_of_name plJ11) (Nat.le_of_ble_eq_true rfl) ?_
  refine V_aload_n dJ11_init_0 rfl (Or.inl ⟨_, rfl⟩) ?_
  refine V_callI kJ10_init rfl rfl q468 q469 dJ11_init_1 ?_ (d' := 4) (as := []) (hst := rfl)
  refine (exc_init ck hci hT hsel hsel0 hG hB hf hfB (fun fs' e => ?_))
  refine V_return dJ11_init_4 rfl ?_
  exact k fs' e
theorem nse_init (ck : g_ck ci C0 T N ty fs0) (hci : ci < 31) (hT : thT T ty N jC jS jP jM jB) (hsel : Cond.selects C0 Bundle.tFill Bundle.tFill ∈ lw_all) (hsel0 : Cond.selects C0 Bundle.tFill0 Bundle.tFill0 ∈ lw_all) (hG : G.1 a = some (g_ob ci fs)) (hB : g_B E ≤ a) (hf : fs.length = N) (hfB : fs[jB]? = some .null) (k : ∀ fs', fs'.length = N → P (.returned none) (g_up G a (g_ob ci fs'))) : g_Spc l E mJ12_init 6 [.ref a] G P := by
  refine V_intro (plainFor_of_name plJ12) (Nat.le_of_ble_eq_true rfl) ?_
  refine V_aload_n dJ12_init_0 rfl (Or.inl ⟨_, rfl⟩) ?_
  refine V_callI kJ11_init rfl rfl q465 q466 dJ12_init_1 ?_ (d' := 5) (as := []) (hst := rfl)
  refine (rte_init ck hci hT hsel hsel0 hG hB hf hfB (fun fs' e => ?_))
  refine V_return dJ12_init_4 rfl ?_
  exact k fs' e
theorem iae_init (ck : g_ck ci C0 T N ty fs0) (hci : ci < 31) (hT : thT T ty N jC jS jP jM jB) (hsel : Cond.selects C0 Bundle.tFill Bundle.tFill ∈ lw_all) (hsel0 : Cond.selects C0 Bundle.tFill0 Bundle.tFill0 ∈ lw_all) (hG : G.1 a = some (g_ob ci fs)) (hB : g_B E ≤ a) (hf : fs.length = N) (hfB : fs[jB]? = some .null) (k : ∀ fs', fs'.length = N → P (.returned none) (g_up G a (g_ob ci fs'))) : g_Spc l E mJ21_init_2 6 [.ref a] G P := by
  refine V_intro (plainFor_of_name plJ21) (Nat.le_of_ble_eq_true rfl) ?_
  refine V_aload_n dJ21_init_2_0 rfl (Or.inl ⟨_, rfl⟩) ?_
  refine V_callI kJ11_init rfl rfl q1548 q466 dJ21_init_2_1 ?_ (d' := 5) (as := []) (hst := rfl)
  refine (rte_init ck hci hT hsel hsel0 hG hB hf hfB (fun fs' e => ?_))
  refine V_return dJ21_init_2_4 rfl ?_
  exact k fs' e
theorem ise_init (ck : g_ck ci C0 T N ty fs0) (hci : ci < 31) (hT : thT T ty N jC jS jP jM jB) (hsel : Cond.selects C0 Bundle.tFill Bundle.tFill ∈ lw_all) (hsel0 : Cond.selects C0 Bundle.tFill0 Bundle.tFill0 ∈ lw_all) (hG : G.1 a = some (g_ob ci fs)) (hB : g_B E ≤ a) (hf : fs.length = N) (hfB : fs[jB]? = some .null) (k : ∀ fs', fs'.length = N → P (.returned none) (g_up G a (g_ob ci fs'))) : g_Spc l E mJ25_init 6 [.ref a] G P := by
  refine V_intro (plainFor_of_name plJ25) (Nat.le_of_ble_eq_true rfl) ?_
  refine V_aload_n dJ25_init_0 rfl (Or.inl ⟨_, rfl⟩) ?_
  refine V_callI kJ11_init rfl rfl q1561 q466 dJ25_init_1 ?_ (d' := 5) (as := []) (hst := rfl)
  refine (rte_init ck hci hT hsel hsel0 hG hB hf hfB (fun fs' e => ?_))
  refine V_return dJ25_init_4 rfl ?_
  exact k fs' e
theorem uoe_init (ck : g_ck ci C0 T N ty fs0) (hci : ci < 31) (hT : thT T ty N jC jS jP jM jB) (hsel : Cond.selects C0 Bundle.tFill Bundle.tFill ∈ lw_all) (hsel0 : Cond.selects C0 Bundle.tFill0 Bundle.tFill0 ∈ lw_all) (hG : G.1 a = some (g_ob ci fs)) (hB : g_B E ≤ a) (hf : fs.length = N) (hfB : fs[jB]? = some .null) (k : ∀ fs', fs'.length = N → P (.returned none) (g_up G a (g_ob ci fs'))) : g_Spc l E mJ26_init 6 [.ref a] G P := by
  refine V_intro (plainFor_of_name plJ26) (Nat.le_of_ble_eq_true rfl) ?_
  refine V_aload_n dJ26_init_0 rfl (Or.inl ⟨_, rfl⟩) ?_
  refine V_callI kJ11_init rfl rfl q1579 q466 dJ26_init_1 ?_ (d' := 5) (as := []) (hst := rfl)
  refine (rte_init ck hci hT hsel hsel0 hG hB hf hfB (fun fs' e => ?_))
  refine V_return dJ26_init_4 rfl ?_
  exact k fs' e
theorem iob_init (ck : g_ck ci C0 T N ty fs0) (hci : ci < 31) (hT : thT T ty N jC jS jP jM jB) (hsel : Cond.selects C0 Bundle.tFill Bundle.tFill ∈ lw_all) (hsel0 : Cond.selects C0 Bundle.tFill0 Bundle.tFill0 ∈ lw_all) (hG : G.1 a = some (g_ob ci fs)) (hB : g_B E ≤ a) (hf : fs.length = N) (hfB : fs[jB]? = some .null) (k : ∀ fs', fs'.length = N → P (.returned none) (g_up G a (g_ob ci fs'))) : g_Spc l E mJ15_init_2 6 [.ref a] G P := by
  refine V_intro (plainFor_of_name plJ15) (Nat.le_of_ble_eq_true rfl) ?_
  refine V_aload_n dJ15_init_2_0 rfl (Or.inl ⟨_, rfl⟩) ?_
  refine V_callI kJ11_init rfl rfl q2250 q466 dJ15_init_2_1 ?_ (d' := 5) (as := []) (hst := rfl)
  refine (rte_init ck hci hT hsel hsel0 hG hB hf hfB (fun fs' e => ?_))
  refine V_return dJ15_init_2_4 rfl ?_
  exact k fs' e
theorem ari_init (ck : g_ck ci C0 T N ty fs0) (hci : ci < 31) (hT : thT T ty N jC jS jP jM jB) (hsel : Cond.selects C0 Bundle.tFill Bundle.tFill ∈ lw_all) (hsel0 : Cond.selects C0 Bundle.tFill0 Bundle.tFill0 ∈ lw_all) (hG : G.1 a = some (g_ob ci fs)) (hB : g_B E ≤ a) (hf : fs.length = N) (hfB : fs[jB]? = some .null) (k : ∀ fs', fs'.length = N → P (.returned none) (g_up G a (g_ob ci fs'))) : g_Spc l E mJ27_init_2 6 [.ref a] G P := by
  refine V_intro (plainFor_of_name plJ27) (Nat.le_of_ble_eq_true rfl) ?_
  refine V_aload_n dJ27_init_2_0 rfl (Or.inl ⟨_, rfl⟩) ?_
  refine V_callI kJ11_init rfl rfl q2151 q466 dJ27_init_2_1 ?_ (d' := 5) (as := []) (hst := rfl)
  refine (rte_init ck hci hT hsel hsel0 hG hB hf hfB (fun fs' e => ?_))
  refine V_return dJ27_init_2_4 rfl ?_
  exact k fs' e
theorem exc_init3 {cz : Option Nat} (ck : g_ck ci C0 T N ty fs0) (hci : ci < 31) (hT : thT T ty N jC jS jP jM jB) (hsel : Cond.selects C0 Bundle.tFill Bundle.tFill ∈ lw_all) (hsel0 : Cond.selects C0 Bundle.tFill0 Bundle.tFill0 ∈ lw_all) (hG : G.1 a = some (g_ob ci fs)) (hB : g_B E ≤ a) (hf : fs.length = N) (hfB : fs[jB]? = some .null) (k : ∀ fs', fs'.length = N → (∀ j, j ≠ jC → j ≠ jS → j ≠ jP → j ≠ jM → fs'[j]? = fs[j]?) → fs'[jC]? = some (va_rf cz) → P (.returned none) (g_up G a (g_ob ci fs'))) : g_Spc l E mJ10_init_3 4 [.ref a, .null, va_rf cz] G P := by
  rcases cz with _ | c
  · refine V_intro (plainFor_of_name plJ10) (Nat.le_of_ble_eq_true rfl) ?_
    refine V_aload_n dJ10_init_3_0 rfl (Or.inl ⟨_, rfl⟩) ?_
    refine V_aload_n dJ10_init_3_1 rfl g_nv ?_
    refine V_aload_n dJ10_init_3_2 rfl g_nv ?_
    refine V_callI kJ9_init_3 rfl rfl q1065 q1066 dJ10_init_3_3 ?_ (d' := 3) (as := [_, _]) (hst := rfl)
    refine (thr_init3 ck hci hT hsel hsel0 hG hB hf hfB (fun fs' e1 e2 e3 => ?_))
    refine V_return dJ10_init_3_6 rfl ?_
    exact k fs' e1 e2 e3
  · refine V_intro (plainFor_of_name plJ10) (Nat.le_of_ble_eq_true rfl) ?_
    refine V_aload_n dJ10_init_3_0 rfl (Or.inl ⟨_, rfl⟩) ?_
    refine V_aload_n dJ10_init_3_1 rfl g_nv ?_
    refine V_aload_n dJ10_init_3_2 rfl g_rv ?_
    refine V_callI kJ9_init_3 rfl rfl q1065 q1066 dJ10_init_3_3 ?_ (d' := 3) (as := [_, _]) (hst := rfl)
    refine (thr_init3 ck hci hT hsel hsel0 hG hB hf hfB (fun fs' e1 e2 e3 => ?_))
    refine V_return dJ10_init_3_6 rfl ?_
    exact k fs' e1 e2 e3
theorem fai_init {cz : Option Nat} (ck : g_ck ci C0 T N ty fs0) (hci : ci < 31) (hT : thT T ty N jC jS jP jM jB) (hsel : Cond.selects C0 Bundle.tFill Bundle.tFill ∈ lw_all) (hsel0 : Cond.selects C0 Bundle.tFill0 Bundle.tFill0 ∈ lw_all) (hG : G.1 a = some (g_ob ci fs)) (hB : g_B E ≤ a) (hf : fs.length = N) (hfB : fs[jB]? = some .null) (k : ∀ fs', fs'.length = N → (∀ j, j ≠ jC → j ≠ jS → j ≠ jP → j ≠ jM → fs'[j]? = fs[j]?) → fs'[jC]? = some (va_rf cz) → P (.returned none) (g_up G a (g_ob ci fs'))) : g_Spc l E mX9_init 5 [.ref a, va_rf cz] G P := by
  rcases cz with _ | c
  · refine V_intro (plainFor_of_name plX9) (Nat.le_of_ble_eq_true rfl) ?_
    refine V_aload_n dX9_init_0 rfl (Or.inl ⟨_, rfl⟩) ?_
    refine V_null dX9_init_1 ?_
    refine V_aload_n dX9_init_2 rfl g_nv ?_
    refine V_callI kJ10_init_3 rfl rfl q1062 q1063 dX9_init_3 ?_ (d' := 4) (as := [_, _]) (hst := rfl)
    refine (exc_init3 ck hci hT hsel hsel0 hG hB hf hfB (fun fs' e1 e2 e3 => ?_))
    refine V_return dX9_init_6 rfl ?_
    exact k fs' e1 e2 e3
  · refine V_intro (plainFor_of_name plX9) (Nat.le_of_ble_eq_true rfl) ?_
    refine V_aload_n dX9_init_0 rfl (Or.inl ⟨_, rfl⟩) ?_
    refine V_null dX9_init_1 ?_
    refine V_aload_n dX9_init_2 rfl g_rv ?_
    refine V_callI kJ10_init_3 rfl rfl q1062 q1063 dX9_init_3 ?_ (d' := 4) (as := [_, _]) (hst := rfl)
    refine (exc_init3 ck hci hT hsel hsel0 hG hB hf hfB (fun fs' e1 e2 e3 => ?_))
    refine V_return dX9_init_6 rfl ?_
    exact k fs' e1 e2 e3
end GEN
theorem thT_X10 : thT TX10 tyX10 7 0 1 2 3 4 := ⟨⟨by decide, rfl, rfl⟩, ⟨by decide, rfl, rfl⟩, ⟨by decide, rfl, rfl⟩, ⟨by decide, rfl, rfl⟩, ⟨by decide, rfl⟩, by decide⟩
theorem thT_X19 : thT TX19 tyX19 7 0 1 2 3 4 := ⟨⟨by decide, rfl, rfl⟩, ⟨by decide, rfl, rfl⟩, ⟨by decide, rfl, rfl⟩, ⟨by decide, rfl, rfl⟩, ⟨by decide, rfl⟩, by decide⟩
theorem thT_X20 : thT TX20 tyX20 7 0 1 2 3 4 := ⟨⟨by decide, rfl, rfl⟩, ⟨by decide, rfl, rfl⟩, ⟨by decide, rfl, rfl⟩, ⟨by decide, rfl, rfl⟩, ⟨by decide, rfl⟩, by decide⟩
theorem thT_J12 : thT TJ12 tyJ12 6 0 1 2 3 4 := ⟨⟨by decide, rfl, rfl⟩, ⟨by decide, rfl, rfl⟩, ⟨by decide, rfl, rfl⟩, ⟨by decide, rfl, rfl⟩, ⟨by decide, rfl⟩, by decide⟩
theorem thT_J15 : thT TJ15 tyJ15 6 0 1 2 3 4 := ⟨⟨by decide, rfl, rfl⟩, ⟨by decide, rfl, rfl⟩, ⟨by decide, rfl, rfl⟩, ⟨by decide, rfl, rfl⟩, ⟨by decide, rfl⟩, by decide⟩
theorem thT_J21 : thT TJ21 tyJ21 6 0 1 2 3 4 := ⟨⟨by decide, rfl, rfl⟩, ⟨by decide, rfl, rfl⟩, ⟨by decide, rfl, rfl⟩, ⟨by decide, rfl, rfl⟩, ⟨by decide, rfl⟩, by decide⟩
theorem thT_J25 : thT TJ25 tyJ25 6 0 1 2 3 4 := ⟨⟨by decide, rfl, rfl⟩, ⟨by decide, rfl, rfl⟩, ⟨by decide, rfl, rfl⟩, ⟨by decide, rfl, rfl⟩, ⟨by decide, rfl⟩, by decide⟩
theorem thT_J26 : thT TJ26 tyJ26 6 0 1 2 3 4 := ⟨⟨by decide, rfl, rfl⟩, ⟨by decide, rfl, rfl⟩, ⟨by decide, rfl, rfl⟩, ⟨by decide, rfl, rfl⟩, ⟨by decide, rfl⟩, by decide⟩
theorem thT_J27 : thT TJ27 tyJ27 6 2 3 5 1 0 := ⟨⟨by decide, rfl, rfl⟩, ⟨by decide, rfl, rfl⟩, ⟨by decide, rfl, rfl⟩, ⟨by decide, rfl, rfl⟩, ⟨by decide, rfl⟩, by decide⟩
theorem cnd_init {a : Nat} {x : Int32} (hn : isC x) (hG : G.1 a = some (g_ob 8 [.null, .null, .null, .null, .null, .int 0, .int 0])) (hB : g_B E ≤ a) (k : ∀ v1 v2 v3 v4 v5 v6, P (.returned none) (g_up G a (g_ob 8 [v1, v2, v3, v4, v5, v6, .int x]))) : g_Spc l E mX10_init 6 [.ref a, .int x] G P := by
  refine V_intro (plainFor_of_name plX10) (Nat.le_of_ble_eq_true rfl) ?_
  refine V_aload_n dX10_init_0 rfl (Or.inl ⟨_, rfl⟩) ?_
  refine V_null dX10_init_1 ?_
  refine V_callI kX9_init rfl rfl q1059 q1060 dX10_init_2 ?_ (d' := 5) (as := [_]) (hst := rfl)
  refine (fai_init (cz := none) ckX10 (by decide) thT_X10 q447 q1050 hG hB rfl rfl (fun fs' e1 e2 e3 => ?_))
  obtain ⟨v1, v2, v3, v4, v5, v6, v7, rfl⟩ : ∃ v1 v2 v3 v4 v5 v6 v7, fs' = [v1, v2, v3, v4, v5, v6, v7] := by
    match fs', e1 with
    | [v1, v2, v3, v4, v5, v6, v7], _ => exact ⟨v1, v2, v3, v4, v5, v6, v7, rfl⟩
  refine V_aload_n dX10_init_5 rfl (Or.inl ⟨_, rfl⟩) ?_
  refine V_iload_n dX10_init_6 rfl ?_
  refine V_putF ckX10 (by first | assumption | (repeat (first | exact g_up_at | exact g_new_at rfl | assumption | refine g_up_of (by first | assumption | (simp only [g_new, g_up]; omega) | omega) ?_ | refine g_new_of (by first | assumption | (simp only [g_new, g_up]; omega) | omega) ?_))) (by first | assumption | omega | (simp only [g_new, g_up]; omega) | (simp only [g_new, g_up, g_B] at *; omega)) 6 (by decide) q1068 rfl rfl rfl rfl hn.nar hn.fit (Nat.le_of_ble_eq_true rfl) dX10_init_7 ?_
  refine V_return dX10_init_10 rfl ?_
  rw [g_up_up]
  exact k v1 v2 v3 v4 v5 v6
theorem syn_init {a : Nat} {x : Int32} (hG : G.1 a = some (g_ob 17 [.null, .null, .null, .null, .null, .int 0, .int 0])) (hB : g_B E ≤ a) (k : ∀ v1 v2 v3 v4 v5 v6, P (.returned none) (g_up G a (g_ob 17 [v1, v2, v3, v4, v5, v6, .int x]))) : g_Spc l E mX19_init 6 [.ref a, .int x] G P := by
  refine V_intro (plainFor_of_name plX19) (Nat.le_of_ble_eq_true rfl) ?_
  refine V_aload_n dX19_init_0 rfl (Or.inl ⟨_, rfl⟩) ?_
  refine V_null dX19_init_1 ?_
  refine V_callI kX9_init rfl rfl q2481 q1060 dX19_init_2 ?_ (d' := 5) (as := [_]) (hst := rfl)
  refine (fai_init (cz := none) ckX19 (by decide) thT_X19 q448 q2472 hG hB rfl rfl (fun fs' e1 e2 e3 => ?_))
  obtain ⟨v1, v2, v3, v4, v5, v6, v7, rfl⟩ : ∃ v1 v2 v3 v4 v5 v6 v7, fs' = [v1, v2, v3, v4, v5, v6, v7] := by
    match fs', e1 with
    | [v1, v2, v3, v4, v5, v6, v7], _ => exact ⟨v1, v2, v3, v4, v5, v6, v7, rfl⟩
  refine V_aload_n dX19_init_5 rfl (Or.inl ⟨_, rfl⟩) ?_
  refine V_iload_n dX19_init_6 rfl ?_
  refine V_putF ckX19 (by first | assumption | (repeat (first | exact g_up_at | exact g_new_at rfl | assumption | refine g_up_of (by first | assumption | (simp only [g_new, g_up]; omega) | omega) ?_ | refine g_new_of (by first | assumption | (simp only [g_new, g_up]; omega) | omega) ?_))) (by first | assumption | omega | (simp only [g_new, g_up]; omega) | (simp only [g_new, g_up, g_B] at *; omega)) 6 (by decide) q2482 rfl rfl rfl rfl rfl rfl (Nat.le_of_ble_eq_true rfl) dX19_init_7 ?_
  refine V_return dX19_init_10 rfl ?_
  rw [g_up_up]
  exact k v1 v2 v3 v4 v5 v6
theorem cmd_init {a c : Nat} {x : Int32} (hG : G.1 a = some (g_ob 18 [.null, .null, .null, .null, .null, .int 0, .int 0])) (hB : g_B E ≤ a) (k : ∀ v2 v3 v4 v5 v6, P (.returned none) (g_up G a (g_ob 18 [.ref c, v2, v3, v4, v5, v6, .int x]))) : g_Spc l E mX20_init 6 [.ref a, .int x, .ref c] G P := by
  refine V_intro (plainFor_of_name plX20) (Nat.le_of_ble_eq_true rfl) ?_
  refine V_aload_n dX20_init_0 rfl (Or.inl ⟨_, rfl⟩) ?_
  refine V_aload_n dX20_init_1 rfl (Or.inl ⟨_, rfl⟩) ?_
  refine V_callI kX9_init rfl rfl q2534 q1060 dX20_init_2 ?_ (d' := 5) (as := [_]) (hst := rfl)
  refine (fai_init (cz := some c) ckX20 (by decide) thT_X20 q446 q2525 hG hB rfl rfl (fun fs' e1 e2 e3 => ?_))
  obtain ⟨v1, v2, v3, v4, v5, v6, v7, rfl⟩ : ∃ v1 v2 v3 v4 v5 v6 v7, fs' = [v1, v2, v3, v4, v5, v6, v7] := by
    match fs', e1 with
    | [v1, v2, v3, v4, v5, v6, v7], _ => exact ⟨v1, v2, v3, v4, v5, v6, v7, rfl⟩
  injection (show some v1 = some (Value.ref c) from e3) with e3
  subst e3
  refine V_aload_n dX20_init_5 rfl (Or.inl ⟨_, rfl⟩) ?_
  refine V_iload_n dX20_init_6 rfl ?_
  refine V_putF ckX20 (by first | assumption | (repeat (first | exact g_up_at | exact g_new_at rfl | assumption | refine g_up_of (by first | assumption | (simp only [g_new, g_up]; omega) | omega) ?_ | refine g_new_of (by first | assumption | (simp only [g_new, g_up]; omega) | omega) ?_))) (by first | assumption | omega | (simp only [g_new, g_up]; omega) | (simp only [g_new, g_up, g_B] at *; omega)) 6 (by decide) q2535 rfl rfl rfl rfl rfl rfl (Nat.le_of_ble_eq_true rfl) dX20_init_7 ?_
  refine V_return dX20_init_10 rfl ?_
  rw [g_up_up]
  exact k v2 v3 v4 v5 v6
/-- what a thrown failure of a condition holds -/
def CfAt (G : g_G) (q : Nat) (kind : Int32) : Prop := ∃ v1 v2 v3 v4 v5 v6, G.1 q = some (g_ob 8 [v1, v2, v3, v4, v5, v6, .int kind])
theorem co_demand {b : Bool} {x : Int32} (hx : isC x) (hf : g_fit E G 1 7) (kt : b = true → P (.returned none) G) (kf : b = false → ∀ q G', g_mod g_all G G' 1 7 → G.2.1 ≤ q → CfAt G' q x → P (.threw q) G') : g_Spc l E mX1_demand 7 [.int (b2i b), .int x] G P := by
  obtain ⟨hf1, hf2⟩ := hf
  refine V_intro (plainFor_of_name plX1) (Nat.le_of_ble_eq_true rfl) ?_
  refine V_wf (fun wf hBG => ?_)
  refine V_iload_n dX1_demand_0 rfl ?_
  refine V_if_ne 13 dX1_demand_1 (by decide) (fun c1 => ?_) (fun c1 => ?_)
  · refine V_return dX1_demand_13 rfl ?_
    exact kt (b2i_t c1)
  · refine V_new ckX10 q358 dX1_demand_4 (by first | omega | (simp only [g_new, g_up]; omega)) (by first | omega | (simp only [g_new, g_up]; omega)) ?_
    refine V_dup dX1_demand_7 rfl ?_
    refine V_iload_n dX1_demand_8 rfl ?_
    refine V_callI kX10_init rfl rfl q1056 q1057 dX1_demand_9 ?_ (d' := 6) (as := [_]) (hst := rfl)
    refine (cnd_init hx (g_new_at rfl) hBG (fun v1 v2 v3 v4 v5 v6 => ?_))
    rw [g_new_up rfl]
    refine V_athrow dX1_demand_12 ?_
    refine VX_out (ci := 0) (fs := []) rfl ?_
    refine kf (b2i_f c1) _ _ ⟨g_ke.new wf _ _, ?_, ?_, ?_, ?_⟩ (Nat.le_refl _) ⟨v1, v2, v3, v4, v5, v6, g_new_at rfl⟩
    · simp only [g_new]; omega
    · simp only [g_new]; omega
    · simp only [g_new]; omega
    · simp only [g_new]; omega
end THR
