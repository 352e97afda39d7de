/-! MODULE failures: what is thrown in public; checks (printed by wip gen/mk9d.py) -/
set_option maxRecDepth 100000
def ExAt (G : g_G) (q ci : Nat) : Prop := ∃ fs, G.1 q = some (g_ob ci fs)
def CmAt (G : g_G) (q c : Nat) (x : Int32) : Prop := ∃ v2 v3 v4 v5 v6, G.1 q = some (g_ob 18 [.ref c, v2, v3, v4, v5, v6, .int x])
def SyAt (G : g_G) (q : Nat) (x : Int32) : Prop := ∃ v1 v2 v3 v4 v5 v6, G.1 q = some (g_ob 17 [v1, v2, v3, v4, v5, v6, .int x])
def exC (kd : Int32) : Nat := if kd = 97 then 27 else if kd = 115 then 28 else if kd = 101 then 25 else 29
def kd4 (kd : Int32) : Prop := kd = 97 ∨ kd = 101 ∨ kd = 115 ∨ kd = 117
section FAIL
variable {l : Launch} {E : g_E} {P : Outcome → g_G → Prop} {G : g_G}
theorem g_mod.new1 {x : va_E} {n : Nat} (wf : g_wf G) : g_mod g_all G (g_new G x n) 1 n := ⟨g_ke.new wf _ _, Nat.le_succ _, Nat.le_refl _, Nat.le_add_right _ _, Nat.le_refl _⟩
theorem co_checkElement {b : Bool} (hf : g_fit E G 1 6) (kt : b = true → P (.returned none) G) (kf : b = false → ∀ q G', g_mod g_all G G' 1 6 → ExAt G' q 25 → P (.threw q) G') : g_Spc l E mX1_checkElement 7 [.int (b2i b)] G P := by
  obtain ⟨hf1, hf2⟩ := hf
  refine V_intro (plainFor_of_name plX1) (Nat.le_of_ble_eq_true rfl) ?_
  refine V_wf (fun wf hBG => ?_)
  refine V_iload_n dX1_checkElement_0 rfl ?_
  refine V_if_ne 12 dX1_checkElement_1 (by decide) (fun c1 => ?_) (fun c1 => ?_)
  · refine V_return dX1_checkElement_12 rfl ?_
    exact kt (b2i_t c1)
  · refine V_new ckJ12 q1894 dX1_checkElement_4 (by first | omega | (simp only [g_new, g_up]; omega)) (by first | omega | (simp only [g_new, g_up]; omega)) ?_
    refine V_dup dX1_checkElement_7 rfl ?_
    refine V_callI kJ12_init rfl rfl q1895 q463 dX1_checkElement_8 ?_ (d' := 6) (as := []) (hst := rfl)
    refine (nse_init ckJ12 (by decide) thT_J12 q423 q422 (g_new_at rfl) hBG rfl rfl (fun fs' _ => ?_))
    rw [g_new_up rfl]
    refine V_athrow dX1_checkElement_11 ?_
    exact VX_out (ci := 0) (fs := []) rfl (kf (b2i_f c1) _ _ (g_mod.new1 wf) ⟨fs', g_new_at rfl⟩)
theorem co_checkIndex {b : Bool} (hf : g_fit E G 1 6) (kt : b = true → P (.returned none) G) (kf : b = false → ∀ q G', g_mod g_all G G' 1 6 → ExAt G' q 26 → P (.threw q) G') : g_Spc l E mX1_checkIndex 7 [.int (b2i b)] G P := by
  obtain ⟨hf1, hf2⟩ := hf
  refine V_intro (plainFor_of_name plX1) (Nat.le_of_ble_eq_true rfl) ?_
  refine V_wf (fun wf hBG => ?_)
  refine V_iload_n dX1_checkIndex_0 rfl ?_
  refine V_if_ne 12 dX1_checkIndex_1 (by decide) (fun c1 => ?_) (fun c1 => ?_)
  · refine V_return dX1_checkIndex_12 rfl ?_
    exact kt (b2i_t c1)
  · refine V_new ckJ15 q2246 dX1_checkIndex_4 (by first | omega | (simp only [g_new, g_up]; omega)) (by first | omega | (simp only [g_new, g_up]; omega)) ?_
    refine V_dup dX1_checkIndex_7 rfl ?_
    refine V_callI kJ15_init_2 rfl rfl q2247 q2248 dX1_checkIndex_8 ?_ (d' := 6) (as := []) (hst := rfl)
    refine (iob_init ckJ15 (by decide) thT_J15 q453 q576 (g_new_at rfl) hBG rfl rfl (fun fs' _ => ?_))
    rw [g_new_up rfl]
    refine V_athrow dX1_checkIndex_11 ?_
    exact VX_out (ci := 0) (fs := []) rfl (kf (b2i_f c1) _ _ (g_mod.new1 wf) ⟨fs', g_new_at rfl⟩)
theorem co_checkArgument {b : Bool} (hf : g_fit E G 1 6) (kt : b = true → P (.returned none) G) (kf : b = false → ∀ q G', g_mod g_all G G' 1 6 → ExAt G' q 27 → P (.threw q) G') : g_Spc l E mX1_checkArgument 7 [.int (b2i b)] G P := by
  obtain ⟨hf1, hf2⟩ := hf
  refine V_intro (plainFor_of_name plX1) (Nat.le_of_ble_eq_true rfl) ?_
  refine V_wf (fun wf hBG => ?_)
  refine V_iload_n dX1_checkArgument_0 rfl ?_
  refine V_if_ne 12 dX1_checkArgument_1 (by decide) (fun c1 => ?_) (fun c1 => ?_)
  · refine V_return dX1_checkArgument_12 rfl ?_
    exact kt (b2i_t c1)
  · refine V_new ckJ21 q2055 dX1_checkArgument_4 (by first | omega | (simp only [g_new, g_up]; omega)) (by first | omega | (simp only [g_new, g_up]; omega)) ?_
    refine V_dup dX1_checkArgument_7 rfl ?_
    refine V_callI kJ21_init_2 rfl rfl q2056 q1546 dX1_checkArgument_8 ?_ (d' := 6) (as := []) (hst := rfl)
    refine (iae_init ckJ21 (by decide) thT_J21 q451 q774 (g_new_at rfl) hBG rfl rfl (fun fs' _ => ?_))
    rw [g_new_up rfl]
    refine V_athrow dX1_checkArgument_11 ?_
    exact VX_out (ci := 0) (fs := []) rfl (kf (b2i_f c1) _ _ (g_mod.new1 wf) ⟨fs', g_new_at rfl⟩)
theorem co_checkState {b : Bool} (hf : g_fit E G 1 6) (kt : b = true → P (.returned none) G) (kf : b = false → ∀ q G', g_mod g_all G G' 1 6 → ExAt G' q 28 → P (.threw q) G') : g_Spc l E mX1_checkState 7 [.int (b2i b)] G P := by
  obtain ⟨hf1, hf2⟩ := hf
  refine V_intro (plainFor_of_name plX1) (Nat.le_of_ble_eq_true rfl) ?_
  refine V_wf (fun wf hBG => ?_)
  refine V_iload_n dX1_checkState_0 rfl ?_
  refine V_if_ne 12 dX1_checkState_1 (by decide) (fun c1 => ?_) (fun c1 => ?_)
  · refine V_return dX1_checkState_12 rfl ?_
    exact kt (b2i_t c1)
  · refine V_new ckJ25 q2280 dX1_checkState_4 (by first | omega | (simp only [g_new, g_up]; omega)) (by first | omega | (simp only [g_new, g_up]; omega)) ?_
    refine V_dup dX1_checkState_7 rfl ?_
    refine V_callI kJ25_init rfl rfl q2281 q1559 dX1_checkState_8 ?_ (d' := 6) (as := []) (hst := rfl)
    refine (ise_init ckJ25 (by decide) thT_J25 q452 q1552 (g_new_at rfl) hBG rfl rfl (fun fs' _ => ?_))
    rw [g_new_up rfl]
    refine V_athrow dX1_checkState_11 ?_
    exact VX_out (ci := 0) (fs := []) rfl (kf (b2i_f c1) _ _ (g_mod.new1 wf) ⟨fs', g_new_at rfl⟩)
theorem cf_public {q : Nat} {kd : Int32} (h : CfAt G q kd) (hk : kd4 kd) (hf : g_fit E G 1 6) (kk : ∀ q' G', g_mod g_all G G' 1 6 → ExAt G' q' (exC kd) → P (.returned (some (.ref q'))) G') : g_Spc l E mX10_asPublicException 7 [.ref q] G P := by
  obtain ⟨hf1, hf2⟩ := hf
  obtain ⟨v1, v2, v3, v4, v5, v6, h⟩ := h
  refine V_intro (plainFor_of_name plX10) (Nat.le_of_ble_eq_true rfl) ?_
  refine V_wf (fun wf hBG => ?_)
  rcases hk with rfl | rfl | rfl | rfl
  · refine V_aload_n dX10_asPublicException_0 rfl (Or.inl ⟨_, rfl⟩) ?_
    refine V_get ckX10 (by first | assumption | (repeat (first | exact g_up_at | exact g_new_at rfl | assumption | refine g_up_of (by first | assumption | (simp only [g_new, g_up]; omega) | omega) ?_ | refine g_new_of (by first | assumption | (simp only [g_new, g_up]; omega) | omega) ?_))) 6 (by decide) q1068 rfl (by rfl) dX10_asPublicException_1 ?_
    refine V_lookup (off := 36) 40 dX10_asPublicException_4 (by decide) (by decide +kernel) (by decide) ?_
    refine V_new ckJ21 q1544 dX10_asPublicException_40 (by first | omega | (simp only [g_new, g_up]; omega)) (by first | omega | (simp only [g_new, g_up]; omega)) ?_
    refine V_dup dX10_asPublicException_43 rfl ?_
    refine V_callI kJ21_init_2 rfl rfl q1545 q1546 dX10_asPublicException_44 ?_ (d' := 6) (as := []) (hst := rfl)
    refine (iae_init ckJ21 (by decide) thT_J21 q451 q774 (g_new_at rfl) hBG rfl rfl (fun fs' _ => ?_))
    rw [g_new_up rfl]
    refine V_areturnO dX10_asPublicException_47 rfl ?_
    exact kk _ _ (g_mod.new1 wf) ⟨fs', g_new_at rfl⟩
  · refine V_aload_n dX10_asPublicException_0 rfl (Or.inl ⟨_, rfl⟩) ?_
    refine V_get ckX10 (by first | assumption | (repeat (first | exact g_up_at | exact g_new_at rfl | assumption | refine g_up_of (by first | assumption | (simp only [g_new, g_up]; omega) | omega) ?_ | refine g_new_of (by first | assumption | (simp only [g_new, g_up]; omega) | omega) ?_))) 6 (by decide) q1068 rfl (by rfl) dX10_asPublicException_1 ?_
    refine V_lookup (off := 52) 56 dX10_asPublicException_4 (by decide) (by decide +kernel) (by decide) ?_
    refine V_new ckJ12 q1565 dX10_asPublicException_56 (by first | omega | (simp only [g_new, g_up]; omega)) (by first | omega | (simp only [g_new, g_up]; omega)) ?_
    refine V_dup dX10_asPublicException_59 rfl ?_
    refine V_callI kJ12_init rfl rfl q1566 q463 dX10_asPublicException_60 ?_ (d' := 6) (as := []) (hst := rfl)
    refine (nse_init ckJ12 (by decide) thT_J12 q423 q422 (g_new_at rfl) hBG rfl rfl (fun fs' _ => ?_))
    rw [g_new_up rfl]
    refine V_areturnO dX10_asPublicException_63 rfl ?_
    exact kk _ _ (g_mod.new1 wf) ⟨fs', g_new_at rfl⟩
  · refine V_aload_n dX10_asPublicException_0 rfl (Or.inl ⟨_, rfl⟩) ?_
    refine V_get ckX10 (by first | assumption | (repeat (first | exact g_up_at | exact g_new_at rfl | assumption | refine g_up_of (by first | assumption | (simp only [g_new, g_up]; omega) | omega) ?_ | refine g_new_of (by first | assumption | (simp only [g_new, g_up]; omega) | omega) ?_))) 6 (by decide) q1068 rfl (by rfl) dX10_asPublicException_1 ?_
    refine V_lookup (off := 44) 48 dX10_asPublicException_4 (by decide) (by decide +kernel) (by decide) ?_
    refine V_new ckJ25 q1549 dX10_asPublicException_48 (by first | omega | (simp only [g_new, g_up]; omega)) (by first | omega | (simp only [g_new, g_up]; omega)) ?_
    refine V_dup dX10_asPublicException_51 rfl ?_
    refine V_callI kJ25_init rfl rfl q1558 q1559 dX10_asPublicException_52 ?_ (d' := 6) (as := []) (hst := rfl)
    refine (ise_init ckJ25 (by decide) thT_J25 q452 q1552 (g_new_at rfl) hBG rfl rfl (fun fs' _ => ?_))
    rw [g_new_up rfl]
    refine V_areturnO dX10_asPublicException_55 rfl ?_
    exact kk _ _ (g_mod.new1 wf) ⟨fs', g_new_at rfl⟩
  · refine V_aload_n dX10_asPublicException_0 rfl (Or.inl ⟨_, rfl⟩) ?_
    refine V_get ckX10 (by first | assumption | (repeat (first | exact g_up_at | exact g_new_at rfl | assumption | refine g_up_of (by first | assumption | (simp only [g_new, g_up]; omega) | omega) ?_ | refine g_new_of (by first | assumption | (simp only [g_new, g_up]; omega) | omega) ?_))) 6 (by decide) q1068 rfl (by rfl) dX10_asPublicException_1 ?_
    refine V_lookup (off := 60) 64 dX10_asPublicException_4 (by decide) (by decide +kernel) (by decide) ?_
    refine V_new ckJ26 q1567 dX10_asPublicException_64 (by first | omega | (simp only [g_new, g_up]; omega)) (by first | omega | (simp only [g_new, g_up]; omega)) ?_
    refine V_dup dX10_asPublicException_67 rfl ?_
    refine V_callI kJ26_init rfl rfl q1576 q1577 dX10_asPublicException_68 ?_ (d' := 6) (as := []) (hst := rfl)
    refine (uoe_init ckJ26 (by decide) thT_J26 q455 q1570 (g_new_at rfl) hBG rfl rfl (fun fs' _ => ?_))
    rw [g_new_up rfl]
    refine V_areturnO dX10_asPublicException_71 rfl ?_
    exact kk _ _ (g_mod.new1 wf) ⟨fs', g_new_at rfl⟩
theorem sy_public {q : Nat} (hf : g_fit E G 1 6) (kk : ∀ q' G', g_mod g_all G G' 1 6 → ExAt G' q' 27 → P (.returned (some (.ref q'))) G') : g_Spc l E mX19_asPublicException 7 [.ref q] G P := by
  obtain ⟨hf1, hf2⟩ := hf
  refine V_intro (plainFor_of_name plX19) (Nat.le_of_ble_eq_true rfl) ?_
  refine V_wf (fun wf hBG => ?_)
  refine V_new ckJ21 q2631 dX19_asPublicException_0 (by first | omega | (simp only [g_new, g_up]; omega)) (by first | omega | (simp only [g_new, g_up]; omega)) ?_
  refine V_dup dX19_asPublicException_3 rfl ?_
  refine V_callI kJ21_init_2 rfl rfl q2632 q1546 dX19_asPublicException_4 ?_ (d' := 6) (as := []) (hst := rfl)
  refine (iae_init ckJ21 (by decide) thT_J21 q451 q774 (g_new_at rfl) hBG rfl rfl (fun fs' _ => ?_))
  rw [g_new_up rfl]
  refine V_areturnO dX19_asPublicException_7 rfl ?_
  exact kk _ _ (g_mod.new1 wf) ⟨fs', g_new_at rfl⟩
theorem cm_public {q : Nat} (hf : g_fit E G 1 6) (kk : ∀ q' G', g_mod g_all G G' 1 6 → ExAt G' q' 28 → P (.returned (some (.ref q'))) G') : g_Spc l E mX20_asPublicException 7 [.ref q] G P := by
  obtain ⟨hf1, hf2⟩ := hf
  refine V_intro (plainFor_of_name plX20) (Nat.le_of_ble_eq_true rfl) ?_
  refine V_wf (fun wf hBG => ?_)
  refine V_new ckJ25 q2625 dX20_asPublicException_0 (by first | omega | (simp only [g_new, g_up]; omega)) (by first | omega | (simp only [g_new, g_up]; omega)) ?_
  refine V_dup dX20_asPublicException_3 rfl ?_
  refine V_callI kJ25_init rfl rfl q2626 q1559 dX20_asPublicException_4 ?_ (d' := 6) (as := []) (hst := rfl)
  refine (ise_init ckJ25 (by decide) thT_J25 q452 q1552 (g_new_at rfl) hBG rfl rfl (fun fs' _ => ?_))
  rw [g_new_up rfl]
  refine V_areturnO dX20_asPublicException_7 rfl ?_
  exact kk _ _ (g_mod.new1 wf) ⟨fs', g_new_at rfl⟩
theorem sy_position {q : Nat} {x : Int32} (h : SyAt G q x) (k : P (.returned (some (.int x))) G) : g_Spc l E mX19_position 0 [.ref q] G P := by
  obtain ⟨v1, v2, v3, v4, v5, v6, h⟩ := h
  refine V_intro (plainFor_of_name plX19) (Nat.le_of_ble_eq_true rfl) ?_
  refine V_aload_n dX19_position_0 rfl (Or.inl ⟨_, rfl⟩) ?_
  refine V_get ckX19 (by first | assumption | (repeat (first | exact g_up_at | exact g_new_at rfl | assumption | refine g_up_of (by first | assumption | (simp only [g_new, g_up]; omega) | omega) ?_ | refine g_new_of (by first | assumption | (simp only [g_new, g_up]; omega) | omega) ?_))) 6 (by decide) q2482 rfl (by rfl) dX19_position_1 ?_
  refine V_ireturn dX19_position_4 rfl ?_
  exact k
theorem cm_index {q c : Nat} {x : Int32} (h : CmAt G q c x) (k : P (.returned (some (.int x))) G) : g_Spc l E mX20_index 0 [.ref q] G P := by
  obtain ⟨v2, v3, v4, v5, v6, h⟩ := h
  refine V_intro (plainFor_of_name plX20) (Nat.le_of_ble_eq_true rfl) ?_
  refine V_aload_n dX20_index_0 rfl (Or.inl ⟨_, rfl⟩) ?_
  refine V_get ckX20 (by first | assumption | (repeat (first | exact g_up_at | exact g_new_at rfl | assumption | refine g_up_of (by first | assumption | (simp only [g_new, g_up]; omega) | omega) ?_ | refine g_new_of (by first | assumption | (simp only [g_new, g_up]; omega) | omega) ?_))) 6 (by decide) q2535 rfl (by rfl) dX20_index_1 ?_
  refine V_ireturn dX20_index_4 rfl ?_
  exact k
theorem cm_kind {q c : Nat} {x kd : Int32} (h : CmAt G q c x) (hc : CfAt G c kd) (hk : isC kd) (k : P (.returned (some (.int kd))) G) : g_Spc l E mX20_kind 1 [.ref q] G P := by
  obtain ⟨v2, v3, v4, v5, v6, h⟩ := h
  have hc0 := hc
  obtain ⟨w1, w2, w3, w4, w5, w6, hcc⟩ := hc
  have hcq : c ≠ q := g_apart hcc h (by intro e; cases e)
  refine V_intro (plainFor_of_name plX20) (Nat.le_of_ble_eq_true rfl) ?_
  refine V_aload_n dX20_kind_0 rfl (Or.inl ⟨_, rfl⟩) ?_
  refine V_callU (q := (RX20, TX20, 7)) (x := ⟨"ColourOffice$CommandFailure", "getCause", "()Ljava/lang/Throwable;"⟩) (owner := "java/lang/Throwable") kJ9_getCause q2608 q2609 (Or.inl q2610) ⟨by decide +kernel, by decide +kernel⟩ (by decide +kernel) q2612 q2611 (by first | assumption | (repeat (first | exact g_up_at | exact g_new_at rfl | assumption | refine g_up_of (by first | assumption | (simp only [g_new, g_up]; omega) | omega) ?_ | refine g_new_of (by first | assumption | (simp only [g_new, g_up]; omega) | omega) ?_))) rfl dX20_kind_1 ?_ (d' := 0) (as := []) (hst := rfl)
  refine (th_cause h hcq ?_)
  refine V_astore_n dX20_kind_4 (Or.inl ⟨_, rfl⟩) (by decide) ?_
  refine V_aload_n dX20_kind_5 rfl (Or.inl ⟨_, rfl⟩) ?_
  refine V_instS (q := (RX10, TX10, 7)) (by first | assumption | (repeat (first | exact g_up_at | exact g_new_at rfl | assumption | refine g_up_of (by first | assumption | (simp only [g_new, g_up]; omega) | omega) ?_ | refine g_new_of (by first | assumption | (simp only [g_new, g_up]; omega) | omega) ?_))) rfl q2614 dX20_kind_6 ?_
  refine V_if_eq 24 dX20_kind_9 (by decide) (fun c9 => absurd c9 (by decide)) (fun _ => ?_)
  refine V_aload_n dX20_kind_12 rfl (Or.inl ⟨_, rfl⟩) ?_
  refine V_castS (q := (RX10, TX10, 7)) (by first | assumption | (repeat (first | exact g_up_at | exact g_new_at rfl | assumption | refine g_up_of (by first | assumption | (simp only [g_new, g_up]; omega) | omega) ?_ | refine g_new_of (by first | assumption | (simp only [g_new, g_up]; omega) | omega) ?_))) rfl q2614 dX20_kind_13 ?_
  refine V_astore_n dX20_kind_16 (Or.inl ⟨_, rfl⟩) (by decide) ?_
  refine V_aload_n dX20_kind_17 rfl (Or.inl ⟨_, rfl⟩) ?_
  refine V_callV (q := (RX10, TX10, 7)) kX10_kind q2615 q2616 q2617 (by first | assumption | (repeat (first | exact g_up_at | exact g_new_at rfl | assumption | refine g_up_of (by first | assumption | (simp only [g_new, g_up]; omega) | omega) ?_ | refine g_new_of (by first | assumption | (simp only [g_new, g_up]; omega) | omega) ?_))) rfl dX20_kind_18 ?_ (d' := 0) (as := []) (hst := rfl)
  refine (cf_kind hc0 hk ?_)
  refine V_goto 26 dX20_kind_21 (by decide) ?_
  refine V_zreturn dX20_kind_26 rfl hk.nar ?_
  exact k
end FAIL
