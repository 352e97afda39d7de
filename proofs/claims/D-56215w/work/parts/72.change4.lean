/-! MODULE Office: addReport mix -/
set_option maxRecDepth 100000
section CHG4
variable {l : Launch} {E : g_E} {P : Outcome → g_G → Prop} {G : g_G}
theorem off_addReport {A : Nat → Prop} {n a s pa al ta : Nat} {fs rs : List Nat} {o : Of} {t : Tn} {tol rew : Int32} (h : OffC E A n G a o s pa fs al rs) (hB : g_B E ≤ n) (hn : n ≤ G.2.1) (hA : ∀ q, G.2.1 ≤ q → A q) (ht : TintAt E A G ta t) (hf : g_fit E G 5 110) (kt : crep o t.1 t.2.1 t.2.2 tol rew = 0 → ∀ G', g_mod (fun q => q < n) G G' 5 110 → OffAt E A n G' a (ofRep o t tol rew) → P (.returned (some (.int (o.2.2 3)))) G') (kf : crep o t.1 t.2.1 t.2.2 tol rew ≠ 0 → ∀ q G', g_mod (fun q => q < n) G G' 5 110 → CfAt G' q (kOf (crep o t.1 t.2.1 t.2.2 tol rew) 97 115) → P (.threw q) G') : g_Spc l E mX2_addReport 8 [.ref a, .ref ta, .int tol, .int rew] G P := by
  obtain ⟨hf1, hf2⟩ := hf
  have hl := h.len
  obtain ⟨b1, b2, b3, b4⟩ := h.lt
  obtain ⟨pt, hpt⟩ := ht.obj
  refine V_intro (plainFor_of_name plX2) (Nat.le_of_ble_eq_true rfl) ?_
  refine V_wf (fun wf hBG => ?_)
  have hk1 : ∀ y m, g_ke g_all G (g_new G y m) := fun y m => g_ke.new wf _ _
  generalize hF : upd (upd (upd (fun _ => (0 : Int32)) (Int32.toNatClampNeg 0) t.1) (Int32.toNatClampNeg 1) t.2.1) (Int32.toNatClampNeg 2) t.2.2 = F
  have hF3 : ∀ k, k < 3 → F k = tn_at t k := fun k hk => by rw [← hF]; exact upd3 hk
  have hk2 : g_ke g_all G (g_new G (g_ai E 3 F) 3) := hk1 _ _
  have wf1 : g_wf (g_new G (g_ai E 3 F) 3) := wf.new _ _
  have hC1 : OffC E A n (g_new G (g_ai E 3 F) 3) a o s pa fs al rs := h.keep (hk2.mono fun _ _ => trivial)
  have ht1 : TintAt E A (g_new G (g_ai E 3 F) 3) ta t := ht.keep (hk2.mono fun _ _ => trivial)
  obtain ⟨mc, ar, hc⟩ := hC1.2.2.2.2.2.2.1.cell
  have thr : ∀ {pc : Nat} {L : List (Nat × Value)} {kd : Int32}, crep o t.1 t.2.1 t.2.2 tol rew ≠ 0 → kOf (crep o t.1 t.2.1 t.2.2 tol rew) 97 115 = kd → ∀ q G', g_mod g_all (g_new G (g_ai E 3 F) 3) G' 1 7 → CfAt G' q kd → VX l E mX2_addReport 8 P pc L q G' := by
    intro pc L kd hne ek q G' m hcf
    obtain ⟨m1, m2, m3, m4, m5⟩ := m
    refine VX_out (ci := 0) (fs := []) rfl (kf hne q G' ⟨(hk2.trans m1).mono fun _ _ => trivial, ?_, ?_, ?_, ?_⟩ (by rw [ek]; exact hcf))
    · simp only [g_new] at m2; omega
    · simp only [g_new] at m3; omega
    · simp only [g_new] at m4; omega
    · simp only [g_new] at m5; omega
  have last : crep o t.1 t.2.1 t.2.2 tol rew = 0 → o.2.1.length < 6 → V l E mX2_addReport 8 P 90 (lv_args 0 [.ref a, .ref ta, .int tol, .int rew]) [] (g_new G (g_ai E 3 F) 3) := by
    intro h0 h6
    have hk3 : g_ke g_all (g_new G (g_ai E 3 F) 3) (g_new (g_new G (g_ai E 3 F) 3) (g_ob 10 [.int (o.2.2 3), .ref ta, .int tol, .int rew]) 4) := g_ke.new wf1 _ _
    have hC2 : OffC E A n (g_new (g_new G (g_ai E 3 F) 3) (g_ob 10 [.int (o.2.2 3), .ref ta, .int tol, .int rew]) 4) a o s pa fs al rs := hC1.keep (hk3.mono fun _ _ => trivial)
    have hRp : RptAt E A (g_new (g_new G (g_ai E 3 F) 3) (g_ob 10 [.int (o.2.2 3), .ref ta, .int tol, .int rew]) 4) (g_new G (g_ai E 3 F) 3).2.1 (o.2.2 3, t, tol, rew) := ⟨hA _ (by simp only [g_new]; omega), ta, g_new_at rfl, ht1.keep (hk3.mono fun _ _ => trivial)⟩
    obtain ⟨mc2, ar2, hc2⟩ := hC2.2.2.2.2.2.2.1.cell
    have hal : a ≠ al := g_apart hC2.2.2.2.1 hc2 (by intro e; cases e)
    have hnar : ¬ AlsAr E n (g_new (g_new G (g_ai E 3 F) 3) (g_ob 10 [.int (o.2.2 3), .ref ta, .int tol, .int rew]) 4) al a := by
      intro ⟨_, _, cap, g, hg⟩
      exact absurd rfl (g_apart hg hC2.2.2.2.1 (by intro e; cases e))
    have hne : (g_new G (g_ai E 3 F) 3).2.1 ≠ al := g_apart (x := g_ob 10 [.int (o.2.2 3), .ref ta, .int tol, .int rew]) (g_new_at rfl) hc2 (by intro e; cases e)
    have hpl : pa < (g_new (g_new G (g_ai E 3 F) 3) (g_ob 10 [.int (o.2.2 3), .ref ta, .int tol, .int rew]) 4).2.1 := by
      obtain ⟨-, -, -, -, -, -, ff, j7, -⟩ := hC2.2.2.2.2.1
      exact (wf1.new _ _) _ _ j7
    refine V_aload_n dX2_addReport_90 rfl (Or.inl ⟨_, rfl⟩) ?_
    refine V_get ckX2 hC1.2.2.2.1 1 (by decide) q225 rfl (by rfl) dX2_addReport_91 ?_
    refine V_new ckX12 q836 dX2_addReport_94 (by first | omega | (simp only [g_new, g_up]; omega)) (by first | omega | (simp only [g_new, g_up]; omega)) ?_
    refine V_dup dX2_addReport_97 rfl ?_
    refine V_aload_n dX2_addReport_98 rfl (Or.inl ⟨_, rfl⟩) ?_
    refine V_get ckX2 (g_new_of (wf1.ne hC1.2.2.2.1) hC1.2.2.2.1) 4 (by decide) q230 rfl (by rfl) dX2_addReport_99 ?_
    refine V_aload_n dX2_addReport_102 rfl (Or.inl ⟨_, rfl⟩) ?_
    refine V_iload_n dX2_addReport_103 rfl ?_
    refine V_iload_n dX2_addReport_104 rfl ?_
    refine V_callI kX12_init rfl rfl q1107 q1108 dX2_addReport_105 ?_ (d' := 1) (as := [_, _, _, _]) (hst := rfl)
    refine (rpt_init (g_new_at rfl) (by first | assumption | omega | (simp only [g_new, g_up]; omega) | (simp only [g_new, g_up, g_B] at *; omega)) ?_)
    rw [g_new_up rfl]
    refine V_callF (q := (RJ2, TJ2, 3)) (x := ⟨"java/util/List", "add", "(Ljava/lang/Object;)Z"⟩) kJ2_add q838 ⟨by decide +kernel, by decide +kernel⟩ q840 q839 q844 q842 q529 (by decide +kernel) q843 q841 hc2 rfl dX2_addReport_108 ?_ (d' := 6) (as := [_]) (hst := rfl)
    refine (als_add hC2.2.2.2.2.2.2.1 hB (by simp only [g_new]; omega) (fun q hq => hA q (by simp only [g_new] at hq; omega)) (g_new_at rfl) (g_cast_of (q := (RX12, TX12, 4)) rfl q3327) hne (hC2.2.2.2.2.2.2.2.1.el hc2) (by omega) ⟨by simp only [g_new]; omega, by simp only [g_new]; omega⟩ (fun G3 m hno hal3 => ?_))
    refine V_pop dX2_addReport_113 rfl ?_
    obtain ⟨m1, m2, m3, m4, m5⟩ := m
    have c3 : G3.1 a = some (offO o s al) := m1 _ _ ⟨hal, hnar⟩ hC2.2.2.2.1
    refine V_aload_n dX2_addReport_114 rfl (Or.inl ⟨_, rfl⟩) ?_
    refine V_dup dX2_addReport_115 rfl ?_
    refine V_get ckX2 (by first | assumption | (repeat (first | exact g_up_at | exact g_new_at rfl | assumption | refine g_up_of (by first | assumption | (simp only [g_new, g_up]; omega) | omega) ?_ | refine g_new_of (by first | assumption | (simp only [g_new, g_up]; omega) | omega) ?_))) 4 (by decide) q230 rfl (by rfl) dX2_addReport_116 ?_
    refine V_iconstv 1 dX2_addReport_119 (by decide) ?_
    refine V_iadd dX2_addReport_120 ?_
    refine V_put ckX2 (by first | assumption | (repeat (first | exact g_up_at | exact g_new_at rfl | assumption | refine g_up_of (by first | assumption | (simp only [g_new, g_up]; omega) | omega) ?_ | refine g_new_of (by first | assumption | (simp only [g_new, g_up]; omega) | omega) ?_))) (by first | assumption | omega | (simp only [g_new, g_up]; omega) | (simp only [g_new, g_up, g_B] at *; omega)) 4 (by decide) q230 rfl rfl rfl rfl (Nat.le_of_ble_eq_true rfl) dX2_addReport_121 ?_
    refine V_aload_n dX2_addReport_124 rfl (Or.inl ⟨_, rfl⟩) ?_
    refine V_get ckX2 (by first | assumption | (repeat (first | exact g_up_at | exact g_new_at rfl | assumption | refine g_up_of (by first | assumption | (simp only [g_new, g_up]; omega) | omega) ?_ | refine g_new_of (by first | assumption | (simp only [g_new, g_up]; omega) | omega) ?_))) 4 (by decide) q230 rfl (by rfl) dX2_addReport_125 ?_
    refine V_iconstv 1 dX2_addReport_128 (by decide) ?_
    refine V_isub dX2_addReport_129 ?_
    rw [Int32.add_sub_cancel]
    refine V_ireturn dX2_addReport_130 rfl ?_
    have kA : g_ke (fun q => q ≠ a) G3 (g_up G3 a (offO (ofRep o t tol rew) s al)) := g_ke.up (fun q => q rfl) _
    have hk9 : g_ke (fun q => q < n) (g_new (g_new G (g_ai E 3 F) 3) (g_ob 10 [.int (o.2.2 3), .ref ta, .int tol, .int rew]) 4) G3 := fun z y hz hy => m1 z y ⟨by have hz : z < n := hz; omega, fun q => absurd q.1 (by have hz : z < n := hz; omega)⟩ hy
    refine kt h0 (g_up G3 a (offO (ofRep o t tol rew) s al)) ⟨?_, ?_, ?_, ?_, ?_⟩ ⟨s, pa, fs, al, _, hC2.chgR (o' := ofRep o t tol rew) ?_ hC2.2.2.1 g_up_at (hal3.ke2 kA hal.symm (fun q hq e => ?_)) ?_ ?_ ?_ rfl⟩
    · exact ((hk2.trans hk3).mono fun _ _ => trivial).trans (hk9.trans (kA.mono fun q hq => by have hq : q < n := hq; omega))
    · simp only [g_new, g_up] at *; omega
    · simp only [g_new, g_up] at *; omega
    · simp only [g_new, g_up] at *; omega
    · simp only [g_new, g_up] at *; omega
    · exact fun z y hz hy => g_up_of hz.2.2 (m1 z y ⟨hz.1, hz.2.1⟩ hy)
    · subst e
      obtain ⟨-, -, cap, g, hg⟩ := hq
      rw [c3] at hg
      cases hg
    · have n1 : ∀ q x, (g_new (g_new G (g_ai E 3 F) 3) (g_ob 10 [.int (o.2.2 3), .ref ta, .int tol, .int rew]) 4).1 q = some x → isF x = true → q ≠ al ∧ ¬ AlsAr E n (g_new (g_new G (g_ai E 3 F) 3) (g_ob 10 [.int (o.2.2 3), .ref ta, .int tol, .int rew]) 4) al q := fun q x hx hi => by
        refine ⟨?_, ?_⟩
        · intro e
          subst e
          rw [hc2] at hx
          cases hx
          cases (show false = true from hi)
        · intro ⟨_, _, cap, g, hg⟩
          rw [hx] at hg
          cases hg
          cases (show false = true from hi)
      have n2 : ∀ q x, G3.1 q = some x → isF x = true → q ≠ a := fun q x hx hi e => by
        subst e
        rw [c3] at hx
        cases hx
        cases (show false = true from hi)
      have hcell2 : (g_new (g_new G (g_ai E 3 F) 3) (g_ob 10 [.int (o.2.2 3), .ref ta, .int tol, .int rew]) 4).1 (g_new G (g_ai E 3 F) 3).2.1 = some (g_ob 10 [.int (o.2.2 3), .ref ta, .int tol, .int rew]) := g_new_at rfl
      have r3 := hRp.ke2 m1 (n1 _ _ hcell2 rfl) (fun q x hx hi => n1 q x hx (isF_T hi))
      have hcell3 := m1 _ _ (n1 _ _ hcell2 rfl) hcell2
      exact RsAt.push ((hC2.2.2.2.2.2.2.2.1.ke3 m1 n1).ke3 kA n2) (r3.ke2 kA (n2 _ _ hcell3 rfl) (fun q x hx hi => n2 q x hx (isF_T hi)))
    · rw [List.length_append]
      show rs.length + 1 ≤ 6
      omega
    · refine AlsNo.back hal3 (fun x hx => g_up_of hal.symm hx) (hno _ hpl hC2.2.2.2.2.2.2.2.2.2)
  have rest3 : (isb t.1 0 99 && isb t.2.1 0 99 && isb t.2.2 0 99 && isb tol 0 9999 && isb rew 1 99) = true → ∀ c, c = decide (o.2.1.length < 6) → V l E mX2_addReport 8 P 85 (lv_args 0 [.ref a, .ref ta, .int tol, .int rew]) [.int (b2i c)] (g_new G (g_ai E 3 F) 3) := by
    intro hok c hcc
    have ec : crep o t.1 t.2.1 t.2.2 tol rew = if o.2.1.length = 6 then 2 else 0 := by unfold crep; rw [if_pos hok]
    refine V_bipushv 115 dX2_addReport_85 (by decide) ?_
    refine V_callSN kX1_demand q1045 q1046 dX2_addReport_87 ?_ (d' := 7) (as := [_, _]) (hst := rfl)
    refine (co_demand isC_115 ⟨by simp only [g_new]; omega, by simp only [g_new]; omega⟩ (fun hb => ?_) (fun hb q G' m _ hcf => ?_))
    · rw [hcc] at hb
      have h10 := of_decide_eq_true hb
      exact last (by rw [ec, if_neg (by omega)]) h10
    · rw [hcc] at hb
      have h10 := of_decide_eq_false hb
      have e2 : crep o t.1 t.2.1 t.2.2 tol rew = 2 := by rw [ec, if_pos (by omega)]
      exact thr (by rw [e2]; decide) (by rw [e2]; rfl) q G' m hcf
  have rest2 : (isb t.1 0 99 && isb t.2.1 0 99 && isb t.2.2 0 99) = true → ∀ c, c = (isb tol 0 9999 && isb rew 1 99) → V l E mX2_addReport 8 P 61 (lv_args 0 [.ref a, .ref ta, .int tol, .int rew]) [.int (b2i c)] (g_new G (g_ai E 3 F) 3) := by
    intro hp c hcc
    refine V_bipushv 97 dX2_addReport_61 (by decide) ?_
    refine V_callSN kX1_demand q1045 q1046 dX2_addReport_63 ?_ (d' := 7) (as := [_, _]) (hst := rfl)
    refine (co_demand isC_97 ⟨by simp only [g_new]; omega, by simp only [g_new]; omega⟩ (fun hb => ?_) (fun hb q G' m _ hcf => ?_))
    · rw [hcc] at hb
      have hok : (isb t.1 0 99 && isb t.2.1 0 99 && isb t.2.2 0 99 && isb tol 0 9999 && isb rew 1 99) = true := by rw [hp, Bool.true_and]; exact hb
      refine V_aload_n dX2_addReport_66 rfl (Or.inl ⟨_, rfl⟩) ?_
      refine V_get ckX2 hC1.2.2.2.1 1 (by decide) q225 rfl (by rfl) dX2_addReport_67 ?_
      refine V_callF (q := (RJ2, TJ2, 3)) (x := ⟨"java/util/List", "size", "()I"⟩) kJ2_size q526 ⟨by decide +kernel, by decide +kernel⟩ q528 q527 q533 q531 q529 (by decide +kernel) q532 q530 hc rfl dX2_addReport_70 ?_ (d' := 0) (as := []) (hst := rfl)
      refine (hC1.2.2.2.2.2.2.1.size ?_)
      refine V_bipushv 6 dX2_addReport_75 (by decide) ?_
      refine V_icmp_ge 84 dX2_addReport_77 (by decide) (fun c77 => ?_) (fun c77 => ?_)
      · refine V_iconstv 0 dX2_addReport_84 (by decide) ?_
        have e : decide (o.2.1.length < 6) = false := decide_eq_false fun q => absurd c77 (nI_ge (a := rs.length) (b := 6) (by omega) (by decide))
        exact rest3 hok false e.symm
      · refine V_iconstv 1 dX2_addReport_80 (by decide) ?_
        refine V_goto 85 dX2_addReport_81 (by decide) ?_
        have e : decide (o.2.1.length < 6) = true := decide_eq_true (by
          rw [← hl.2.1]
          exact Nat.not_le.mp fun q => c77 (nI_le q (by omega)))
        exact rest3 hok true e.symm
    · have e1 : crep o t.1 t.2.1 t.2.2 tol rew = 1 := by
        unfold crep
        rw [if_neg (by
          rw [hp, Bool.true_and, ← hcc, hb]
          decide)]
      exact thr (by rw [e1]; decide) (by rw [e1]; rfl) q G' m hcf
  refine V_iconstv 3 dX2_addReport_0 (by decide) ?_
  refine V_newarray_int 3 rfl (by decide) q388 dX2_addReport_1 (by first | omega | (simp only [g_new, g_up]; omega)) (by first | omega | (simp only [g_new, g_up]; omega)) ?_
  refine V_dup dX2_addReport_3 rfl ?_
  refine V_iconstv 0 dX2_addReport_4 (by decide) ?_
  refine V_aload_n dX2_addReport_5 rfl (Or.inl ⟨_, rfl⟩) ?_
  refine V_iconstv 0 dX2_addReport_6 (by decide) ?_
  refine V_callV (q := (RX11, TX11, 1)) kX11_part q1102 q1103 q1104 (g_new_of (wf.ne hpt) hpt) rfl dX2_addReport_7 ?_ (d' := 0) (as := [_]) (hst := rfl)
  refine (tint_part (k := 0) (ht.keep ((hk1 _ _).mono fun _ _ => trivial)) rfl (by decide) ?_)
  refine V_iastore (by first | assumption | (repeat (first | exact g_up_at | exact g_new_at rfl | assumption | refine g_up_of (by first | assumption | (simp only [g_new, g_up]; omega) | omega) ?_ | refine g_new_of (by first | assumption | (simp only [g_new, g_up]; omega) | omega) ?_))) (by first | assumption | omega | (simp only [g_new, g_up]; omega) | (simp only [g_new, g_up, g_B] at *; omega)) (by first | assumption | exact g_in (by decide)) q388 dX2_addReport_10 ?_
  rw [g_new_up rfl]
  refine V_dup dX2_addReport_11 rfl ?_
  refine V_iconstv 1 dX2_addReport_12 (by decide) ?_
  refine V_aload_n dX2_addReport_13 rfl (Or.inl ⟨_, rfl⟩) ?_
  refine V_iconstv 1 dX2_addReport_14 (by decide) ?_
  refine V_callV (q := (RX11, TX11, 1)) kX11_part q1102 q1103 q1104 (g_new_of (wf.ne hpt) hpt) rfl dX2_addReport_15 ?_ (d' := 0) (as := [_]) (hst := rfl)
  refine (tint_part (k := 1) (ht.keep ((hk1 _ _).mono fun _ _ => trivial)) rfl (by decide) ?_)
  refine V_iastore (by first | assumption | (repeat (first | exact g_up_at | exact g_new_at rfl | assumption | refine g_up_of (by first | assumption | (simp only [g_new, g_up]; omega) | omega) ?_ | refine g_new_of (by first | assumption | (simp only [g_new, g_up]; omega) | omega) ?_))) (by first | assumption | omega | (simp only [g_new, g_up]; omega) | (simp only [g_new, g_up, g_B] at *; omega)) (by first | assumption | exact g_in (by decide)) q388 dX2_addReport_18 ?_
  rw [g_new_up rfl]
  refine V_dup dX2_addReport_19 rfl ?_
  refine V_iconstv 2 dX2_addReport_20 (by decide) ?_
  refine V_aload_n dX2_addReport_21 rfl (Or.inl ⟨_, rfl⟩) ?_
  refine V_iconstv 2 dX2_addReport_22 (by decide) ?_
  refine V_callV (q := (RX11, TX11, 1)) kX11_part q1102 q1103 q1104 (g_new_of (wf.ne hpt) hpt) rfl dX2_addReport_23 ?_ (d' := 0) (as := [_]) (hst := rfl)
  refine (tint_part (k := 2) (ht.keep ((hk1 _ _).mono fun _ _ => trivial)) rfl (by decide) ?_)
  refine V_iastore (by first | assumption | (repeat (first | exact g_up_at | exact g_new_at rfl | assumption | refine g_up_of (by first | assumption | (simp only [g_new, g_up]; omega) | omega) ?_ | refine g_new_of (by first | assumption | (simp only [g_new, g_up]; omega) | omega) ?_))) (by first | assumption | omega | (simp only [g_new, g_up]; omega) | (simp only [g_new, g_up, g_B] at *; omega)) (by first | assumption | exact g_in (by decide)) q388 dX2_addReport_26 ?_
  rw [g_new_up rfl, show upd (upd (upd (fun _ => (0 : Int32)) (Int32.toNatClampNeg 0) (tn_at t 0)) (Int32.toNatClampNeg 1) (tn_at t 1)) (Int32.toNatClampNeg 2) (tn_at t 2) = F from hF]
  refine V_callSN kX1_areParts q1038 q1039 dX2_addReport_27 ?_ (d' := 1) (as := [_]) (hst := rfl)
  refine (co_areParts (g_new_at rfl) ?_)
  rw [okF3, hF3 0 (by decide), hF3 1 (by decide), hF3 2 (by decide)]
  refine V_bipushv 97 dX2_addReport_30 (by decide) ?_
  refine V_callSN kX1_demand q1045 q1046 dX2_addReport_32 ?_ (d' := 7) (as := [_, _]) (hst := rfl)
  refine (co_demand isC_97 ⟨by simp only [g_new]; omega, by simp only [g_new]; omega⟩ (fun hb => ?_) (fun hb q G' m _ hcf => ?_))
  · have hp : (isb t.1 0 99 && isb t.2.1 0 99 && isb t.2.2 0 99) = true := hb
    refine V_iload_n dX2_addReport_35 rfl ?_
    refine V_iconstv 0 dX2_addReport_36 (by decide) ?_
    refine V_sipushv 9999 dX2_addReport_37 (by decide) ?_
    refine V_callSN kX1_isBetween q1044 q1042 dX2_addReport_40 ?_ (d' := 0) (as := [_, _, _]) (hst := rfl)
    refine (co_isBetween ?_)
    refine V_if_eq 60 dX2_addReport_43 (by decide) (fun c43 => ?_) (fun c43 => ?_)
    · refine V_iconstv 0 dX2_addReport_60 (by decide) ?_
      refine rest2 hp false ?_
      rw [b2i_f c43]
      rfl
    · refine V_iload_n dX2_addReport_46 rfl ?_
      refine V_iconstv 1 dX2_addReport_47 (by decide) ?_
      refine V_bipushv 99 dX2_addReport_48 (by decide) ?_
      refine V_callSN kX1_isBetween q1044 q1042 dX2_addReport_50 ?_ (d' := 0) (as := [_, _, _]) (hst := rfl)
      refine (co_isBetween ?_)
      refine V_if_eq 60 dX2_addReport_53 (by decide) (fun c53 => ?_) (fun c53 => ?_)
      · refine V_iconstv 0 dX2_addReport_60 (by decide) ?_
        refine rest2 hp false ?_
        rw [b2i_t c43, b2i_f c53]
        rfl
      · refine V_iconstv 1 dX2_addReport_56 (by decide) ?_
        refine V_goto 61 dX2_addReport_57 (by decide) ?_
        refine rest2 hp true ?_
        rw [b2i_t c43, b2i_t c53]
        rfl
  · have hp : (isb t.1 0 99 && isb t.2.1 0 99 && isb t.2.2 0 99) = false := hb
    have e1 : crep o t.1 t.2.1 t.2.2 tol rew = 1 := by
      unfold crep
      rw [if_neg (by
        rw [hp]
        simp)]
    exact thr (by rw [e1]; decide) (by rw [e1]; rfl) q G' m hcf
theorem plc_erase {x y : Int32} {L : List Rw} {i j : Nat} (hd : (L.map (·.1)).Nodup) (hi : plc x L = some i) (hj : plc y L = some j) (hne : i ≠ j) : plc y (L.eraseIdx i) = some (if j < i then j else j - 1) := by
  induction L generalizing i j with
  | nil => exact absurd hi (by simp [plc])
  | cons r t ih =>
    rw [List.map_cons, List.nodup_cons] at hd
    unfold plc at hi hj
    by_cases ex : r.1 = x
    · rw [if_pos ex] at hi
      cases hi
      by_cases ey : r.1 = y
      · rw [if_pos ey] at hj
        cases hj
        exact absurd rfl hne
      · rw [if_neg ey] at hj
        obtain ⟨m, hm, rfl⟩ := Option.map_eq_some_iff.mp hj
        rw [if_neg (Nat.not_lt_zero _)]
        exact hm
    · rw [if_neg ex] at hi
      obtain ⟨m, hm, rfl⟩ := Option.map_eq_some_iff.mp hi
      rw [List.eraseIdx_cons_succ]
      unfold plc
      by_cases ey : r.1 = y
      · rw [if_pos ey] at hj
        cases hj
        rw [if_pos ey, if_pos (Nat.succ_pos _)]
      · rw [if_neg ey] at hj
        obtain ⟨k, hk, rfl⟩ := Option.map_eq_some_iff.mp hj
        rw [if_neg ey, ih hd.2 hm hk (by omega)]
        by_cases e : k < m
        · rw [if_pos e, if_pos (by omega)]
          rfl
        · rw [if_neg e, if_neg (by omega)]
          show some (k - 1 + 1) = some (k + 1 - 1)
          congr 1
          omega
theorem erase2 {L : List Rw} {i j : Nat} (hij : i ≠ j) : (L.eraseIdx i).eraseIdx (if j < i then j else j - 1) = (L.eraseIdx (max i j)).eraseIdx (min i j) := by
  apply List.ext_getElem?
  intro q
  rw [erase_at, erase_at, erase_at, erase_at, erase_at, erase_at]
  by_cases h : j < i
  · rw [if_pos h, show max i j = i from by omega, show min i j = j from by omega]
  · rw [if_neg h, show max i j = j from by omega, show min i j = i from by omega]
    repeat' split
    all_goals first | rfl | omega | (congr 1; omega)
theorem off_mix {A : Nat → Prop} {n a s pa al : Nat} {fs rs : List Nat} {o : Of} {x y : Int32} (h : OffC E A n G a o s pa fs al rs) (hB : g_B E ≤ n) (hn : n ≤ G.2.1) (hA : ∀ q, G.2.1 ≤ q → A q) (hi : IdO o) (hf : g_fit E G 5 20) (kt : cmix o x y = 0 → ∀ i j, plc x o.1 = some i → plc y o.1 = some j → ∀ G', g_mod (fun q => q < n) G G' 5 20 → OffAt E A n G' a (ofMix o i j) → P (.returned (some (.int (o.2.2 2)))) G') (kf : cmix o x y ≠ 0 → ∀ q G', g_mod (fun q => q < n) G G' 5 20 → CfAt G' q (kOf (cmix o x y) 101 97) → P (.threw q) G') : g_Spc l E mX2_mix 8 [.ref a, .int x, .int y] G P := by
  obtain ⟨hf1, hf2⟩ := hf
  have hl := h.len
  obtain ⟨b1, b2, b3, b4⟩ := h.lt
  have k4 := h.2.2.2.1
  refine V_intro (plainFor_of_name plX2) (Nat.le_of_ble_eq_true rfl) ?_
  refine V_wf (fun wf hBG => ?_)
  have thr : ∀ {pc : Nat} {L : List (Nat × Value)} {kd : Int32}, cmix o x y ≠ 0 → kOf (cmix o x y) 101 97 = kd → ∀ q G', g_mod g_all G G' 1 7 → CfAt G' q kd → VX l E mX2_mix 8 P pc L q G' := by
    intro pc L kd hne ek q G' m hcf
    obtain ⟨m1, m2, m3, m4, m5⟩ := m
    refine VX_out (ci := 0) (fs := []) rfl (kf hne q G' ⟨m1.mono fun _ _ => trivial, by omega, by omega, by omega, by omega⟩ (by rw [ek]; exact hcf))
  have last : ∀ i j, plc x o.1 = some i → plc y o.1 = some j → x ≠ y → V l E mX2_mix 8 P 41 (lv_args 0 [.ref a, .int x, .int y]) [] G := by
    intro i j hx hy hne
    have hij : i ≠ j := by
      intro e
      subst e
      obtain ⟨r1, q1, q2⟩ := plc_some hx
      obtain ⟨r2, q3, q4⟩ := plc_some hy
      rw [q1] at q3
      cases q3
      exact hne (q2.symm.trans q4)
    have h0 : cmix o x y = 0 := by
      unfold cmix
      rw [if_neg (by rw [hx, hy]; simp), if_neg hne]
    have hil := plc_lt hx
    have hjl := plc_lt hy
    refine V_aload_n dX2_mix_41 rfl (Or.inl ⟨_, rfl⟩) ?_
    refine V_iload_n dX2_mix_42 rfl ?_
    refine V_callV (q := (RX2, TX2, 10)) kX2_colour q1396 q1397 q1398 (by first | assumption | (repeat (first | exact g_up_at | exact g_new_at rfl | assumption | refine g_up_of (by first | assumption | (simp only [g_new, g_up]; omega) | omega) ?_ | refine g_new_of (by first | assumption | (simp only [g_new, g_up]; omega) | omega) ?_))) rfl dX2_mix_43 ?_ (d' := 1) (as := [_]) (hst := rfl)
    refine (off_colour h hi hx (fun q r _ hr hq => ?_))
    obtain ⟨ta, hqc, ht⟩ := TintAt.ag hq
    obtain ⟨pt, hpt⟩ := ht.obj
    have er := rwAt_of hr
    refine V_getN ckX7 (by first | assumption | (repeat (first | exact g_up_at | exact g_new_at rfl | assumption | refine g_up_of (by first | assumption | (simp only [g_new, g_up]; omega) | omega) ?_ | refine g_new_of (by first | assumption | (simp only [g_new, g_up]; omega) | omega) ?_))) 2 (by decide) q508 rfl (by rfl) dX2_mix_46 ?_
    refine V_aload_n dX2_mix_49 rfl (Or.inl ⟨_, rfl⟩) ?_
    refine V_iload_n dX2_mix_50 rfl ?_
    refine V_callV (q := (RX2, TX2, 10)) kX2_colour q1396 q1397 q1398 (by first | assumption | (repeat (first | exact g_up_at | exact g_new_at rfl | assumption | refine g_up_of (by first | assumption | (simp only [g_new, g_up]; omega) | omega) ?_ | refine g_new_of (by first | assumption | (simp only [g_new, g_up]; omega) | omega) ?_))) rfl dX2_mix_51 ?_ (d' := 1) (as := [_]) (hst := rfl)
    refine (off_colour h hi hy (fun q2 r2 _ hr2 hq2 => ?_))
    obtain ⟨tb, hqc2, ht2⟩ := TintAt.ag hq2
    have er2 := rwAt_of hr2
    refine V_getN ckX7 (by first | assumption | (repeat (first | exact g_up_at | exact g_new_at rfl | assumption | refine g_up_of (by first | assumption | (simp only [g_new, g_up]; omega) | omega) ?_ | refine g_new_of (by first | assumption | (simp only [g_new, g_up]; omega) | omega) ?_))) 2 (by decide) q508 rfl (by rfl) dX2_mix_54 ?_
    refine V_callV (q := (RX11, TX11, 1)) kX11_mixedWith q1476 q1477 q1478 (by first | assumption | (repeat (first | exact g_up_at | exact g_new_at rfl | assumption | refine g_up_of (by first | assumption | (simp only [g_new, g_up]; omega) | omega) ?_ | refine g_new_of (by first | assumption | (simp only [g_new, g_up]; omega) | omega) ?_))) rfl dX2_mix_57 ?_ (d' := 2) (as := [_]) (hst := rfl)
    refine (tint_mixedWith ht ht2 ⟨by omega, by omega⟩ (fun c G1 m hc => ?_))
    obtain ⟨m1, m2, m3, m4, m5⟩ := m
    have hC1 : OffC E A n G1 a o s pa fs al rs := h.keep (m1.mono fun _ _ => trivial)
    have hc1 : TintAt E A G1 c (mixT r.2.1 r2.2.1) := hc.mono (fun q hq => hA q hq)
    refine V_astore_n dX2_mix_60 (Or.inl ⟨_, rfl⟩) (by decide) ?_
    refine V_aload_n dX2_mix_61 rfl (Or.inl ⟨_, rfl⟩) ?_
    refine V_iload_n dX2_mix_62 rfl ?_
    refine V_callV (q := (RX2, TX2, 10)) kX2_colour q1396 q1397 q1398 hC1.2.2.2.1 rfl dX2_mix_63 ?_ (d' := 1) (as := [_]) (hst := rfl)
    refine (off_colour hC1 hi hx (fun q3 r3 _ hr3 hq3 => ?_))
    cases hr.symm.trans hr3
    obtain ⟨ta3, hqc3, -⟩ := TintAt.ag hq3
    refine V_getN ckX7 (by first | assumption | (repeat (first | exact g_up_at | exact g_new_at rfl | assumption | refine g_up_of (by first | assumption | (simp only [g_new, g_up]; omega) | omega) ?_ | refine g_new_of (by first | assumption | (simp only [g_new, g_up]; omega) | omega) ?_))) 1 (by decide) q501 rfl (by rfl) dX2_mix_66 ?_
    refine V_aload_n dX2_mix_69 rfl (Or.inl ⟨_, rfl⟩) ?_
    refine V_iload_n dX2_mix_70 rfl ?_
    refine V_callV (q := (RX2, TX2, 10)) kX2_colour q1396 q1397 q1398 hC1.2.2.2.1 rfl dX2_mix_71 ?_ (d' := 1) (as := [_]) (hst := rfl)
    refine (off_colour hC1 hi hy (fun q4 r4 _ hr4 hq4 => ?_))
    cases hr2.symm.trans hr4
    obtain ⟨ta4, hqc4, -⟩ := TintAt.ag hq4
    refine V_getN ckX7 (by first | assumption | (repeat (first | exact g_up_at | exact g_new_at rfl | assumption | refine g_up_of (by first | assumption | (simp only [g_new, g_up]; omega) | omega) ?_ | refine g_new_of (by first | assumption | (simp only [g_new, g_up]; omega) | omega) ?_))) 1 (by decide) q501 rfl (by rfl) dX2_mix_74 ?_
    refine V_callS kJ17_min q1487 q630 dX2_mix_77 ?_ (d' := 0) (as := [_, _]) (hst := rfl)
    refine (math_min ?_)
    refine V_istore dX2_mix_80 (by decide) ?_
    refine V_aload_n dX2_mix_82 rfl (Or.inl ⟨_, rfl⟩) ?_
    refine V_get ckX2 hC1.2.2.2.1 0 (by decide) q223 rfl (by rfl) dX2_mix_83 ?_
    refine V_iload_n dX2_mix_86 rfl ?_
    refine V_callV (q := (RX3, TX3, 2)) kX3_remove q1182 q1183 q1184 hC1.2.2.2.2.1.2.2.2.2.1 rfl dX2_mix_87 ?_ (d' := 1) (as := [_]) (hst := rfl)
    refine (off_lose hC1 hB hi hx (fun G2 f1 f2 ft hC2 => ?_))
    have hi2 : IdO (o.1.eraseIdx i, o.2) := ⟨hi.1.sublist ((List.eraseIdx_sublist ..).map _), hi.2⟩
    have hy2 : plc y (o.1.eraseIdx i, o.2).1 = some (if j < i then j else j - 1) := plc_erase hi.1 hx hy hij
    refine V_aload_n dX2_mix_90 rfl (Or.inl ⟨_, rfl⟩) ?_
    refine V_get ckX2 hC2.2.2.2.1 0 (by decide) q223 rfl (by rfl) dX2_mix_91 ?_
    refine V_iload_n dX2_mix_94 rfl ?_
    refine V_callV (q := (RX3, TX3, 2)) kX3_remove q1182 q1183 q1184 hC2.2.2.2.2.1.2.2.2.2.1 rfl dX2_mix_95 ?_ (d' := 1) (as := [_]) (hst := rfl)
    refine (off_lose hC2 hB hi2 hy2 (fun G3 g1 g2 gt hC3 => ?_))
    have hfs : i_min r.2.2.1 r2.2.2.1 = if r.2.2.1 < r2.2.2.1 then r.2.2.1 else r2.2.2.1 := by
      unfold i_min
      by_cases e1 : r2.2.2.1 < r.2.2.1
      · rw [if_pos e1, if_neg (Int32.not_lt.mpr (Int32.le_of_lt e1))]
      · rw [if_neg e1]
        by_cases e2 : r.2.2.1 < r2.2.2.1
        · rw [if_pos e2]
        · rw [if_neg e2]
          exact Int32.le_antisymm (Int32.not_lt.mp e1) (Int32.not_lt.mp e2)
    have ez2 : G3.2 = G1.2 := g1.trans f1
    have hc3 : TintAt E A G3 c (mixT r.2.1 r2.2.1) := (hc1.isT ft).isT gt
    have eL : (o.1.eraseIdx i).eraseIdx (if j < i then j else j - 1) = (o.1.eraseIdx (max i j)).eraseIdx (min i j) := erase2 hij
    refine V_aload_n dX2_mix_98 rfl (Or.inl ⟨_, rfl⟩) ?_
    refine V_aload_n dX2_mix_99 rfl (Or.inl ⟨_, rfl⟩) ?_
    refine V_iload dX2_mix_100 rfl ?_
    refine V_callV (q := (RX2, TX2, 10)) kX2_add q1087 q1089 qs9 hC3.2.2.2.1 rfl dX2_mix_102 ?_ (d' := 3) (as := [_, _]) (hst := rfl)
    refine (off_add hC3 hB (by rw [ez2]; omega) (fun q hq => hA q (by rw [ez2] at hq; omega)) (by show ((o.1.eraseIdx i).eraseIdx _).length < 10; rw [List.length_eraseIdx_of_lt (by rw [List.length_eraseIdx_of_lt hil]; split <;> omega), List.length_eraseIdx_of_lt hil]; omega) hc3 ⟨by rw [ez2]; omega, by rw [ez2]; omega⟩ (fun G4 mm hO => ?_))
    refine V_ireturn dX2_mix_105 rfl ?_
    obtain ⟨n1, n2, n3, n4, n5⟩ := mm
    refine kt h0 i j hx hy G4 ⟨?_, ?_, ?_, ?_, ?_⟩ ?_
    · exact (((m1.mono fun _ _ => trivial).trans f2).trans g2).trans n1
    · rw [ez2] at n2; omega
    · rw [ez2] at n3; omega
    · rw [ez2] at n4; omega
    · rw [ez2] at n5; omega
    · unfold ofMix
      rw [er, er2, ← eL, ← hfs]
      exact hO
  have rest2 : ∀ i j, plc x o.1 = some i → plc y o.1 = some j → ∀ c, c = !decide (x = y) → V l E mX2_mix 8 P 36 (lv_args 0 [.ref a, .int x, .int y]) [.int (b2i c)] G := by
    intro i j hx hy c hcc
    refine V_bipushv 97 dX2_mix_36 (by decide) ?_
    refine V_callSN kX1_demand q1045 q1046 dX2_mix_38 ?_ (d' := 7) (as := [_, _]) (hst := rfl)
    refine (co_demand isC_97 ⟨by omega, by omega⟩ (fun hb => ?_) (fun hb q G' m _ hcf => ?_))
    · rw [hcc] at hb
      exact last i j hx hy (by simpa using hb)
    · rw [hcc] at hb
      have e2 : cmix o x y = 2 := by
        unfold cmix
        rw [if_neg (by rw [hx, hy]; simp), if_pos (by simpa using hb)]
      exact thr (by rw [e2]; decide) (by rw [e2]; rfl) q G' m hcf
  have rest1 : ∀ c, c = ((plc x o.1).isSome && (plc y o.1).isSome) → V l E mX2_mix 8 P 21 (lv_args 0 [.ref a, .int x, .int y]) [.int (b2i c)] G := by
    intro c hcc
    refine V_bipushv 101 dX2_mix_21 (by decide) ?_
    refine V_callSN kX1_demand q1045 q1046 dX2_mix_23 ?_ (d' := 7) (as := [_, _]) (hst := rfl)
    refine (co_demand isC_101 ⟨by omega, by omega⟩ (fun hb => ?_) (fun hb q G' m _ hcf => ?_))
    · rw [hcc, Bool.and_eq_true] at hb
      obtain ⟨i, hx⟩ := Option.isSome_iff_exists.mp hb.1
      obtain ⟨j, hy⟩ := Option.isSome_iff_exists.mp hb.2
      refine V_iload_n dX2_mix_26 rfl ?_
      refine V_iload_n dX2_mix_27 rfl ?_
      refine V_icmp_eq 35 dX2_mix_28 (by decide) (fun c28 => ?_) (fun c28 => ?_)
      · refine V_iconstv 0 dX2_mix_35 (by decide) ?_
        refine rest2 i j hx hy false ?_
        rw [decide_eq_true c28]
        rfl
      · refine V_iconstv 1 dX2_mix_31 (by decide) ?_
        refine V_goto 36 dX2_mix_32 (by decide) ?_
        refine rest2 i j hx hy true ?_
        rw [decide_eq_false c28]
        rfl
    · have e1 : cmix o x y = 1 := by
        unfold cmix
        rw [if_pos]
        rw [hcc] at hb
        cases hx : plc x o.1 with
        | none => exact Or.inl rfl
        | some i =>
          cases hy : plc y o.1 with
          | none => exact Or.inr rfl
          | some j =>
            rw [hx, hy] at hb
            cases hb
      exact thr (by rw [e1]; decide) (by rw [e1]; rfl) q G' m hcf
  refine V_aload_n dX2_mix_0 rfl (Or.inl ⟨_, rfl⟩) ?_
  refine V_iload_n dX2_mix_1 rfl ?_
  refine V_callV (q := (RX2, TX2, 10)) kX2_hasColour q1174 q1175 q1176 (by first | assumption | (repeat (first | exact g_up_at | exact g_new_at rfl | assumption | refine g_up_of (by first | assumption | (simp only [g_new, g_up]; omega) | omega) ?_ | refine g_new_of (by first | assumption | (simp only [g_new, g_up]; omega) | omega) ?_))) rfl dX2_mix_2 ?_ (d' := 1) (as := [_]) (hst := rfl)
  refine (off_hasColour h hi ?_)
  refine V_if_eq 20 dX2_mix_5 (by decide) (fun c5 => ?_) (fun c5 => ?_)
  · refine V_iconstv 0 dX2_mix_20 (by decide) ?_
    refine rest1 false ?_
    rw [b2i_f c5]
    rfl
  · refine V_aload_n dX2_mix_8 rfl (Or.inl ⟨_, rfl⟩) ?_
    refine V_iload_n dX2_mix_9 rfl ?_
    refine V_callV (q := (RX2, TX2, 10)) kX2_hasColour q1174 q1175 q1176 (by first | assumption | (repeat (first | exact g_up_at | exact g_new_at rfl | assumption | refine g_up_of (by first | assumption | (simp only [g_new, g_up]; omega) | omega) ?_ | refine g_new_of (by first | assumption | (simp only [g_new, g_up]; omega) | omega) ?_))) rfl dX2_mix_10 ?_ (d' := 1) (as := [_]) (hst := rfl)
    refine (off_hasColour h hi ?_)
    refine V_if_eq 20 dX2_mix_13 (by decide) (fun c13 => ?_) (fun c13 => ?_)
    · refine V_iconstv 0 dX2_mix_20 (by decide) ?_
      refine rest1 false ?_
      rw [b2i_t c5, b2i_f c13]
      rfl
    · refine V_iconstv 1 dX2_mix_16 (by decide) ?_
      refine V_goto 21 dX2_mix_17 (by decide) ?_
      refine rest1 true ?_
      rw [b2i_t c5, b2i_t c13]
      rfl
end CHG4
