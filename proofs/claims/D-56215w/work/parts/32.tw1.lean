/-! REFERENCE 1: rows, places, distances -/
set_option maxRecDepth 100000
section TW1
variable {l : Launch} {E : g_E} {P : Outcome → g_G → Prop} {G : g_G} {m : Nat} {T : Tw} {o : Of}
theorem tw_in {v lo hi : Int32} (k : P (.returned (some (.int (b2i (isb v lo hi))))) G) : g_Spc l E mX5_in 0 [.int v, .int lo, .int hi] G P := by
  refine V_intro (plainFor_of_name plX5) (Nat.le_of_ble_eq_true rfl) ?_
  refine V_iload_n dX5_in_0 rfl ?_
  refine V_iload_n dX5_in_1 rfl ?_
  refine V_icmp_lt 14 dX5_in_2 (by decide) (fun c2 => ?_) (fun c2 => ?_)
  · refine V_iconstv 0 dX5_in_14 (by decide) ?_
    refine V_zreturn dX5_in_15 rfl rfl ?_
    have e : isb v lo hi = false := by simp [isb, Int32.not_le.mpr c2]
    rw [e] at k
    exact k
  · refine V_iload_n dX5_in_5 rfl ?_
    refine V_iload_n dX5_in_6 rfl ?_
    refine V_icmp_gt 14 dX5_in_7 (by decide) (fun c7 => ?_) (fun c7 => ?_)
    · refine V_iconstv 0 dX5_in_14 (by decide) ?_
      refine V_zreturn dX5_in_15 rfl rfl ?_
      have e : isb v lo hi = false := by simp [isb, Int32.not_le.mpr c7]
      rw [e] at k
      exact k
    · refine V_iconstv 1 dX5_in_10 (by decide) ?_
      refine V_goto 15 dX5_in_11 (by decide) ?_
      refine V_zreturn dX5_in_15 rfl rfl ?_
      have e : isb v lo hi = true := by simp [isb, Int32.not_lt.mp c2, Int32.not_lt.mp c7]
      rw [e] at k
      exact k
theorem tw_colourRow {x : Int32} {k : Nat} (hx : x = nI k) (kk : P (.returned (some (.int (nI (8 + 8 * k))))) G) : g_Spc l E mX5_colourRow 0 [.int x] G P := by
  subst hx
  refine V_intro (plainFor_of_name plX5) (Nat.le_of_ble_eq_true rfl) ?_
  refine V_bipushv 8 dX5_colourRow_0 (by decide) ?_
  refine V_bipushv 8 dX5_colourRow_2 (by decide) ?_
  refine V_iload_n dX5_colourRow_4 rfl ?_
  refine V_imul dX5_colourRow_5 ?_
  refine V_iadd dX5_colourRow_6 ?_
  rw [show (8 : Int32) + 8 * nI k = nI (8 + 8 * k) from by rw [← nI_add, ← nI_mul]; rfl]
  refine V_ireturn dX5_colourRow_7 rfl ?_
  exact kk
theorem tw_reportRow {x : Int32} {k : Nat} (hx : x = nI k) (kk : P (.returned (some (.int (nI (88 + 8 * k))))) G) : g_Spc l E mX5_reportRow 0 [.int x] G P := by
  subst hx
  refine V_intro (plainFor_of_name plX5) (Nat.le_of_ble_eq_true rfl) ?_
  refine V_bipushv 88 dX5_reportRow_0 (by decide) ?_
  refine V_bipushv 8 dX5_reportRow_2 (by decide) ?_
  refine V_iload_n dX5_reportRow_4 rfl ?_
  refine V_imul dX5_reportRow_5 ?_
  refine V_iadd dX5_reportRow_6 ?_
  rw [show (88 : Int32) + 8 * nI k = nI (88 + 8 * k) from by rw [← nI_add, ← nI_mul]; rfl]
  refine V_ireturn dX5_reportRow_7 rfl ?_
  exact kk
theorem tw_c {x y : Int32} {k j : Nat} {r : Rw} (h : TwO (T.1 1) o) (hx : x = nI k) (hy : y = nI j) (hk : o.1[k]? = some r) (hj : j < 6) (kk : P (.returned (some (.int (rw_at r j)))) (g_tG E G m T)) : g_Spc l E mX5_c 1 [.ref m, .int x, .int y] (g_tG E G m T) P := by
  have hl := lt_of_at hk
  obtain ⟨h1, h2, h3, h4, h5, h6, h7⟩ := h
  subst hy
  refine V_intro (plainFor_of_name plX5) (Nat.le_of_ble_eq_true rfl) ?_
  refine V_aload_n dX5_c_0 rfl (Or.inl ⟨_, rfl⟩) ?_
  refine V_get ckX5 tw0 0 (by decide) q2699 rfl rfl dX5_c_1 ?_
  refine V_iload_n dX5_c_4 rfl ?_
  refine V_callS kX5_colourRow q2802 q2803 dX5_c_5 ?_ (d' := 0) (as := [_]) (hst := rfl)
  refine (tw_colourRow hx ?_)
  refine V_iload_n dX5_c_8 rfl ?_
  refine V_iadd dX5_c_9 ?_
  refine tw_ld 1 (8 + 8 * k + j) (by decide) (by decide) (nI_add _ _) (show _ < 136 from by omega) (by decide) dX5_c_10 ?_
  rw [h6 k r hk j hj]
  refine V_ireturn dX5_c_11 rfl ?_
  exact kk
theorem tw_r {x y : Int32} {k j : Nat} {r : Rw} (h : TwO (T.1 1) o) (hx : x = nI k) (hy : y = nI j) (hk : o.2.1[k]? = some r) (hj : j < 6) (kk : P (.returned (some (.int (rw_at r j)))) (g_tG E G m T)) : g_Spc l E mX5_r 1 [.ref m, .int x, .int y] (g_tG E G m T) P := by
  have hl := lt_of_at hk
  obtain ⟨h1, h2, h3, h4, h5, h6, h7⟩ := h
  subst hy
  refine V_intro (plainFor_of_name plX5) (Nat.le_of_ble_eq_true rfl) ?_
  refine V_aload_n dX5_r_0 rfl (Or.inl ⟨_, rfl⟩) ?_
  refine V_get ckX5 tw0 0 (by decide) q2699 rfl rfl dX5_r_1 ?_
  refine V_iload_n dX5_r_4 rfl ?_
  refine V_callS kX5_reportRow q2825 q2826 dX5_r_5 ?_ (d' := 0) (as := [_]) (hst := rfl)
  refine (tw_reportRow hx ?_)
  refine V_iload_n dX5_r_8 rfl ?_
  refine V_iadd dX5_r_9 ?_
  refine tw_ld 1 (88 + 8 * k + j) (by decide) (by decide) (nI_add _ _) (show _ < 136 from by omega) (by decide) dX5_r_10 ?_
  rw [h7 k r hk j hj]
  refine V_ireturn dX5_r_11 rfl ?_
  exact kk
theorem tw_colour {id : Int32} (h : TwO (T.1 1) o) (kk : P (.returned (some (.int (plI (plc id o.1))))) (g_tG E G m T)) : g_Spc l E mX5_colour 2 [.ref m, .int id] (g_tG E G m T) P := by
  have hh := h
  obtain ⟨h1, h2, h3, h4, h5, h6, h7⟩ := h
  refine V_intro (plainFor_of_name plX5) (Nat.le_of_ble_eq_true rfl) ?_
  have loop : ∀ i, i ≤ o.1.length → P (.returned (some (.int (plF id i (o.1.drop i))))) (g_tG E G m T) → V l E mX5_colour 2 P 2 [(0, .ref m), (1, .int id), (2, .int (nI i))] [] (g_tG E G m T) := by
    refine down o.1.length ?_ ?_
    · intro kk
      refine V_iload_n dX5_colour_2 rfl ?_
      refine V_aload_n dX5_colour_3 rfl (Or.inl ⟨_, rfl⟩) ?_
      refine V_get ckX5 tw0 0 (by decide) q2699 rfl rfl dX5_colour_4 ?_
      refine V_iconstv 0 dX5_colour_7 (by decide) ?_
      refine tw_ld 1 (0) (by decide) (by decide) rfl (show _ < 136 from by omega) (by decide) dX5_colour_8 ?_
      rw [h3]
      refine V_icmp_ge 30 dX5_colour_9 (by decide) (fun _ => ?_) (fun c9 => absurd (Int32.le_refl _) c9)
      refine V_iconstv (-1) dX5_colour_30 (by decide) ?_
      refine V_ireturn dX5_colour_31 rfl ?_
      rw [List.drop_length] at kk
      exact kk
    · intro i hi ih kk
      obtain ⟨r, hr, hd⟩ := drop_at hi
      rw [hd] at kk
      refine V_iload_n dX5_colour_2 rfl ?_
      refine V_aload_n dX5_colour_3 rfl (Or.inl ⟨_, rfl⟩) ?_
      refine V_get ckX5 tw0 0 (by decide) q2699 rfl rfl dX5_colour_4 ?_
      refine V_iconstv 0 dX5_colour_7 (by decide) ?_
      refine tw_ld 1 (0) (by decide) (by decide) rfl (show _ < 136 from by omega) (by decide) dX5_colour_8 ?_
      rw [h3]
      refine V_icmp_ge 30 dX5_colour_9 (by decide) (fun c9 => absurd c9 (nI_ge hi (by omega))) (fun _ => ?_)
      refine V_aload_n dX5_colour_12 rfl (Or.inl ⟨_, rfl⟩) ?_
      refine V_iload_n dX5_colour_13 rfl ?_
      refine V_iconstv 0 dX5_colour_14 (by decide) ?_
      refine V_callV (q := (RX5, TX5, 23)) kX5_c q2860 q2862 qs61 tw0 rfl dX5_colour_15 ?_ (d' := 1) (as := [_, _]) (hst := rfl)
      refine (tw_c (j := 0) hh rfl rfl hr (by decide) ?_)
      refine V_iload_n dX5_colour_18 rfl ?_
      refine V_icmp_ne 24 dX5_colour_19 (by decide) (fun c19 => ?_) (fun c19 => ?_)
      · refine V_iinc dX5_colour_24 rfl (by decide) ?_
        refine V_goto 2 dX5_colour_27 (by decide) ?_
        refine V_sub (L' := [(0, .ref m), (1, .int id), (2, .int (nI i + Int32.ofInt 1))]) ⟨rfl, rfl, rfl, trivial⟩ ?_
        rw [show nI i + Int32.ofInt 1 = nI (i + 1) from nI_1 i]
        rw [plF_next c19] at kk
        exact ih kk
      · refine V_iload_n dX5_colour_22 rfl ?_
        refine V_ireturn dX5_colour_23 rfl ?_
        rw [plF_here c19] at kk
        exact kk
  refine V_iconstv 0 dX5_colour_0 (by decide) ?_
  refine V_istore_n dX5_colour_1 (by decide) ?_
  refine V_sub (L' := [(0, .ref m), (1, .int id), (2, .int (nI 0))]) ⟨rfl, rfl, rfl, trivial⟩ ?_
  exact loop 0 (Nat.zero_le _) (by rw [List.drop_zero, plF_0]; exact kk)
theorem tw_openReport {id : Int32} (h : TwO (T.1 1) o) (kk : P (.returned (some (.int (plI (plc id o.2.1))))) (g_tG E G m T)) : g_Spc l E mX5_openReport 2 [.ref m, .int id] (g_tG E G m T) P := by
  have hh := h
  obtain ⟨h1, h2, h3, h4, h5, h6, h7⟩ := h
  refine V_intro (plainFor_of_name plX5) (Nat.le_of_ble_eq_true rfl) ?_
  have loop : ∀ i, i ≤ o.2.1.length → P (.returned (some (.int (plF id i (o.2.1.drop i))))) (g_tG E G m T) → V l E mX5_openReport 2 P 2 [(0, .ref m), (1, .int id), (2, .int (nI i))] [] (g_tG E G m T) := by
    refine down o.2.1.length ?_ ?_
    · intro kk
      refine V_iload_n dX5_openReport_2 rfl ?_
      refine V_aload_n dX5_openReport_3 rfl (Or.inl ⟨_, rfl⟩) ?_
      refine V_get ckX5 tw0 0 (by decide) q2699 rfl rfl dX5_openReport_4 ?_
      refine V_iconstv 1 dX5_openReport_7 (by decide) ?_
      refine tw_ld 1 (1) (by decide) (by decide) rfl (show _ < 136 from by omega) (by decide) dX5_openReport_8 ?_
      rw [h4]
      refine V_icmp_ge 30 dX5_openReport_9 (by decide) (fun _ => ?_) (fun c9 => absurd (Int32.le_refl _) c9)
      refine V_iconstv (-1) dX5_openReport_30 (by decide) ?_
      refine V_ireturn dX5_openReport_31 rfl ?_
      rw [List.drop_length] at kk
      exact kk
    · intro i hi ih kk
      obtain ⟨r, hr, hd⟩ := drop_at hi
      rw [hd] at kk
      refine V_iload_n dX5_openReport_2 rfl ?_
      refine V_aload_n dX5_openReport_3 rfl (Or.inl ⟨_, rfl⟩) ?_
      refine V_get ckX5 tw0 0 (by decide) q2699 rfl rfl dX5_openReport_4 ?_
      refine V_iconstv 1 dX5_openReport_7 (by decide) ?_
      refine tw_ld 1 (1) (by decide) (by decide) rfl (show _ < 136 from by omega) (by decide) dX5_openReport_8 ?_
      rw [h4]
      refine V_icmp_ge 30 dX5_openReport_9 (by decide) (fun c9 => absurd c9 (nI_ge hi (by omega))) (fun _ => ?_)
      refine V_aload_n dX5_openReport_12 rfl (Or.inl ⟨_, rfl⟩) ?_
      refine V_iload_n dX5_openReport_13 rfl ?_
      refine V_iconstv 0 dX5_openReport_14 (by decide) ?_
      refine V_callV (q := (RX5, TX5, 23)) kX5_r q2836 q2838 qs56 tw0 rfl dX5_openReport_15 ?_ (d' := 1) (as := [_, _]) (hst := rfl)
      refine (tw_r (j := 0) hh rfl rfl hr (by decide) ?_)
      refine V_iload_n dX5_openReport_18 rfl ?_
      refine V_icmp_ne 24 dX5_openReport_19 (by decide) (fun c19 => ?_) (fun c19 => ?_)
      · refine V_iinc dX5_openReport_24 rfl (by decide) ?_
        refine V_goto 2 dX5_openReport_27 (by decide) ?_
        refine V_sub (L' := [(0, .ref m), (1, .int id), (2, .int (nI i + Int32.ofInt 1))]) ⟨rfl, rfl, rfl, trivial⟩ ?_
        rw [show nI i + Int32.ofInt 1 = nI (i + 1) from nI_1 i]
        rw [plF_next c19] at kk
        exact ih kk
      · refine V_iload_n dX5_openReport_22 rfl ?_
        refine V_ireturn dX5_openReport_23 rfl ?_
        rw [plF_here c19] at kk
        exact kk
  refine V_iconstv 0 dX5_openReport_0 (by decide) ?_
  refine V_istore_n dX5_openReport_1 (by decide) ?_
  refine V_sub (L' := [(0, .ref m), (1, .int id), (2, .int (nI 0))]) ⟨rfl, rfl, rfl, trivial⟩ ?_
  exact loop 0 (Nat.zero_le _) (by rw [List.drop_zero, plF_0]; exact kk)
theorem tw_size {v : Int32} (k : P (.returned (some (.int (i_abs v)))) G) : g_Spc l E mX5_size 0 [.int v] G P := by
  refine V_intro (plainFor_of_name plX5) (Nat.le_of_ble_eq_true rfl) ?_
  refine V_iload_n dX5_size_0 rfl ?_
  refine V_if_ge 9 dX5_size_1 (by decide) (fun c1 => ?_) (fun c1 => ?_)
  · refine V_iload_n dX5_size_9 rfl ?_
    refine V_ireturn dX5_size_10 rfl ?_
    have e : i_abs v = v := by unfold i_abs; exact if_pos c1
    rw [e] at k
    exact k
  · refine V_iload_n dX5_size_4 rfl ?_
    refine V_ineg dX5_size_5 ?_
    refine V_goto 10 dX5_size_6 (by decide) ?_
    refine V_ireturn dX5_size_10 rfl ?_
    have e : i_abs v = -v := by unfold i_abs; exact if_neg c1
    rw [e] at k
    exact k
end TW1
