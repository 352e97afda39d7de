/-! REFERENCE 9: totals, undo, save, restore, typing, positions -/
set_option maxRecDepth 100000
theorem chr_ok : ∀ j, j < 128 → ((nI j).toUInt32 % 65536).toInt32 = nI j ∧ narrow .char (.int (nI j)) = .int (nI j) := by
  have h : ∀ j, j < 128 → ((nI j).toUInt32 % 65536).toInt32 = nI j ∧ vp_nar .char (nI j) = nI j := by decide +kernel
  intro j hj
  obtain ⟨h1, h2⟩ := h j hj
  refine ⟨h1, ?_⟩
  rw [vp_nar_char] at h2
  exact congrArg Value.int h2
def isC (x : Int32) : Prop := ∃ j, j < 128 ∧ x = nI j
theorem isC.i2c {x : Int32} (h : isC x) : (x.toUInt32 % 65536).toInt32 = x := by
  obtain ⟨j, hj, rfl⟩ := h
  exact (chr_ok j hj).1
theorem isC.nar {x : Int32} (h : isC x) : narrow .char (.int x) = .int x := by
  obtain ⟨j, hj, rfl⟩ := h
  exact (chr_ok j hj).2
def sOut (S : St) (L : List Int32) : St := (S.1, S.2.1, S.2.2.1, S.2.2.2.1, L, S.2.2.2.2.2)
def sTyp (S : St) (L : List Int32) : St := (S.1, S.2.1, S.2.2.1, S.2.2.2.1, S.2.2.2.2.1, L)
def mUndo (S : St) : Int32 × Int32 × St := match S.2.1.getLast? with
  | none => (1, 0, S)
  | some o => (0, nI (S.2.1.length - 1), (o, S.2.1.dropLast, S.2.2))
def mSave (S : St) : St := (S.1, S.2.1, some S.1, S.2.2.2)
def mRest (S : St) : Int32 × Int32 × St := match S.2.2.1 with
  | none => (1, 0, S)
  | some o => (0, nI o.1.length, (o, [], S.2.2))
def mType (S : St) (c : Int32) : Int32 × Int32 × St := if isb c 32 126 = true then (if S.2.2.2.2.2.length = 60 then (2, 0, S) else (0, nI (S.2.2.2.2.2.length + 1), sTyp S (S.2.2.2.2.2 ++ [c]))) else (1, 0, S)
def qPres (x : Int32) : Int32 × Int32 := if x < 0 then (1, 0) else (0, x)
def qKind (x : Int32) : Int32 × Int32 := if 0 < x then (0, x) else (1, 32)
def qOut (L : List Int32) (x : Int32) : Int32 × Int32 := if isb x 0 (nI L.length - 1) = true then (0, (L[x.toNatClampNeg]?).getD 0) else (1, 32)
section TW10
variable {l : Launch} {E : g_E} {P : Outcome → g_G → Prop} {G : g_G} {m : Nat} {T : Tw} {S : St}
theorem tw_day (hm : g_B E ≤ m) (h : TwS T S) (kk : ∀ T', TwS T' S → T'.2 5 = (((0, S.1.2.2 4) : Int32 × Int32)).1 → P (.returned (some (.int (((0, S.1.2.2 4) : Int32 × Int32)).2))) (g_tG E G m T')) : g_Spc l E mX5_day 1 [.ref m] (g_tG E G m T) P := by
  have e : T.1 1 4 = S.1.2.2 4 := h.1.2.2.2.2.1 4 (by decide) (by decide)
  refine V_intro (plainFor_of_name plX5) (Nat.le_of_ble_eq_true rfl) ?_
  refine V_aload_n dX5_day_0 rfl (Or.inl ⟨_, rfl⟩) ?_
  refine V_aload_n dX5_day_1 rfl (Or.inl ⟨_, rfl⟩) ?_
  refine V_get ckX5 tw0 0 (by decide) q2699 rfl rfl dX5_day_2 ?_
  refine V_iconstv 4 dX5_day_5 (by decide) ?_
  refine tw_ld 1 (4) (by decide) (by decide) rfl (show _ < 136 from by omega) (by decide) dX5_day_6 ?_
  rw [e]
  refine V_callV (q := (RX5, TX5, 23)) kX5_plain q2978 q2980 qs82 tw0 rfl dX5_day_7 ?_ (d' := 0) (as := [_]) (hst := rfl)
  refine (tw_plain hm ?_)
  refine V_ireturn dX5_day_10 rfl ?_
  exact kk _ (h.q _) rfl
theorem tw_coins (hm : g_B E ≤ m) (h : TwS T S) (kk : ∀ T', TwS T' S → T'.2 5 = (((0, S.1.2.2 6) : Int32 × Int32)).1 → P (.returned (some (.int (((0, S.1.2.2 6) : Int32 × Int32)).2))) (g_tG E G m T')) : g_Spc l E mX5_coins 1 [.ref m] (g_tG E G m T) P := by
  have e : T.1 1 6 = S.1.2.2 6 := h.1.2.2.2.2.1 6 (by decide) (by decide)
  refine V_intro (plainFor_of_name plX5) (Nat.le_of_ble_eq_true rfl) ?_
  refine V_aload_n dX5_coins_0 rfl (Or.inl ⟨_, rfl⟩) ?_
  refine V_aload_n dX5_coins_1 rfl (Or.inl ⟨_, rfl⟩) ?_
  refine V_get ckX5 tw0 0 (by decide) q2699 rfl rfl dX5_coins_2 ?_
  refine V_bipushv 6 dX5_coins_5 (by decide) ?_
  refine tw_ld 1 (6) (by decide) (by decide) rfl (show _ < 136 from by omega) (by decide) dX5_coins_7 ?_
  rw [e]
  refine V_callV (q := (RX5, TX5, 23)) kX5_plain q2978 q2980 qs82 tw0 rfl dX5_coins_8 ?_ (d' := 0) (as := [_]) (hst := rfl)
  refine (tw_plain hm ?_)
  refine V_ireturn dX5_coins_11 rfl ?_
  exact kk _ (h.q _) rfl
theorem tw_coinsByAccounts (hm : g_B E ≤ m) (h : TwS T S) (kk : ∀ T', TwS T' S → T'.2 5 = (((0, S.1.2.2 6) : Int32 × Int32)).1 → P (.returned (some (.int (((0, S.1.2.2 6) : Int32 × Int32)).2))) (g_tG E G m T')) : g_Spc l E mX5_coinsByAccounts 1 [.ref m] (g_tG E G m T) P := by
  have e : T.1 1 6 = S.1.2.2 6 := h.1.2.2.2.2.1 6 (by decide) (by decide)
  refine V_intro (plainFor_of_name plX5) (Nat.le_of_ble_eq_true rfl) ?_
  refine V_aload_n dX5_coinsByAccounts_0 rfl (Or.inl ⟨_, rfl⟩) ?_
  refine V_aload_n dX5_coinsByAccounts_1 rfl (Or.inl ⟨_, rfl⟩) ?_
  refine V_get ckX5 tw0 0 (by decide) q2699 rfl rfl dX5_coinsByAccounts_2 ?_
  refine V_bipushv 6 dX5_coinsByAccounts_5 (by decide) ?_
  refine tw_ld 1 (6) (by decide) (by decide) rfl (show _ < 136 from by omega) (by decide) dX5_coinsByAccounts_7 ?_
  rw [e]
  refine V_callV (q := (RX5, TX5, 23)) kX5_plain q2978 q2980 qs82 tw0 rfl dX5_coinsByAccounts_8 ?_ (d' := 0) (as := [_]) (hst := rfl)
  refine (tw_plain hm ?_)
  refine V_ireturn dX5_coinsByAccounts_11 rfl ?_
  exact kk _ (h.q _) rfl
theorem tw_returnedTotal (hm : g_B E ≤ m) (h : TwS T S) (kk : ∀ T', TwS T' S → T'.2 5 = (((0, S.1.2.2 7) : Int32 × Int32)).1 → P (.returned (some (.int (((0, S.1.2.2 7) : Int32 × Int32)).2))) (g_tG E G m T')) : g_Spc l E mX5_returnedTotal 1 [.ref m] (g_tG E G m T) P := by
  have e : T.1 1 7 = S.1.2.2 7 := h.1.2.2.2.2.1 7 (by decide) (by decide)
  refine V_intro (plainFor_of_name plX5) (Nat.le_of_ble_eq_true rfl) ?_
  refine V_aload_n dX5_returnedTotal_0 rfl (Or.inl ⟨_, rfl⟩) ?_
  refine V_aload_n dX5_returnedTotal_1 rfl (Or.inl ⟨_, rfl⟩) ?_
  refine V_get ckX5 tw0 0 (by decide) q2699 rfl rfl dX5_returnedTotal_2 ?_
  refine V_bipushv 7 dX5_returnedTotal_5 (by decide) ?_
  refine tw_ld 1 (7) (by decide) (by decide) rfl (show _ < 136 from by omega) (by decide) dX5_returnedTotal_7 ?_
  rw [e]
  refine V_callV (q := (RX5, TX5, 23)) kX5_plain q2978 q2980 qs82 tw0 rfl dX5_returnedTotal_8 ?_ (d' := 0) (as := [_]) (hst := rfl)
  refine (tw_plain hm ?_)
  refine V_ireturn dX5_returnedTotal_11 rfl ?_
  exact kk _ (h.q _) rfl
theorem tw_metric (hm : g_B E ≤ m) (h : TwS T S) (h5 : isC (S.1.2.2 5)) (kk : ∀ T', TwS T' S → T'.2 5 = (((0, S.1.2.2 5) : Int32 × Int32)).1 → P (.returned (some (.int (((0, S.1.2.2 5) : Int32 × Int32)).2))) (g_tG E G m T')) : g_Spc l E mX5_metric 0 [.ref m] (g_tG E G m T) P := by
  have e : T.1 1 5 = S.1.2.2 5 := h.1.2.2.2.2.1 5 (by decide) (by decide)
  refine V_intro (plainFor_of_name plX5) (Nat.le_of_ble_eq_true rfl) ?_
  refine V_aload_n dX5_metric_0 rfl (Or.inl ⟨_, rfl⟩) ?_
  refine V_iconstv 0 dX5_metric_1 (by decide) ?_
  refine tw_putI 5 hm (by decide) q2704 rfl rfl rfl rfl rfl dX5_metric_2 ?_
  refine V_aload_n dX5_metric_5 rfl (Or.inl ⟨_, rfl⟩) ?_
  refine V_get ckX5 tw0 0 (by decide) q2699 rfl rfl dX5_metric_6 ?_
  refine V_iconstv 5 dX5_metric_9 (by decide) ?_
  refine tw_ld 1 (5) (by decide) (by decide) rfl (show _ < 136 from by omega) (by decide) dX5_metric_10 ?_
  rw [show (twI T 5 0).1 1 5 = S.1.2.2 5 from e]
  refine V_i2c dX5_metric_11 ?_
  rw [h5.i2c]
  refine V_zreturn dX5_metric_12 rfl h5.nar ?_
  exact kk _ (h.q _) rfl
theorem tw_isConsistent (hm : g_B E ≤ m) (h : TwS T S) (kk : ∀ T', TwS T' S → T'.2 5 = (((0, 1) : Int32 × Int32)).1 → P (.returned (some (.int (((0, 1) : Int32 × Int32)).2))) (g_tG E G m T')) : g_Spc l E mX5_isConsistent 1 [.ref m] (g_tG E G m T) P := by
  refine V_intro (plainFor_of_name plX5) (Nat.le_of_ble_eq_true rfl) ?_
  refine V_aload_n dX5_isConsistent_0 rfl (Or.inl ⟨_, rfl⟩) ?_
  refine V_iconstv 1 dX5_isConsistent_1 (by decide) ?_
  refine V_callV (q := (RX5, TX5, 23)) kX5_plain q2978 q2980 qs82 tw0 rfl dX5_isConsistent_2 ?_ (d' := 0) (as := [_]) (hst := rfl)
  refine (tw_plain hm ?_)
  refine V_iconstv 1 dX5_isConsistent_5 (by decide) ?_
  refine V_icmp_ne 13 dX5_isConsistent_6 (by decide) (fun c6 => absurd c6 (show ¬ ¬ (1 : Int32) = 1 by decide)) (fun _ => ?_)
  refine V_iconstv 1 dX5_isConsistent_9 (by decide) ?_
  refine V_goto 14 dX5_isConsistent_10 (by decide) ?_
  refine V_zreturn dX5_isConsistent_14 rfl rfl ?_
  exact kk _ (h.q _) rfl
theorem tw_undo (hm : g_B E ≤ m) (h : TwS T S) (kk : ∀ T', TwS T' (mUndo S).2.2 → T'.2 5 = (mUndo S).1 → P (.returned (some (.int (mUndo S).2.1))) (g_tG E G m T')) : g_Spc l E mX5_undo 1 [.ref m] (g_tG E G m T) P := by
  obtain ⟨hO, ⟨a1, a2, a3⟩, hV, hN, hT⟩ := id h
  refine V_intro (plainFor_of_name plX5) (Nat.le_of_ble_eq_true rfl) ?_
  refine V_aload_n dX5_undo_0 rfl (Or.inl ⟨_, rfl⟩) ?_
  refine V_aload_n dX5_undo_1 rfl (Or.inl ⟨_, rfl⟩) ?_
  refine V_get ckX5 tw0 6 (by decide) q2705 rfl rfl dX5_undo_2 ?_
  rw [a3]
  cases hL : S.2.1.getLast? with
  | none =>
    have e0 : S.2.1 = [] := List.getLast?_eq_none_iff.mp hL
    unfold mUndo at kk
    rw [hL] at kk
    rw [e0]
    refine V_if_le 12 dX5_undo_5 (by decide) (fun _ => ?_) (fun c5 => absurd (Int32.le_refl _) c5)
    refine V_iconstv 0 dX5_undo_12 (by decide) ?_
    refine V_callV (q := (RX5, TX5, 23)) kX5_checked q2986 q2988 qs83 tw0 rfl dX5_undo_13 ?_ (d' := 0) (as := [_]) (hst := rfl)
    refine (tw_checked (b := false) hm ?_)
    refine V_if_le 21 dX5_undo_16 (by decide) (fun c16 => absurd c16 (by decide)) (fun _ => ?_)
    refine V_iconstv 0 dX5_undo_19 (by decide) ?_
    refine V_ireturn dX5_undo_20 rfl ?_
    exact kk _ (h.q _) rfl
  | some o9 =>
    obtain ⟨n, hn⟩ : ∃ n, S.2.1.length = n + 1 := ⟨S.2.1.length - 1, by
      cases hz : S.2.1 with
      | nil => rw [hz] at hL; cases hL
      | cons a b => rfl⟩
    have hat : S.2.1[n]? = some o9 := by
      rw [List.getLast?_eq_getElem?, hn] at hL
      exact hL
    unfold mUndo at kk
    rw [hL] at kk
    dsimp only at kk
    rw [hn, Nat.add_sub_cancel] at kk
    rw [hn]
    refine V_if_le 12 dX5_undo_5 (by decide) (fun c5 => absurd c5 (nI_nle (by omega) (by omega))) (fun _ => ?_)
    refine V_iconstv 1 dX5_undo_8 (by decide) ?_
    refine V_goto 13 dX5_undo_9 (by decide) ?_
    refine V_callV (q := (RX5, TX5, 23)) kX5_checked q2986 q2988 qs83 tw0 rfl dX5_undo_13 ?_ (d' := 0) (as := [_]) (hst := rfl)
    refine (tw_checked (b := true) hm ?_)
    refine V_if_le 21 dX5_undo_16 (by decide) (fun _ => ?_) (fun c16 => absurd (by decide) c16)
    refine V_aload_n dX5_undo_21 rfl (Or.inl ⟨_, rfl⟩) ?_
    refine V_dup dX5_undo_22 rfl ?_
    refine V_get ckX5 tw0 6 (by decide) q2705 rfl rfl dX5_undo_23 ?_
    rw [show (twI T 5 (b2i (!true))).2 6 = nI (n + 1) from a3.trans (by rw [hn])]
    refine V_iconstv 1 dX5_undo_26 (by decide) ?_
    refine V_isub dX5_undo_27 ?_
    rw [show nI (n + 1) - 1 = nI n from nI_pred n]
    refine tw_putI 6 hm (by decide) q2705 rfl rfl rfl rfl rfl dX5_undo_28 ?_
    refine V_aload_n dX5_undo_31 rfl (Or.inl ⟨_, rfl⟩) ?_
    refine V_get ckX5 tw0 3 (by decide) q2702 rfl rfl dX5_undo_32 ?_
    refine V_sipushv 136 dX5_undo_35 (by decide) ?_
    refine V_aload_n dX5_undo_38 rfl (Or.inl ⟨_, rfl⟩) ?_
    refine V_get ckX5 tw0 6 (by decide) q2705 rfl rfl dX5_undo_39 ?_
    rw [twI_at]
    refine V_imul dX5_undo_42 ?_
    rw [show (136 : Int32) * nI n = nI (136 * n) by rw [← nI_mul]; rfl]
    refine V_aload_n dX5_undo_43 rfl (Or.inl ⟨_, rfl⟩) ?_
    refine V_get ckX5 tw0 0 (by decide) q2699 rfl rfl dX5_undo_44 ?_
    refine V_iconstv 0 dX5_undo_47 (by decide) ?_
    refine V_callS kX5_copy q2781 q2782 dX5_undo_48 ?_ (d' := 0) (as := [_, _, _, _]) (hst := rfl)
    refine (tw_copy (a := 4) (b := 1) (i := 136 * n) (j := 0) hm (by decide) (by decide) (by decide) (by decide) rfl rfl (show 136 * n + 136 ≤ 1088 by omega) (by decide) (by decide) (by decide) (Or.inl (by decide)) ?_)
    refine V_aload_n dX5_undo_51 rfl (Or.inl ⟨_, rfl⟩) ?_
    refine V_get ckX5 tw0 6 (by decide) q2705 rfl rfl dX5_undo_52 ?_
    refine V_ireturn dX5_undo_55 rfl ?_
    refine kk _ ⟨?_, ⟨⟨?_, ?_, ?_⟩, ?_, ?_, hT.1, hT.2⟩⟩ rfl
    · refine (a1 n o9 hat).cong fun q hq => ?_
      rw [twA_at]
      show (if 0 ≤ q ∧ q < 0 + 136 then T.1 4 (136 * n + (q - 0)) else _) = _
      rw [if_pos (by omega)]
      rfl
    · intro k x hk
      have hk9 : S.2.1.dropLast[k]? = some x := hk
      rw [List.getElem?_dropLast] at hk9
      by_cases hkn : k < S.2.1.length - 1
      · rw [if_pos hkn] at hk9
        exact a1 k x hk9
      · rw [if_neg hkn] at hk9
        cases hk9
    · show S.2.1.dropLast.length ≤ 8
      rw [List.length_dropLast]
      omega
    · show nI n = nI S.2.1.dropLast.length
      rw [List.length_dropLast, hn]
      rfl
    · exact TwV.keep (T := T) hV rfl rfl
    · intro j x y
      rcases (show j = 7 ∨ j = 8 ∨ j = 9 by omega) with z | z | z
      · subst z; exact hN 7 (by decide) (by decide)
      · subst z; exact hN 8 (by decide) (by decide)
      · subst z; exact hN 9 (by decide) (by decide)
theorem tw_save (hm : g_B E ≤ m) (h : TwS T S) (kk : ∀ T', TwS T' (mSave S) → P (.returned (some (.int (nI S.1.1.length)))) (g_tG E G m T')) : g_Spc l E mX5_save 1 [.ref m] (g_tG E G m T) P := by
  obtain ⟨hO, ⟨a1, a2, a3⟩, hV, hN, hT⟩ := id h
  refine V_intro (plainFor_of_name plX5) (Nat.le_of_ble_eq_true rfl) ?_
  refine V_aload_n dX5_save_0 rfl (Or.inl ⟨_, rfl⟩) ?_
  refine V_iconstv 0 dX5_save_1 (by decide) ?_
  refine tw_putI 5 hm (by decide) q2704 rfl rfl rfl rfl rfl dX5_save_2 ?_
  refine V_aload_n dX5_save_5 rfl (Or.inl ⟨_, rfl⟩) ?_
  refine V_get ckX5 tw0 0 (by decide) q2699 rfl rfl dX5_save_6 ?_
  refine V_iconstv 0 dX5_save_9 (by decide) ?_
  refine V_aload_n dX5_save_10 rfl (Or.inl ⟨_, rfl⟩) ?_
  refine V_get ckX5 tw0 2 (by decide) q2701 rfl rfl dX5_save_11 ?_
  refine V_iconstv 0 dX5_save_14 (by decide) ?_
  refine V_callS kX5_copy q2781 q2782 dX5_save_15 ?_ (d' := 0) (as := [_, _, _, _]) (hst := rfl)
  refine (tw_copy (a := 1) (b := 3) (i := 0) (j := 0) hm (by decide) (by decide) (by decide) (by decide) rfl rfl (by decide) (by decide) (by decide) (by decide) (Or.inl (by decide)) ?_)
  refine V_aload_n dX5_save_18 rfl (Or.inl ⟨_, rfl⟩) ?_
  refine V_iconstv 1 dX5_save_19 (by decide) ?_
  refine tw_putI 10 hm (by decide) q2709 rfl rfl rfl rfl rfl dX5_save_20 ?_
  refine V_aload_n dX5_save_23 rfl (Or.inl ⟨_, rfl⟩) ?_
  refine V_get ckX5 tw0 0 (by decide) q2699 rfl rfl dX5_save_24 ?_
  refine V_iconstv 0 dX5_save_27 (by decide) ?_
  refine tw_ld 1 (0) (by decide) (by decide) rfl (show _ < 136 from by omega) (by decide) dX5_save_28 ?_
  rw [show (twI (twA (twI T 5 0) 3 (cpy ((twI T 5 0).1 1) ((twI T 5 0).1 3) 0 0 136)) 10 1).1 1 0 = nI S.1.1.length from hO.2.2.1]
  refine V_ireturn dX5_save_29 rfl ?_
  refine kk _ ⟨hO, ⟨⟨a1, a2, a3⟩, ⟨rfl, ?_⟩, ?_, hT.1, hT.2⟩⟩
  · refine hO.cong fun q hq => ?_
    show (if 0 ≤ q ∧ q < 0 + 136 then T.1 1 (0 + (q - 0)) else _) = _
    rw [if_pos (by omega)]
    exact congrArg (T.1 1) (by omega)
  · intro j x y
    rcases (show j = 7 ∨ j = 8 ∨ j = 9 by omega) with z | z | z
    · subst z; exact hN 7 (by decide) (by decide)
    · subst z; exact hN 8 (by decide) (by decide)
    · subst z; exact hN 9 (by decide) (by decide)
theorem tw_restore (hm : g_B E ≤ m) (h : TwS T S) (kk : ∀ T', TwS T' (mRest S).2.2 → T'.2 5 = (mRest S).1 → P (.returned (some (.int (mRest S).2.1))) (g_tG E G m T')) : g_Spc l E mX5_restore 1 [.ref m] (g_tG E G m T) P := by
  obtain ⟨hO, ⟨a1, a2, a3⟩, hV, hN, hT⟩ := id h
  refine V_intro (plainFor_of_name plX5) (Nat.le_of_ble_eq_true rfl) ?_
  refine V_aload_n dX5_restore_0 rfl (Or.inl ⟨_, rfl⟩) ?_
  refine V_aload_n dX5_restore_1 rfl (Or.inl ⟨_, rfl⟩) ?_
  refine V_get ckX5 tw0 10 (by decide) q2709 rfl rfl dX5_restore_2 ?_
  cases hs : S.2.2.1 with
  | none =>
    rw [hs] at hV
    unfold mRest at kk
    rw [hs] at kk
    rw [show T.2 10 = 0 from hV]
    refine V_callV (q := (RX5, TX5, 23)) kX5_checked q2986 q2988 qs83 tw0 rfl dX5_restore_5 ?_ (d' := 0) (as := [_]) (hst := rfl)
    refine (tw_checked (b := false) hm ?_)
    refine V_if_le 13 dX5_restore_8 (by decide) (fun c8 => absurd c8 (by decide)) (fun _ => ?_)
    refine V_iconstv 0 dX5_restore_11 (by decide) ?_
    refine V_ireturn dX5_restore_12 rfl ?_
    exact kk _ (h.q _) rfl
  | some o9 =>
    rw [hs] at hV
    unfold mRest at kk
    rw [hs] at kk
    rw [hV.1]
    refine V_callV (q := (RX5, TX5, 23)) kX5_checked q2986 q2988 qs83 tw0 rfl dX5_restore_5 ?_ (d' := 0) (as := [_]) (hst := rfl)
    refine (tw_checked (b := true) hm ?_)
    refine V_if_le 13 dX5_restore_8 (by decide) (fun _ => ?_) (fun c8 => absurd (by decide) c8)
    refine V_aload_n dX5_restore_13 rfl (Or.inl ⟨_, rfl⟩) ?_
    refine V_get ckX5 tw0 2 (by decide) q2701 rfl rfl dX5_restore_14 ?_
    refine V_iconstv 0 dX5_restore_17 (by decide) ?_
    refine V_aload_n dX5_restore_18 rfl (Or.inl ⟨_, rfl⟩) ?_
    refine V_get ckX5 tw0 0 (by decide) q2699 rfl rfl dX5_restore_19 ?_
    refine V_iconstv 0 dX5_restore_22 (by decide) ?_
    refine V_callS kX5_copy q2781 q2782 dX5_restore_23 ?_ (d' := 0) (as := [_, _, _, _]) (hst := rfl)
    refine (tw_copy (a := 3) (b := 1) (i := 0) (j := 0) hm (by decide) (by decide) (by decide) (by decide) rfl rfl (by decide) (by decide) (by decide) (by decide) (Or.inl (by decide)) ?_)
    refine V_aload_n dX5_restore_26 rfl (Or.inl ⟨_, rfl⟩) ?_
    refine V_iconstv 0 dX5_restore_27 (by decide) ?_
    refine tw_putI 6 hm (by decide) q2705 rfl rfl rfl rfl rfl dX5_restore_28 ?_
    refine V_aload_n dX5_restore_31 rfl (Or.inl ⟨_, rfl⟩) ?_
    refine V_get ckX5 tw0 0 (by decide) q2699 rfl rfl dX5_restore_32 ?_
    refine V_iconstv 0 dX5_restore_35 (by decide) ?_
    have hc : TwO (cpy (T.1 3) (T.1 1) 0 0 136) o9 := by
      refine hV.2.cong fun q hq => ?_
      show (if 0 ≤ q ∧ q < 0 + 136 then T.1 3 (0 + (q - 0)) else _) = _
      rw [if_pos (by omega)]
      exact congrArg (T.1 3) (by omega)
    refine tw_ld 1 (0) (by decide) (by decide) rfl (show _ < 136 from by omega) (by decide) dX5_restore_36 ?_
    rw [show (twI (twA (twI T 5 (b2i (!true))) 1 (cpy ((twI T 5 (b2i (!true))).1 3) ((twI T 5 (b2i (!true))).1 1) 0 0 136)) 6 0).1 1 0 = nI o9.1.length from hc.2.2.1]
    refine V_ireturn dX5_restore_37 rfl ?_
    refine kk _ ⟨hc, ⟨⟨?_, Nat.zero_le _, rfl⟩, ?_, ?_, hT.1, hT.2⟩⟩ rfl
    · intro k x hk
      cases (show ([] : List Of)[k]? = some x from hk)
    · show TwV _ S.2.2.1
      rw [hs]
      exact hV
    · intro j x y
      rcases (show j = 7 ∨ j = 8 ∨ j = 9 by omega) with z | z | z
      · subst z; exact hN 7 (by decide) (by decide)
      · subst z; exact hN 8 (by decide) (by decide)
      · subst z; exact hN 9 (by decide) (by decide)
theorem TwT.push {f : Nat → Int32} {n : Int32} {N : Nat} {L : List Int32} {c : Int32} (h : TwT f n N L) (hl : L.length < N) : TwT (upd f L.length c) (nI (L.length + 1)) N (L ++ [c]) := by
  obtain ⟨h1, h2, h3⟩ := h
  refine ⟨by rw [List.length_append]; rfl, by rw [List.length_append]; show L.length + 1 ≤ N; omega, ?_⟩
  intro k x hk
  rcases at_push hk with h4 | ⟨h4, h5⟩
  · have := lt_of_at h4
    exact (if_neg (by omega)).trans (h3 k x h4)
  · rw [h4, h5]
    exact if_pos rfl
theorem tw_type {c : Int32} (hm : g_B E ≤ m) (h : TwS T S) (kk : ∀ T', TwS T' (mType S c).2.2 → T'.2 5 = (mType S c).1 → P (.returned (some (.int (mType S c).2.1))) (g_tG E G m T')) : g_Spc l E mX5_type 1 [.ref m, .int c] (g_tG E G m T) P := by
  obtain ⟨hO, ⟨a1, a2, a3⟩, hV, hN, hT8, hT9⟩ := id h
  unfold mType at kk
  refine V_intro (plainFor_of_name plX5) (Nat.le_of_ble_eq_true rfl) ?_
  refine V_aload_n dX5_type_0 rfl (Or.inl ⟨_, rfl⟩) ?_
  refine V_iload_n dX5_type_1 rfl ?_
  refine V_bipushv 32 dX5_type_2 (by decide) ?_
  refine V_bipushv 126 dX5_type_4 (by decide) ?_
  refine V_callS kX5_in q2791 q2792 dX5_type_6 ?_ (d' := 0) (as := [_, _, _]) (hst := rfl)
  refine (tw_in ?_)
  cases hb : isb c 32 126 with
  | false =>
    rw [if_neg (by rw [hb]; decide)] at kk
    refine V_if_ne 16 dX5_type_9 (by decide) (fun c9 => absurd c9 (show ¬ ¬ b2i false = 0 by decide)) (fun _ => ?_)
    refine V_iconstv 1 dX5_type_12 (by decide) ?_
    refine V_goto 30 dX5_type_13 (by decide) ?_
    refine tw_putI 5 hm (by decide) q2704 rfl rfl rfl rfl rfl dX5_type_30 ?_
    refine V_aload_n dX5_type_33 rfl (Or.inl ⟨_, rfl⟩) ?_
    refine V_get ckX5 tw0 5 (by decide) q2704 rfl rfl dX5_type_34 ?_
    refine V_if_le 42 dX5_type_37 (by decide) (fun c37 => absurd c37 (show ¬ (1 : Int32) ≤ 0 by decide)) (fun _ => ?_)
    refine V_iconstv 0 dX5_type_40 (by decide) ?_
    refine V_ireturn dX5_type_41 rfl ?_
    exact kk _ (h.q _) rfl
  | true =>
    rw [if_pos hb] at kk
    refine V_if_ne 16 dX5_type_9 (by decide) (fun _ => ?_) (fun c9 => absurd c9 (show ¬ b2i true = 0 by decide))
    refine V_aload_n dX5_type_16 rfl (Or.inl ⟨_, rfl⟩) ?_
    refine V_get ckX5 tw0 18 (by decide) q2717 rfl rfl dX5_type_17 ?_
    rw [hT9.1]
    have hl60 := hT9.2.1
    by_cases e60 : S.2.2.2.2.2.length = 60
    · rw [if_pos e60] at kk
      rw [e60]
      refine V_bipushv 60 dX5_type_20 (by decide) ?_
      refine V_icmp_ne 29 dX5_type_22 (by decide) (fun c22 => absurd c22 (show ¬ ¬ nI 60 = 60 by decide)) (fun _ => ?_)
      refine V_iconstv 2 dX5_type_25 (by decide) ?_
      refine V_goto 30 dX5_type_26 (by decide) ?_
      refine tw_putI 5 hm (by decide) q2704 rfl rfl rfl rfl rfl dX5_type_30 ?_
      refine V_aload_n dX5_type_33 rfl (Or.inl ⟨_, rfl⟩) ?_
      refine V_get ckX5 tw0 5 (by decide) q2704 rfl rfl dX5_type_34 ?_
      refine V_if_le 42 dX5_type_37 (by decide) (fun c37 => absurd c37 (show ¬ (2 : Int32) ≤ 0 by decide)) (fun _ => ?_)
      refine V_iconstv 0 dX5_type_40 (by decide) ?_
      refine V_ireturn dX5_type_41 rfl ?_
      exact kk _ (h.q _) rfl
    · rw [if_neg e60] at kk
      refine V_bipushv 60 dX5_type_20 (by decide) ?_
      refine V_icmp_ne 29 dX5_type_22 (by decide) (fun _ => ?_) (fun c22 => absurd c22 (fun q => e60 ((nI_eq (b := 60) (by omega) (by decide)).mp q)))
      refine V_iconstv 0 dX5_type_29 (by decide) ?_
      refine tw_putI 5 hm (by decide) q2704 rfl rfl rfl rfl rfl dX5_type_30 ?_
      refine V_aload_n dX5_type_33 rfl (Or.inl ⟨_, rfl⟩) ?_
      refine V_get ckX5 tw0 5 (by decide) q2704 rfl rfl dX5_type_34 ?_
      refine V_if_le 42 dX5_type_37 (by decide) (fun _ => ?_) (fun c37 => absurd (show (0 : Int32) ≤ 0 by decide) c37)
      refine V_aload_n dX5_type_42 rfl (Or.inl ⟨_, rfl⟩) ?_
      refine V_get ckX5 tw0 15 (by decide) q2714 rfl rfl dX5_type_43 ?_
      refine V_aload_n dX5_type_46 rfl (Or.inl ⟨_, rfl⟩) ?_
      refine V_get ckX5 tw0 18 (by decide) q2717 rfl rfl dX5_type_47 ?_
      rw [show (twI T 5 0).2 18 = nI S.2.2.2.2.2.length from hT9.1]
      refine V_iload_n dX5_type_50 rfl ?_
      refine tw_st 9 (S.2.2.2.2.2.length) hm (by decide) (by decide) rfl (show _ < 60 from by omega) (by decide) dX5_type_51 ?_
      refine V_aload_n dX5_type_52 rfl (Or.inl ⟨_, rfl⟩) ?_
      refine V_dup dX5_type_53 rfl ?_
      refine V_get ckX5 tw0 18 (by decide) q2717 rfl rfl dX5_type_54 ?_
      rw [show (twA (twI T 5 0) 9 (upd ((twI T 5 0).1 9) S.2.2.2.2.2.length c)).2 18 = nI S.2.2.2.2.2.length from hT9.1]
      refine V_iconstv 1 dX5_type_57 (by decide) ?_
      refine V_iadd dX5_type_58 ?_
      rw [show nI S.2.2.2.2.2.length + 1 = nI (S.2.2.2.2.2.length + 1) from nI_1 _]
      refine tw_putI 18 hm (by decide) q2717 rfl rfl rfl rfl rfl dX5_type_59 ?_
      refine V_aload_n dX5_type_62 rfl (Or.inl ⟨_, rfl⟩) ?_
      refine V_get ckX5 tw0 18 (by decide) q2717 rfl rfl dX5_type_63 ?_
      rw [twI_at]
      refine V_ireturn dX5_type_66 rfl ?_
      refine kk _ ⟨hO, ⟨⟨a1, a2, a3⟩, TwV.keep (T := T) hV rfl rfl, ?_, hT8, ?_⟩⟩ rfl
      · intro j x y
        rcases (show j = 7 ∨ j = 8 ∨ j = 9 by omega) with z | z | z
        · subst z; exact hN 7 (by decide) (by decide)
        · subst z; exact hN 8 (by decide) (by decide)
        · subst z; exact hN 9 (by decide) (by decide)
      · exact hT9.push (by omega)
theorem tw_present {x : Int32} (hm : g_B E ≤ m) (h : TwS T S) (kk : ∀ T', TwS T' S → T'.2 5 = (qPres x).1 → P (.returned (some (.int (qPres x).2))) (g_tG E G m T')) : g_Spc l E mX5_present 1 [.ref m, .int x] (g_tG E G m T) P := by
  unfold qPres at kk
  refine V_intro (plainFor_of_name plX5) (Nat.le_of_ble_eq_true rfl) ?_
  refine V_aload_n dX5_present_0 rfl (Or.inl ⟨_, rfl⟩) ?_
  refine V_iload_n dX5_present_1 rfl ?_
  by_cases hx : x < 0
  · rw [if_pos hx] at kk
    refine V_if_lt 9 dX5_present_2 (by decide) (fun _ => ?_) (fun c2 => absurd hx c2)
    refine V_iconstv 0 dX5_present_9 (by decide) ?_
    refine V_callV (q := (RX5, TX5, 23)) kX5_checked q2986 q2988 qs83 tw0 rfl dX5_present_10 ?_ (d' := 0) (as := [_]) (hst := rfl)
    refine (tw_checked (b := false) hm ?_)
    refine V_if_le 20 dX5_present_13 (by decide) (fun c13 => absurd c13 (by decide)) (fun _ => ?_)
    refine V_iconstv 0 dX5_present_16 (by decide) ?_
    refine V_goto 21 dX5_present_17 (by decide) ?_
    refine V_ireturn dX5_present_21 rfl ?_
    exact kk _ (h.q _) rfl
  · rw [if_neg hx] at kk
    refine V_if_lt 9 dX5_present_2 (by decide) (fun c2 => absurd c2 hx) (fun _ => ?_)
    refine V_iconstv 1 dX5_present_5 (by decide) ?_
    refine V_goto 10 dX5_present_6 (by decide) ?_
    refine V_callV (q := (RX5, TX5, 23)) kX5_checked q2986 q2988 qs83 tw0 rfl dX5_present_10 ?_ (d' := 0) (as := [_]) (hst := rfl)
    refine (tw_checked (b := true) hm ?_)
    refine V_if_le 20 dX5_present_13 (by decide) (fun _ => ?_) (fun c13 => absurd (by decide) c13)
    refine V_iload_n dX5_present_20 rfl ?_
    refine V_ireturn dX5_present_21 rfl ?_
    exact kk _ (h.q _) rfl
theorem tw_errorPosition (hm : g_B E ≤ m) (h : TwS T S) (kk : ∀ T', TwS T' S → T'.2 5 = (qPres (S.2.2.2.1 7)).1 → P (.returned (some (.int (qPres (S.2.2.2.1 7)).2))) (g_tG E G m T')) : g_Spc l E mX5_errorPosition 2 [.ref m] (g_tG E G m T) P := by
  have e : T.2 7 = S.2.2.2.1 7 := h.2.2.2.1 7 (by decide) (by decide)
  refine V_intro (plainFor_of_name plX5) (Nat.le_of_ble_eq_true rfl) ?_
  refine V_aload_n dX5_errorPosition_0 rfl (Or.inl ⟨_, rfl⟩) ?_
  refine V_aload_n dX5_errorPosition_1 rfl (Or.inl ⟨_, rfl⟩) ?_
  refine V_get ckX5 tw0 7 (by decide) q2706 rfl rfl dX5_errorPosition_2 ?_
  rw [e]
  refine V_callV (q := (RX5, TX5, 23)) kX5_present q3266 q3268 qs109 tw0 rfl dX5_errorPosition_5 ?_ (d' := 1) (as := [_]) (hst := rfl)
  refine (tw_present hm h (fun T' h1 h2 => ?_))
  refine V_ireturn dX5_errorPosition_8 rfl ?_
  exact kk _ h1 h2
theorem tw_failedCommand (hm : g_B E ≤ m) (h : TwS T S) (kk : ∀ T', TwS T' S → T'.2 5 = (qPres (S.2.2.2.1 8)).1 → P (.returned (some (.int (qPres (S.2.2.2.1 8)).2))) (g_tG E G m T')) : g_Spc l E mX5_failedCommand 2 [.ref m] (g_tG E G m T) P := by
  have e : T.2 8 = S.2.2.2.1 8 := h.2.2.2.1 8 (by decide) (by decide)
  refine V_intro (plainFor_of_name plX5) (Nat.le_of_ble_eq_true rfl) ?_
  refine V_aload_n dX5_failedCommand_0 rfl (Or.inl ⟨_, rfl⟩) ?_
  refine V_aload_n dX5_failedCommand_1 rfl (Or.inl ⟨_, rfl⟩) ?_
  refine V_get ckX5 tw0 8 (by decide) q2707 rfl rfl dX5_failedCommand_2 ?_
  rw [e]
  refine V_callV (q := (RX5, TX5, 23)) kX5_present q3266 q3268 qs109 tw0 rfl dX5_failedCommand_5 ?_ (d' := 1) (as := [_]) (hst := rfl)
  refine (tw_present hm h (fun T' h1 h2 => ?_))
  refine V_ireturn dX5_failedCommand_8 rfl ?_
  exact kk _ h1 h2
theorem tw_failureKind (hm : g_B E ≤ m) (h : TwS T S) (h9 : isC (S.2.2.2.1 9)) (kk : ∀ T', TwS T' S → T'.2 5 = (qKind (S.2.2.2.1 9)).1 → P (.returned (some (.int (qKind (S.2.2.2.1 9)).2))) (g_tG E G m T')) : g_Spc l E mX5_failureKind 1 [.ref m] (g_tG E G m T) P := by
  have e : T.2 9 = S.2.2.2.1 9 := h.2.2.2.1 9 (by decide) (by decide)
  unfold qKind at kk
  refine V_intro (plainFor_of_name plX5) (Nat.le_of_ble_eq_true rfl) ?_
  refine V_aload_n dX5_failureKind_0 rfl (Or.inl ⟨_, rfl⟩) ?_
  refine V_aload_n dX5_failureKind_1 rfl (Or.inl ⟨_, rfl⟩) ?_
  refine V_get ckX5 tw0 9 (by decide) q2708 rfl rfl dX5_failureKind_2 ?_
  rw [e]
  by_cases hx : 0 < S.2.2.2.1 9
  · rw [if_pos hx] at kk
    refine V_if_le 12 dX5_failureKind_5 (by decide) (fun c5 => absurd c5 (Int32.not_le.mpr hx)) (fun _ => ?_)
    refine V_iconstv 1 dX5_failureKind_8 (by decide) ?_
    refine V_goto 13 dX5_failureKind_9 (by decide) ?_
    refine V_callV (q := (RX5, TX5, 23)) kX5_checked q2986 q2988 qs83 tw0 rfl dX5_failureKind_13 ?_ (d' := 0) (as := [_]) (hst := rfl)
    refine (tw_checked (b := true) hm ?_)
    refine V_if_le 24 dX5_failureKind_16 (by decide) (fun _ => ?_) (fun c16 => absurd (by decide) c16)
    refine V_aload_n dX5_failureKind_24 rfl (Or.inl ⟨_, rfl⟩) ?_
    refine V_get ckX5 tw0 9 (by decide) q2708 rfl rfl dX5_failureKind_25 ?_
    rw [show (twI T 5 (b2i (!true))).2 9 = S.2.2.2.1 9 from e]
    refine V_i2c dX5_failureKind_28 ?_
    rw [h9.i2c]
    refine V_zreturn dX5_failureKind_29 rfl h9.nar ?_
    exact kk _ (h.q _) rfl
  · rw [if_neg hx] at kk
    refine V_if_le 12 dX5_failureKind_5 (by decide) (fun _ => ?_) (fun c5 => absurd (Int32.not_lt.mp hx) c5)
    refine V_iconstv 0 dX5_failureKind_12 (by decide) ?_
    refine V_callV (q := (RX5, TX5, 23)) kX5_checked q2986 q2988 qs83 tw0 rfl dX5_failureKind_13 ?_ (d' := 0) (as := [_]) (hst := rfl)
    refine (tw_checked (b := false) hm ?_)
    refine V_if_le 24 dX5_failureKind_16 (by decide) (fun c16 => absurd c16 (by decide)) (fun _ => ?_)
    refine V_bipushv 32 dX5_failureKind_19 (by decide) ?_
    refine V_goto 29 dX5_failureKind_21 (by decide) ?_
    refine V_zreturn dX5_failureKind_29 rfl rfl ?_
    exact kk _ (h.q _) rfl
theorem tw_outputAt {x : Int32} (hm : g_B E ≤ m) (h : TwS T S) (ho : ∀ c ∈ S.2.2.2.2.1, isC c) (kk : ∀ T', TwS T' S → T'.2 5 = (qOut S.2.2.2.2.1 x).1 → P (.returned (some (.int (qOut S.2.2.2.2.1 x).2))) (g_tG E G m T')) : g_Spc l E mX5_outputAt 1 [.ref m, .int x] (g_tG E G m T) P := by
  obtain ⟨hO, ⟨a1, a2, a3⟩, hV, hN, hT8, hT9⟩ := id h
  have hl := hT8.2.1
  unfold qOut at kk
  refine V_intro (plainFor_of_name plX5) (Nat.le_of_ble_eq_true rfl) ?_
  refine V_aload_n dX5_outputAt_0 rfl (Or.inl ⟨_, rfl⟩) ?_
  refine V_iload_n dX5_outputAt_1 rfl ?_
  refine V_iconstv 0 dX5_outputAt_2 (by decide) ?_
  refine V_aload_n dX5_outputAt_3 rfl (Or.inl ⟨_, rfl⟩) ?_
  refine V_get ckX5 tw0 14 (by decide) q2713 rfl rfl dX5_outputAt_4 ?_
  rw [hT8.1]
  refine V_iconstv 1 dX5_outputAt_7 (by decide) ?_
  refine V_isub dX5_outputAt_8 ?_
  refine V_callS kX5_in q2791 q2792 dX5_outputAt_9 ?_ (d' := 0) (as := [_, _, _]) (hst := rfl)
  refine (tw_in ?_)
  refine V_callV (q := (RX5, TX5, 23)) kX5_checked q2986 q2988 qs83 tw0 rfl dX5_outputAt_12 ?_ (d' := 0) (as := [_]) (hst := rfl)
  refine (tw_checked hm ?_)
  cases hb : isb x 0 (nI S.2.2.2.2.1.length - 1) with
  | false =>
    rw [if_neg (by rw [hb]; decide)] at kk
    refine V_if_le 23 dX5_outputAt_15 (by decide) (fun c15 => absurd c15 (by decide)) (fun _ => ?_)
    refine V_bipushv 32 dX5_outputAt_18 (by decide) ?_
    refine V_goto 30 dX5_outputAt_20 (by decide) ?_
    refine V_zreturn dX5_outputAt_30 rfl rfl ?_
    exact kk _ (h.q _) rfl
  | true =>
    obtain ⟨k, hk, rfl⟩ := isb_at (by omega) hb
    have hc : S.2.2.2.2.1[k]? = some S.2.2.2.2.1[k] := List.getElem?_eq_getElem hk
    have hc2 := ho _ (List.getElem_mem hk)
    rw [if_pos hb, nI_clamp (by omega), hc] at kk
    refine V_if_le 23 dX5_outputAt_15 (by decide) (fun _ => ?_) (fun c15 => absurd (by decide) c15)
    refine V_aload_n dX5_outputAt_23 rfl (Or.inl ⟨_, rfl⟩) ?_
    refine V_get ckX5 tw0 13 (by decide) q2712 rfl rfl dX5_outputAt_24 ?_
    refine V_iload_n dX5_outputAt_27 rfl ?_
    refine tw_ld 8 (k) (by decide) (by decide) rfl (show _ < 80 from by omega) (by decide) dX5_outputAt_28 ?_
    rw [show (twI T 5 (b2i (!true))).1 8 k = S.2.2.2.2.1[k] from hT8.2.2 k _ hc]
    refine V_i2c dX5_outputAt_29 ?_
    rw [hc2.i2c]
    refine V_zreturn dX5_outputAt_30 rfl hc2.nar ?_
    exact kk _ (h.q _) rfl
end TW10
