/-! REFERENCE 13: settlements, public -/
set_option maxRecDepth 100000
def rwd (o : Of) : Int32 := (bT o o.2.1 0 + 200000 - 1) / 200000
def mSettle (S : St) : Int32 × Int32 × St := (0, nI (prs S.1).length, sPush S (gvL S.1 (prs S.1)))
def qSf (S : St) (x : Int32) : Int32 × Int32 := match plc x S.1.2.1 with
  | none => (1, 0)
  | some k => match chA S.1 k with
    | none => (1, 0)
    | some j => (0, (rwAt S.1.1 j).1)
theorem TwS.q5 {T : Tw} {S : St} (h : TwS T S) (F : Nat → Int32) (c : Int32) : TwS (twI (twA T 5 F) 5 c) S := ⟨h.1, h.2.keep⟩
section TW14
variable {l : Launch} {E : g_E} {P : Outcome → g_G → Prop} {G : g_G} {m : Nat} {T : Tw} {o : Of} {S : St}
theorem tw_rewards (hm : g_B E ≤ m) (h : TwO (T.1 1) o) (kk : ∀ F, P (.returned (some (.int (rwd o)))) (g_tG E G m (twA T 5 F))) : g_Spc l E mX5_rewards 5 [.ref m] (g_tG E G m T) P := by
  refine V_intro (plainFor_of_name plX5) (Nat.le_of_ble_eq_true rfl) ?_
  refine V_aload_n dX5_rewards_0 rfl (Or.inl ⟨_, rfl⟩) ?_
  refine V_callV (q := (RX5, TX5, 23)) kX5_settling q2922 q2924 qs72 tw0 rfl dX5_rewards_1 ?_ (d' := 4) (as := []) (hst := rfl)
  refine (tw_settling hm h (fun F hB => ?_))
  refine V_ldc 200000 q2930 dX5_rewards_4 ?_
  refine V_iadd dX5_rewards_6 ?_
  refine V_iconstv 1 dX5_rewards_7 (by decide) ?_
  refine V_isub dX5_rewards_8 ?_
  refine V_ldc 200000 q2930 dX5_rewards_9 ?_
  refine V_idiv dX5_rewards_11 (by decide) ?_
  refine V_ireturn dX5_rewards_12 rfl ?_
  exact kk F
theorem tw_bestReward (hm : g_B E ≤ m) (h : TwS T S) (kk : ∀ T', TwS T' S → T'.2 5 = ((0, rwd S.1) : Int32 × Int32).1 → P (.returned (some (.int ((0, rwd S.1) : Int32 × Int32).2))) (g_tG E G m T')) : g_Spc l E mX5_bestReward 6 [.ref m] (g_tG E G m T) P := by
  refine V_intro (plainFor_of_name plX5) (Nat.le_of_ble_eq_true rfl) ?_
  refine V_aload_n dX5_bestReward_0 rfl (Or.inl ⟨_, rfl⟩) ?_
  refine V_aload_n dX5_bestReward_1 rfl (Or.inl ⟨_, rfl⟩) ?_
  refine V_callV (q := (RX5, TX5, 23)) kX5_rewards q3099 q3101 qs91 tw0 rfl dX5_bestReward_2 ?_ (d' := 5) (as := []) (hst := rfl)
  refine (tw_rewards hm h.1 (fun F => ?_))
  refine V_callV (q := (RX5, TX5, 23)) kX5_plain q2978 q2980 qs82 tw0 rfl dX5_bestReward_5 ?_ (d' := 0) (as := [_]) (hst := rfl)
  refine (tw_plain hm ?_)
  refine V_ireturn dX5_bestReward_8 rfl ?_
  exact kk _ (h.q5 _ _) rfl
theorem tw_bestRewardByTrying (hm : g_B E ≤ m) (h : TwS T S) (kk : ∀ T', TwS T' S → T'.2 5 = ((0, rwd S.1) : Int32 × Int32).1 → P (.returned (some (.int ((0, rwd S.1) : Int32 × Int32).2))) (g_tG E G m T')) : g_Spc l E mX5_bestRewardByTrying 6 [.ref m] (g_tG E G m T) P := by
  refine V_intro (plainFor_of_name plX5) (Nat.le_of_ble_eq_true rfl) ?_
  refine V_aload_n dX5_bestRewardByTrying_0 rfl (Or.inl ⟨_, rfl⟩) ?_
  refine V_aload_n dX5_bestRewardByTrying_1 rfl (Or.inl ⟨_, rfl⟩) ?_
  refine V_callV (q := (RX5, TX5, 23)) kX5_rewards q3099 q3101 qs91 tw0 rfl dX5_bestRewardByTrying_2 ?_ (d' := 5) (as := []) (hst := rfl)
  refine (tw_rewards hm h.1 (fun F => ?_))
  refine V_callV (q := (RX5, TX5, 23)) kX5_plain q2978 q2980 qs82 tw0 rfl dX5_bestRewardByTrying_5 ?_ (d' := 0) (as := [_]) (hst := rfl)
  refine (tw_plain hm ?_)
  refine V_ireturn dX5_bestRewardByTrying_8 rfl ?_
  exact kk _ (h.q5 _ _) rfl
theorem tw_bestDifference (hm : g_B E ≤ m) (h : TwS T S) (kk : ∀ T', TwS T' S → T'.2 5 = ((0, 200000 * rwd S.1 - bT S.1 S.1.2.1 0) : Int32 × Int32).1 → P (.returned (some (.int ((0, 200000 * rwd S.1 - bT S.1 S.1.2.1 0) : Int32 × Int32).2))) (g_tG E G m T')) : g_Spc l E mX5_bestDifference 6 [.ref m] (g_tG E G m T) P := by
  refine V_intro (plainFor_of_name plX5) (Nat.le_of_ble_eq_true rfl) ?_
  refine V_aload_n dX5_bestDifference_0 rfl (Or.inl ⟨_, rfl⟩) ?_
  refine V_ldc 200000 q2930 dX5_bestDifference_1 ?_
  refine V_aload_n dX5_bestDifference_3 rfl (Or.inl ⟨_, rfl⟩) ?_
  refine V_callV (q := (RX5, TX5, 23)) kX5_rewards q3099 q3101 qs91 tw0 rfl dX5_bestDifference_4 ?_ (d' := 5) (as := []) (hst := rfl)
  refine (tw_rewards hm h.1 (fun F => ?_))
  refine V_imul dX5_bestDifference_7 ?_
  refine V_aload_n dX5_bestDifference_8 rfl (Or.inl ⟨_, rfl⟩) ?_
  refine V_callV (q := (RX5, TX5, 23)) kX5_settling q2922 q2924 qs72 tw0 rfl dX5_bestDifference_9 ?_ (d' := 4) (as := []) (hst := rfl)
  refine (tw_settling (o := S.1) hm h.1 (fun F2 hB => ?_))
  refine V_isub dX5_bestDifference_12 ?_
  refine V_callV (q := (RX5, TX5, 23)) kX5_plain q2978 q2980 qs82 tw0 rfl dX5_bestDifference_13 ?_ (d' := 0) (as := [_]) (hst := rfl)
  refine (tw_plain hm ?_)
  refine V_ireturn dX5_bestDifference_16 rfl ?_
  rw [twA_twA]
  exact kk _ (h.q5 _ _) rfl
theorem tw_settlementFor {x : Int32} (hm : g_B E ≤ m) (h : TwS T S) (kk : ∀ T', TwS T' S → T'.2 5 = (qSf S x).1 → P (.returned (some (.int (qSf S x).2))) (g_tG E G m T')) : g_Spc l E mX5_settlementFor 6 [.ref m, .int x] (g_tG E G m T) P := by
  have hl := h.1.1
  have hl2 := h.1.2.1
  unfold qSf at kk
  refine V_intro (plainFor_of_name plX5) (Nat.le_of_ble_eq_true rfl) ?_
  refine V_aload_n dX5_settlementFor_0 rfl (Or.inl ⟨_, rfl⟩) ?_
  refine V_aload_n dX5_settlementFor_1 rfl (Or.inl ⟨_, rfl⟩) ?_
  refine V_iload_n dX5_settlementFor_2 rfl ?_
  refine V_callV (q := (RX5, TX5, 23)) kX5_openReport q2832 q2834 qs55 tw0 rfl dX5_settlementFor_3 ?_ (d' := 2) (as := [_]) (hst := rfl)
  refine (tw_openReport h.1 ?_)
  cases hk : plc x S.1.2.1 with
  | none =>
    rw [hk] at kk
    refine V_if_lt 13 dX5_settlementFor_6 (by decide) (fun _ => ?_) (fun c6 => absurd (show plI none < 0 by decide) c6)
    refine V_iconstv 0 dX5_settlementFor_13 (by decide) ?_
    refine V_callV (q := (RX5, TX5, 23)) kX5_checked q2986 q2988 qs83 tw0 rfl dX5_settlementFor_14 ?_ (d' := 0) (as := [_]) (hst := rfl)
    refine (tw_checked (b := false) hm ?_)
    refine V_if_le 22 dX5_settlementFor_17 (by decide) (fun c17 => absurd c17 (by decide)) (fun _ => ?_)
    refine V_iconstv 0 dX5_settlementFor_20 (by decide) ?_
    refine V_ireturn dX5_settlementFor_21 rfl ?_
    exact kk _ (h.q _) rfl
  | some k =>
    have hk1 := plc_lt hk
    obtain ⟨hr, -⟩ := plc_id hk
    rw [hk] at kk
    dsimp only at kk
    refine V_if_lt 13 dX5_settlementFor_6 (by decide) (fun c6 => absurd c6 (nI_pos (show k < 2 ^ 31 by omega))) (fun _ => ?_)
    refine V_iconstv 1 dX5_settlementFor_9 (by decide) ?_
    refine V_goto 14 dX5_settlementFor_10 (by decide) ?_
    refine V_callV (q := (RX5, TX5, 23)) kX5_checked q2986 q2988 qs83 tw0 rfl dX5_settlementFor_14 ?_ (d' := 0) (as := [_]) (hst := rfl)
    refine (tw_checked (b := true) hm ?_)
    refine V_if_le 22 dX5_settlementFor_17 (by decide) (fun _ => ?_) (fun c17 => absurd (by decide) c17)
    refine V_aload_n dX5_settlementFor_22 rfl (Or.inl ⟨_, rfl⟩) ?_
    refine V_callV (q := (RX5, TX5, 23)) kX5_settling q2922 q2924 qs72 tw0 rfl dX5_settlementFor_23 ?_ (d' := 4) (as := []) (hst := rfl)
    refine (tw_settling (o := S.1) hm h.1 (fun F hB => ?_))
    refine V_istore_n dX5_settlementFor_26 (by decide) ?_
    refine V_aload_n dX5_settlementFor_27 rfl (Or.inl ⟨_, rfl⟩) ?_
    refine V_aload_n dX5_settlementFor_28 rfl (Or.inl ⟨_, rfl⟩) ?_
    refine V_iload_n dX5_settlementFor_29 rfl ?_
    refine V_callV (q := (RX5, TX5, 23)) kX5_openReport q2832 q2834 qs55 tw0 rfl dX5_settlementFor_30 ?_ (d' := 2) (as := [_]) (hst := rfl)
    refine (tw_openReport (o := S.1) h.1 ?_)
    rw [hk]
    refine V_callV (q := (RX5, TX5, 23)) kX5_settled q2931 q2933 qs74 tw0 rfl dX5_settlementFor_33 ?_ (d' := 5) (as := [_]) (hst := rfl)
    refine (tw_settled (o := S.1) (k := k) h.1 (by rw [twA_at]; exact hB) rfl hr ?_)
    refine V_istore_n dX5_settlementFor_36 (by decide) ?_
    refine V_iload_n dX5_settlementFor_37 rfl ?_
    cases hc : chA S.1 k with
    | none =>
      rw [hc] at kk
      refine V_if_ge 49 dX5_settlementFor_38 (by decide) (fun c38 => absurd c38 (show ¬ 0 ≤ plI none by decide)) (fun _ => ?_)
      refine V_aload_n dX5_settlementFor_41 rfl (Or.inl ⟨_, rfl⟩) ?_
      refine V_iconstv 1 dX5_settlementFor_42 (by decide) ?_
      refine V_callV (q := (RX5, TX5, 23)) kX5_fail q2794 q2796 qs49 tw0 rfl dX5_settlementFor_43 ?_ (d' := 0) (as := [_]) (hst := rfl)
      refine (tw_fail hm ?_)
      refine V_goto 55 dX5_settlementFor_46 (by decide) ?_
      refine V_ireturn dX5_settlementFor_55 rfl ?_
      exact kk _ ⟨h.1, h.2.keep⟩ rfl
    | some j =>
      have hj := chc_lt hc
      rw [hc] at kk
      refine V_if_ge 49 dX5_settlementFor_38 (by decide) (fun _ => ?_) (fun c38 => absurd (Int32.not_lt.mp (nI_pos (show j < 2 ^ 31 by omega))) c38)
      refine V_aload_n dX5_settlementFor_49 rfl (Or.inl ⟨_, rfl⟩) ?_
      refine V_iload_n dX5_settlementFor_50 rfl ?_
      refine V_iconstv 0 dX5_settlementFor_51 (by decide) ?_
      refine V_callV (q := (RX5, TX5, 23)) kX5_c q2860 q2862 qs61 tw0 rfl dX5_settlementFor_52 ?_ (d' := 1) (as := [_, _]) (hst := rfl)
      refine (tw_c (o := S.1) (k := j) (j := 0) h.1 rfl rfl (at_of hj) (by decide) ?_)
      refine V_ireturn dX5_settlementFor_55 rfl ?_
      exact kk _ ⟨h.1, h.2.keep⟩ rfl
theorem tw_settle (hm : g_B E ≤ m) (h : TwS T S) (hg : gvOK S.1 (prs S.1)) (kk : ∀ T', TwS T' (mSettle S).2.2 → T'.2 5 = (mSettle S).1 → P (.returned (some (.int (mSettle S).2.1))) (g_tG E G m T')) : g_Spc l E mX5_settle 7 [.ref m] (g_tG E G m T) P := by
  have h1 : TwO ((twB T).1 1) S.1 := h.1
  refine V_intro (plainFor_of_name plX5) (Nat.le_of_ble_eq_true rfl) ?_
  refine V_aload_n dX5_settle_0 rfl (Or.inl ⟨_, rfl⟩) ?_
  refine V_callV (q := (RX5, TX5, 23)) kX5_begin q2777 q2779 qs47 tw0 rfl dX5_settle_1 ?_ (d' := 1) (as := []) (hst := rfl)
  refine (tw_begin hm ?_)
  refine V_aload_n dX5_settle_4 rfl (Or.inl ⟨_, rfl⟩) ?_
  refine V_aload_n dX5_settle_5 rfl (Or.inl ⟨_, rfl⟩) ?_
  refine V_callV (q := (RX5, TX5, 23)) kX5_settleAll q2918 q2920 qs71 tw0 rfl dX5_settle_6 ?_ (d' := 6) (as := []) (hst := rfl)
  refine (tw_settleAll hm h1 hg (fun F5 F6 F7 F hF => ?_))
  refine V_callV (q := (RX5, TX5, 23)) kX5_commit q2809 q2811 qs52 tw0 rfl dX5_settle_9 ?_ (d' := 1) (as := [_]) (hst := rfl)
  refine (tw_commit hm h.2.1.1 h.2.1.2.1 h.2.1.2.2 h.1.before (fun F' hF' => ?_))
  refine V_ireturn dX5_settle_12 rfl ?_
  refine kk _ ?_ rfl
  obtain ⟨hO, ⟨a1, a2, a3⟩, hV, hN, hT8, hT9⟩ := h
  refine ⟨hF, ⟨hF', ofPush_len a2, rfl⟩, TwV.keep (T := T) hV rfl rfl, ?_, hT8, hT9⟩
  intro j x y
  rcases (show j = 7 ∨ j = 8 ∨ j = 9 by omega) with z | z | z
  · subst z; exact hN 7 (by decide) (by decide)
  · subst z; exact hN 8 (by decide) (by decide)
  · subst z; exact hN 9 (by decide) (by decide)
end TW14
