/-! quotients are numbers -/
set_option maxRecDepth 100000
theorem fp_f : ∀ n, n < 11 → 0 < n → ∀ g, g < 11 → FP.fdiv (FP.i2f (nI g)) (FP.i2f (nI n)) &&& 0x7fffffff ≤ 0x7f800000 := by decide +kernel
section TW25
variable {l : Launch} {E : g_E} {P : Outcome → g_G → Prop} {G : g_G} {m : Nat} {T : Tw} {S : St}
def qGs (S : St) : Int32 × UInt32 := if 0 < S.1.1.length then (0, FP.fdiv (FP.i2f (nI (S.1.1.countP isG))) (FP.i2f (nI S.1.1.length))) else (1, FP.fconst0)
theorem tw_greyShare (hm : g_B E ≤ m) (h : TwS T S) (kk : ∀ T', TwS T' S → T'.2 5 = (qGs S).1 → P (.returned (some (.float (qGs S).2))) (g_tG E G m T')) : g_Spc l E mX5_greyShare 4 [.ref m] (g_tG E G m T) P := by
  have b1 := h.1.1
  have e0 : T.1 1 0 = nI S.1.1.length := h.1.2.2.1
  have h1 : ∀ c, TwO ((twI T 5 c).1 1) S.1 := fun _ => h.1
  unfold qGs at kk
  refine V_intro (plainFor_of_name plX5) (Nat.le_of_ble_eq_true rfl) ?_
  refine V_aload_n dX5_greyShare_0 rfl (Or.inl ⟨_, rfl⟩) ?_
  refine V_aload_n dX5_greyShare_1 rfl (Or.inl ⟨_, rfl⟩) ?_
  refine V_get ckX5 tw0 0 (by decide) q2699 rfl rfl dX5_greyShare_2 ?_
  refine V_iconstv 0 dX5_greyShare_5 (by decide) ?_
  refine tw_ld 1 (0) (by decide) (by decide) rfl (show _ < 136 from by omega) (by decide) dX5_greyShare_6 ?_
  rw [e0]
  by_cases hn : 0 < S.1.1.length
  · rw [if_pos hn] at kk
    have hle := List.countP_le_length (p := isG) (l := S.1.1)
    refine V_if_le 14 dX5_greyShare_7 (by decide) (fun c7 => absurd c7 (nI_nle hn (by omega))) (fun _ => ?_)
    refine V_iconstv 1 dX5_greyShare_10 (by decide) ?_
    refine V_goto 15 dX5_greyShare_11 (by decide) ?_
    refine V_callV (q := (RX5, TX5, 23)) kX5_checked q2986 q2988 qs83 tw0 rfl dX5_greyShare_15 ?_ (d' := 0) (as := [_]) (hst := rfl)
    refine (tw_checked (b := true) hm ?_)
    refine V_if_le 25 dX5_greyShare_18 (by decide) (fun _ => ?_) (fun c18 => absurd (by decide) c18)
    refine V_aload_n dX5_greyShare_25 rfl (Or.inl ⟨_, rfl⟩) ?_
    refine V_callV (q := (RX5, TX5, 23)) kX5_greys q2966 q2968 qs80 tw0 rfl dX5_greyShare_26 ?_ (d' := 3) (as := []) (hst := rfl)
    refine (tw_greys (h1 _) ?_)
    refine V_i2f dX5_greyShare_29 ?_
    refine V_aload_n dX5_greyShare_30 rfl (Or.inl ⟨_, rfl⟩) ?_
    refine V_get ckX5 tw0 0 (by decide) q2699 rfl rfl dX5_greyShare_31 ?_
    refine V_iconstv 0 dX5_greyShare_34 (by decide) ?_
    refine tw_ld 1 (0) (by decide) (by decide) rfl (show _ < 136 from by omega) (by decide) dX5_greyShare_35 ?_
    rw [show (twI T 5 (b2i (!true))).1 1 0 = nI S.1.1.length from e0]
    refine V_i2f dX5_greyShare_36 ?_
    refine V_fdiv dX5_greyShare_37 (fp_f _ (by omega) hn _ (by omega)) ?_
    refine V_freturn dX5_greyShare_38 rfl ?_
    exact kk _ (h.q _) rfl
  · rw [if_neg hn] at kk
    rw [show S.1.1.length = 0 by omega]
    refine V_if_le 14 dX5_greyShare_7 (by decide) (fun _ => ?_) (fun c7 => absurd (Int32.le_refl _) c7)
    refine V_iconstv 0 dX5_greyShare_14 (by decide) ?_
    refine V_callV (q := (RX5, TX5, 23)) kX5_checked q2986 q2988 qs83 tw0 rfl dX5_greyShare_15 ?_ (d' := 0) (as := [_]) (hst := rfl)
    refine (tw_checked (b := false) hm ?_)
    refine V_if_le 25 dX5_greyShare_18 (by decide) (fun c18 => absurd c18 (by decide)) (fun _ => ?_)
    refine V_fconst0 dX5_greyShare_21 ?_
    refine V_goto 38 dX5_greyShare_22 (by decide) ?_
    refine V_freturn dX5_greyShare_38 rfl ?_
    exact kk _ (h.q _) rfl
end TW25
