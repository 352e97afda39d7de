/-! REFERENCE 19: arguments, commands, parse -/
set_option maxRecDepth 100000
theorem rs_le {L : List Int32} {n o : Nat} {c : Int32} {s : RS} (hc : c ≠ -1) (h : s.1 ≤ L.length) : s.1 ≤ (rs L n c o s).1 ∧ (rs L n c o s).1 ≤ L.length := rdR_le hc h
theorem rsC_le {L : List Int32} {n : Nat} {s : RS} (h : s.1 ≤ L.length) : s.1 ≤ (rsC L n s).1 ∧ (rsC L n s).1 ≤ L.length := by
  have h1 := rs_le (n := n) (o := 0) (c := 32) (by decide) h
  have h2 := rs_le (n := n) (o := 1) (c := 47) (by decide) h1.2
  have h3 := rs_le (n := n) (o := 2) (c := 47) (by decide) h2.2
  have h4 := rs_le (n := n) (o := 3) (c := 32) (by decide) h3.2
  exact ⟨Nat.le_trans h1.1 (Nat.le_trans h2.1 (Nat.le_trans h3.1 h4.1)), h4.2⟩
theorem isM_m1 : isM (-1) = false := by decide
theorem rsM_le {L : List Int32} {n : Nat} {s : RS} (h : s.1 ≤ L.length) : s.1 ≤ (rsM L n s).1 ∧ (rsM L n s).1 ≤ L.length := by
  unfold rsM
  have h1 : s.1 ≤ (if rdW s.2.1 L s.1 32 = true then s.1 else s.1 + 1) ∧ (if rdW s.2.1 L s.1 32 = true then s.1 else s.1 + 1) ≤ L.length := by
    cases hw : rdW s.2.1 L s.1 32 with
    | true => exact ⟨Nat.le_refl _, h⟩
    | false => exact ⟨Nat.le_succ _, rdW_in (by decide) hw⟩
  generalize (if rdW s.2.1 L s.1 32 = true then s.1 else s.1 + 1) = j at h1
  cases hw : (rdW s.2.1 L s.1 32 || !isM (mkW (rdW s.2.1 L s.1 32) L j)) with
  | true => exact h1
  | false =>
    rw [Bool.or_eq_false_iff] at hw
    obtain ⟨hw1, hw2⟩ := hw
    rw [hw1] at hw2
    have h3 : isM (mkC L j) = true := by simpa [mkW] using hw2
    have : j < L.length := mkC_in rfl (fun q => by rw [q, isM_m1] at h3; cases h3)
    exact ⟨Nat.le_trans h1.1 (Nat.le_succ _), this⟩
theorem rsA_le {L : List Int32} {n kind : Nat} {s : RS} (h : s.1 ≤ L.length) : s.1 ≤ (rsA L n kind s).1 ∧ (rsA L n kind s).1 ≤ L.length := by
  unfold rsA
  split
  · exact rsC_le h
  · have h1 := rsC_le (n := n) h
    have h2 := rs_le (n := n) (o := 4) (c := 32) (by decide) h1.2
    exact ⟨Nat.le_trans h1.1 h2.1, h2.2⟩
  · exact rsM_le h
  · have h1 := rs_le (n := n) (o := 0) (c := 32) (by decide) h
    have h2 := rs_le (n := n) (o := 1) (c := 32) (by decide) h1.2
    exact ⟨Nat.le_trans h1.1 h2.1, h2.2⟩
  · have h1 := rs_le (n := n) (o := 0) (c := 32) (by decide) h
    have h2 := rs_le (n := n) (o := 1) (c := 32) (by decide) h1.2
    exact ⟨Nat.le_trans h1.1 h2.1, h2.2⟩
  · exact ⟨Nat.le_refl _, h⟩
  · split
    · exact rs_le (s := (s.1, s.2.1, upd s.2.2 (8 * n) 1)) (by decide) h
    · exact ⟨Nat.le_refl _, h⟩
  · exact rs_le (by decide) h
section TW20
variable {l : Launch} {E : g_E} {P : Outcome → g_G → Prop} {G : g_G} {m : Nat} {T : Tw} {L : List Int32} {i n : Nat} {w : Bool} {K A : Nat → Int32} {s : RS}
theorem tw_rs {c x : Int32} {o : Nat} (hm : g_B E ≤ m) (hL : TxT T L) (hi : s.1 ≤ L.length) (hc : c ≠ -1) (hx : x = nI o) (ho : o < 8) (hn : n < 32) (kk : P (.returned none) (g_tG E G m (pT T (rs L n c o s).1 (rs L n c o s).2.1 n K (rs L n c o s).2.2))) : g_Spc l E mX5_reads 2 [.ref m, .int c, .int x] (g_tG E G m (pT T s.1 s.2.1 n K s.2.2)) P := tw_reads hm hL hi hc hx ho hn kk
theorem tw_readsColour (hm : g_B E ≤ m) (hL : TxT T L) (hi : s.1 ≤ L.length) (hn : n < 32) (kk : P (.returned none) (g_tG E G m (pT T (rsC L n s).1 (rsC L n s).2.1 n K (rsC L n s).2.2))) : g_Spc l E mX5_readsColour 3 [.ref m] (g_tG E G m (pT T s.1 s.2.1 n K s.2.2)) P := by
  have h1 := rs_le (n := n) (o := 0) (c := 32) (by decide) hi
  have h2 := rs_le (n := n) (o := 1) (c := 47) (by decide) h1.2
  have h3 := rs_le (n := n) (o := 2) (c := 47) (by decide) h2.2
  refine V_intro (plainFor_of_name plX5) (Nat.le_of_ble_eq_true rfl) ?_
  refine V_aload_n dX5_readsColour_0 rfl (Or.inl ⟨_, rfl⟩) ?_
  refine V_bipushv 32 dX5_readsColour_1 (by decide) ?_
  refine V_iconstv 0 dX5_readsColour_3 (by decide) ?_
  refine V_callV (q := (RX5, TX5, 23)) kX5_reads q3235 q3237 qs103 tw0 rfl dX5_readsColour_4 ?_ (d' := 2) (as := [_, _]) (hst := rfl)
  refine (tw_rs (o := 0) hm hL hi (by decide) rfl (by decide) hn ?_)
  refine V_aload_n dX5_readsColour_7 rfl (Or.inl ⟨_, rfl⟩) ?_
  refine V_bipushv 47 dX5_readsColour_8 (by decide) ?_
  refine V_iconstv 1 dX5_readsColour_10 (by decide) ?_
  refine V_callV (q := (RX5, TX5, 23)) kX5_reads q3235 q3237 qs103 tw0 rfl dX5_readsColour_11 ?_ (d' := 2) (as := [_, _]) (hst := rfl)
  refine (tw_rs (s := rs L n 32 0 s) (o := 1) hm hL h1.2 (by decide) rfl (by decide) hn ?_)
  refine V_aload_n dX5_readsColour_14 rfl (Or.inl ⟨_, rfl⟩) ?_
  refine V_bipushv 47 dX5_readsColour_15 (by decide) ?_
  refine V_iconstv 2 dX5_readsColour_17 (by decide) ?_
  refine V_callV (q := (RX5, TX5, 23)) kX5_reads q3235 q3237 qs103 tw0 rfl dX5_readsColour_18 ?_ (d' := 2) (as := [_, _]) (hst := rfl)
  refine (tw_rs (s := rs L n 47 1 (rs L n 32 0 s)) (o := 2) hm hL h2.2 (by decide) rfl (by decide) hn ?_)
  refine V_aload_n dX5_readsColour_21 rfl (Or.inl ⟨_, rfl⟩) ?_
  refine V_bipushv 32 dX5_readsColour_22 (by decide) ?_
  refine V_iconstv 3 dX5_readsColour_24 (by decide) ?_
  refine V_callV (q := (RX5, TX5, 23)) kX5_reads q3235 q3237 qs103 tw0 rfl dX5_readsColour_25 ?_ (d' := 2) (as := [_, _]) (hst := rfl)
  refine (tw_rs (s := rs L n 47 2 (rs L n 47 1 (rs L n 32 0 s))) (o := 3) hm hL h3.2 (by decide) rfl (by decide) hn ?_)
  refine V_return dX5_readsColour_28 rfl ?_
  exact kk
theorem tw_readsMetric (hm : g_B E ≤ m) (hL : TxT T L) (hi : s.1 ≤ L.length) (hn : n < 32) (kk : P (.returned none) (g_tG E G m (pT T (rsM L n s).1 (rsM L n s).2.1 n K (rsM L n s).2.2))) : g_Spc l E mX5_readsMetric 1 [.ref m] (g_tG E G m (pT T s.1 s.2.1 n K s.2.2)) P := by
  obtain ⟨i, w, A⟩ := s
  have hi : i ≤ L.length := hi
  have hLl := hL.2.1
  have e8 : (8 : Int32) * nI n = nI (8 * n) := by rw [← nI_mul]; rfl
  refine V_intro (plainFor_of_name plX5) (Nat.le_of_ble_eq_true rfl) ?_
  show V l E mX5_readsMetric 1 P 0 _ _ (g_tG E G m (pT T i w n K A))
  -- the second half
  have half : ∀ (w1 : Bool) (j : Nat), w1 = rdW w L i 32 → j = (if rdW w L i 32 = true then i else i + 1) → j ≤ L.length → V l E mX5_readsMetric 1 P 44 [(0, .ref m)] [] (g_tG E G m (pT T j w1 n K A)) := by
    intro w1 j hw1 hj hjl
    have last : ∀ b : Bool, b = (w1 || !isM (mkW w1 L j)) → V l E mX5_readsMetric 1 P 65 [(0, .ref m)] [.int (b2i b), .ref m] (g_tG E G m (pT T j w1 n K A)) := by
      intro b hb
      refine tw_putI 22 hm (by decide) q2721 rfl rfl (b2i_nar _) (b2i_fit _) rfl dX5_readsMetric_65 ?_
      refine V_aload_n dX5_readsMetric_68 rfl (Or.inl ⟨_, rfl⟩) ?_
      refine V_get ckX5 tw0 17 (by decide) q2716 rfl rfl dX5_readsMetric_69 ?_
      refine V_bipushv 8 dX5_readsMetric_72 (by decide) ?_
      refine V_aload_n dX5_readsMetric_74 rfl (Or.inl ⟨_, rfl⟩) ?_
      refine V_get ckX5 tw0 21 (by decide) q2720 rfl rfl dX5_readsMetric_75 ?_
      rw [pT_wr rfl, show (pT T j b n K A).2 21 = nI n from rfl]
      refine V_imul dX5_readsMetric_78 ?_
      rw [e8]
      refine V_aload_n dX5_readsMetric_79 rfl (Or.inl ⟨_, rfl⟩) ?_
      refine V_callV (q := (RX5, TX5, 23)) kX5_mark q3239 q3241 qs104 tw0 rfl dX5_readsMetric_80 ?_ (d' := 0) (as := []) (hst := rfl)
      refine (tw_mark hL hjl ?_)
      refine tw_st 11 (8 * n) hm (by decide) (by decide) rfl (show _ < 256 from by omega) (by decide) dX5_readsMetric_83 ?_
      rw [pT_A, show (pT T j b n K A).1 11 = A from rfl]
      have fin : ∀ j2, j2 = (if b = true then j else j + 1) → P (.returned none) (g_tG E G m (pT T j2 b n K (upd A (8 * n) (mkW b L j)))) := by
        intro j2 hj2
        subst hj2 hb hj hw1
        exact kk
      refine V_aload_n dX5_readsMetric_84 rfl (Or.inl ⟨_, rfl⟩) ?_
      refine V_dup dX5_readsMetric_85 rfl ?_
      refine V_get ckX5 tw0 20 (by decide) q2719 rfl rfl dX5_readsMetric_86 ?_
      refine V_aload_n dX5_readsMetric_89 rfl (Or.inl ⟨_, rfl⟩) ?_
      refine V_get ckX5 tw0 22 (by decide) q2721 rfl rfl dX5_readsMetric_90 ?_
      rw [show (pT T j b n K (upd A (8 * n) (mkW b L j))).2 20 = nI j from rfl, show (pT T j b n K (upd A (8 * n) (mkW b L j))).2 22 = b2i b from rfl]
      cases b with
      | true =>
        refine V_if_eq 100 dX5_readsMetric_93 (by decide) (fun c93 => absurd c93 (show ¬ b2i true = 0 by decide)) (fun _ => ?_)
        refine V_iconstv 0 dX5_readsMetric_96 (by decide) ?_
        refine V_goto 101 dX5_readsMetric_97 (by decide) ?_
        refine V_iadd dX5_readsMetric_101 ?_
        rw [show nI j + 0 = nI j from Int32.add_zero _]
        refine tw_putI 20 hm (by decide) q2719 rfl rfl rfl rfl rfl dX5_readsMetric_102 ?_
        refine V_return dX5_readsMetric_105 rfl ?_
        rw [pT_pos rfl]
        exact fin j (if_pos rfl).symm
      | false =>
        refine V_if_eq 100 dX5_readsMetric_93 (by decide) (fun _ => ?_) (fun c93 => absurd rfl c93)
        refine V_iconstv 1 dX5_readsMetric_100 (by decide) ?_
        refine V_iadd dX5_readsMetric_101 ?_
        rw [show nI j + 1 = nI (j + 1) from nI_1 j]
        refine tw_putI 20 hm (by decide) q2719 rfl rfl rfl rfl rfl dX5_readsMetric_102 ?_
        refine V_return dX5_readsMetric_105 rfl ?_
        rw [pT_pos rfl]
        exact fin (j + 1) (if_neg (by decide)).symm
    refine V_aload_n dX5_readsMetric_44 rfl (Or.inl ⟨_, rfl⟩) ?_
    refine V_dup dX5_readsMetric_45 rfl ?_
    refine V_get ckX5 tw0 22 (by decide) q2721 rfl rfl dX5_readsMetric_46 ?_
    refine V_aload_n dX5_readsMetric_49 rfl (Or.inl ⟨_, rfl⟩) ?_
    refine V_callV (q := (RX5, TX5, 23)) kX5_mark q3239 q3241 qs104 tw0 rfl dX5_readsMetric_50 ?_ (d' := 0) (as := []) (hst := rfl)
    refine (tw_mark hL hjl ?_)
    refine V_callS kX5_isMetric q2876 q2877 dX5_readsMetric_53 ?_ (d' := 0) (as := [_]) (hst := rfl)
    refine (tw_isMetric ?_)
    rw [show (pT T j w1 n K A).2 22 = b2i w1 from rfl]
    cases hM : isM (mkW w1 L j) with
    | true =>
      refine V_if_ne 63 dX5_readsMetric_56 (by decide) (fun _ => ?_) (fun c56 => absurd c56 (b2i_ne hM))
      refine V_iconstv 0 dX5_readsMetric_63 (by decide) ?_
      refine V_ior dX5_readsMetric_64 ?_
      rw [show b2i w1 ||| 0 = b2i (w1 || false) from b2i_or w1 false]
      exact last _ (by rw [hM]; rfl)
    | false =>
      refine V_if_ne 63 dX5_readsMetric_56 (by decide) (fun c56 => absurd c56 (fun q => q (b2i_z hM))) (fun _ => ?_)
      refine V_iconstv 1 dX5_readsMetric_59 (by decide) ?_
      refine V_goto 64 dX5_readsMetric_60 (by decide) ?_
      refine V_ior dX5_readsMetric_64 ?_
      rw [show b2i w1 ||| 1 = b2i (w1 || true) from b2i_or w1 true]
      exact last _ (by rw [hM]; rfl)
  have fst : ∀ b : Bool, b = rdW w L i 32 → V l E mX5_readsMetric 1 P 20 [(0, .ref m)] [.int (b2i b), .ref m] (g_tG E G m (pT T i w n K A)) := by
    intro b hb
    refine tw_putI 22 hm (by decide) q2721 rfl rfl (b2i_nar _) (b2i_fit _) rfl dX5_readsMetric_20 ?_
    refine V_aload_n dX5_readsMetric_23 rfl (Or.inl ⟨_, rfl⟩) ?_
    refine V_dup dX5_readsMetric_24 rfl ?_
    refine V_get ckX5 tw0 20 (by decide) q2719 rfl rfl dX5_readsMetric_25 ?_
    refine V_aload_n dX5_readsMetric_28 rfl (Or.inl ⟨_, rfl⟩) ?_
    refine V_get ckX5 tw0 22 (by decide) q2721 rfl rfl dX5_readsMetric_29 ?_
    rw [pT_wr rfl, show (pT T i b n K A).2 20 = nI i from rfl, show (pT T i b n K A).2 22 = b2i b from rfl]
    cases b with
    | true =>
      refine V_if_eq 39 dX5_readsMetric_32 (by decide) (fun c32 => absurd c32 (show ¬ b2i true = 0 by decide)) (fun _ => ?_)
      refine V_iconstv 0 dX5_readsMetric_35 (by decide) ?_
      refine V_goto 40 dX5_readsMetric_36 (by decide) ?_
      refine V_iadd dX5_readsMetric_40 ?_
      rw [show nI i + 0 = nI i from Int32.add_zero _]
      refine tw_putI 20 hm (by decide) q2719 rfl rfl rfl rfl rfl dX5_readsMetric_41 ?_
      rw [pT_pos rfl]
      exact half true i hb (by rw [← hb]; rfl) hi
    | false =>
      refine V_if_eq 39 dX5_readsMetric_32 (by decide) (fun _ => ?_) (fun c32 => absurd rfl c32)
      refine V_iconstv 1 dX5_readsMetric_39 (by decide) ?_
      refine V_iadd dX5_readsMetric_40 ?_
      rw [show nI i + 1 = nI (i + 1) from nI_1 i]
      refine tw_putI 20 hm (by decide) q2719 rfl rfl rfl rfl rfl dX5_readsMetric_41 ?_
      rw [pT_pos rfl]
      exact half false (i + 1) hb (by rw [← hb]; rfl) (rdW_in (by decide) hb.symm)
  refine V_aload_n dX5_readsMetric_0 rfl (Or.inl ⟨_, rfl⟩) ?_
  refine V_dup dX5_readsMetric_1 rfl ?_
  refine V_get ckX5 tw0 22 (by decide) q2721 rfl rfl dX5_readsMetric_2 ?_
  refine V_aload_n dX5_readsMetric_5 rfl (Or.inl ⟨_, rfl⟩) ?_
  refine V_callV (q := (RX5, TX5, 23)) kX5_mark q3239 q3241 qs104 tw0 rfl dX5_readsMetric_6 ?_ (d' := 0) (as := []) (hst := rfl)
  refine (tw_mark hL hi ?_)
  refine V_bipushv 32 dX5_readsMetric_9 (by decide) ?_
  rw [show (pT T i w n K A).2 22 = b2i w from rfl]
  by_cases he : mkW w L i = 32
  · refine V_icmp_eq 18 dX5_readsMetric_11 (by decide) (fun _ => ?_) (fun c11 => absurd he c11)
    refine V_iconstv 0 dX5_readsMetric_18 (by decide) ?_
    refine V_ior dX5_readsMetric_19 ?_
    rw [show b2i w ||| 0 = b2i (w || false) from b2i_or w false]
    exact fst _ (by unfold rdW; rw [decide_eq_true he]; rfl)
  · refine V_icmp_eq 18 dX5_readsMetric_11 (by decide) (fun c11 => absurd c11 he) (fun _ => ?_)
    refine V_iconstv 1 dX5_readsMetric_14 (by decide) ?_
    refine V_goto 19 dX5_readsMetric_15 (by decide) ?_
    refine V_ior dX5_readsMetric_19 ?_
    rw [show b2i w ||| 1 = b2i (w || true) from b2i_or w true]
    exact fst _ (by unfold rdW; rw [decide_eq_false he]; rfl)
theorem tw_readsArguments {x : Int32} {kind : Nat} (hm : g_B E ≤ m) (hL : TxT T L) (hi : s.1 ≤ L.length) (hx : x = nI kind) (hk : kind < 9) (hn : n < 32) (kk : P (.returned none) (g_tG E G m (pT T (rsA L n kind s).1 (rsA L n kind s).2.1 n K (rsA L n kind s).2.2))) : g_Spc l E mX5_readsArguments 4 [.ref m, .int x] (g_tG E G m (pT T s.1 s.2.1 n K s.2.2)) P := by
  subst hx
  have hC := rsC_le (n := n) hi
  have h0 := rs_le (n := n) (o := 0) (c := 32) (by decide) hi
  refine V_intro (plainFor_of_name plX5) (Nat.le_of_ble_eq_true rfl) ?_
  have one : P (.returned none) (g_tG E G m (pT T (rs L n 32 0 s).1 (rs L n 32 0 s).2.1 n K (rs L n 32 0 s).2.2)) → V l E mX5_readsArguments 4 P 132 [(0, .ref m)] [] (g_tG E G m (pT T s.1 s.2.1 n K s.2.2)) := by
    intro kk'
    refine V_aload_n dX5_readsArguments_132 rfl (Or.inl ⟨_, rfl⟩) ?_
    refine V_bipushv 32 dX5_readsArguments_133 (by decide) ?_
    refine V_iconstv 0 dX5_readsArguments_135 (by decide) ?_
    refine V_callV (q := (RX5, TX5, 23)) kX5_reads q3235 q3237 qs103 tw0 rfl dX5_readsArguments_136 ?_ (d' := 2) (as := [_, _]) (hst := rfl)
    refine (tw_rs (o := 0) hm hL hi (by decide) rfl (by decide) hn ?_)
    refine V_return dX5_readsArguments_139 rfl ?_
    exact kk'
  have two : P (.returned none) (g_tG E G m (pT T (rs L n 32 1 (rs L n 32 0 s)).1 (rs L n 32 1 (rs L n 32 0 s)).2.1 n K (rs L n 32 1 (rs L n 32 0 s)).2.2)) → V l E mX5_readsArguments 4 P 80 [(0, .ref m)] [] (g_tG E G m (pT T s.1 s.2.1 n K s.2.2)) := by
    intro kk'
    refine V_aload_n dX5_readsArguments_80 rfl (Or.inl ⟨_, rfl⟩) ?_
    refine V_bipushv 32 dX5_readsArguments_81 (by decide) ?_
    refine V_iconstv 0 dX5_readsArguments_83 (by decide) ?_
    refine V_callV (q := (RX5, TX5, 23)) kX5_reads q3235 q3237 qs103 tw0 rfl dX5_readsArguments_84 ?_ (d' := 2) (as := [_, _]) (hst := rfl)
    refine (tw_rs (o := 0) hm hL hi (by decide) rfl (by decide) hn ?_)
    refine V_aload_n dX5_readsArguments_87 rfl (Or.inl ⟨_, rfl⟩) ?_
    refine V_bipushv 32 dX5_readsArguments_88 (by decide) ?_
    refine V_iconstv 1 dX5_readsArguments_90 (by decide) ?_
    refine V_callV (q := (RX5, TX5, 23)) kX5_reads q3235 q3237 qs103 tw0 rfl dX5_readsArguments_91 ?_ (d' := 2) (as := [_, _]) (hst := rfl)
    refine (tw_rs (s := rs L n 32 0 s) (o := 1) hm hL h0.2 (by decide) rfl (by decide) hn ?_)
    refine V_goto 139 dX5_readsArguments_94 (by decide) ?_
    refine V_return dX5_readsArguments_139 rfl ?_
    exact kk'
  match kind, hk, kk with
  | 0, _, kk =>
    refine V_iload_n dX5_readsArguments_0 rfl ?_
    refine V_tableIn 52 dX5_readsArguments_1 (by decide) (by decide) rfl (by decide) ?_
    refine V_aload_n dX5_readsArguments_52 rfl (Or.inl ⟨_, rfl⟩) ?_
    refine V_callV (q := (RX5, TX5, 23)) kX5_readsColour q3231 q3233 qs102 tw0 rfl dX5_readsArguments_53 ?_ (d' := 3) (as := []) (hst := rfl)
    refine (tw_readsColour hm hL hi hn ?_)
    refine V_goto 139 dX5_readsArguments_56 (by decide) ?_
    refine V_return dX5_readsArguments_139 rfl ?_
    exact kk
  | 1, _, kk =>
    refine V_iload_n dX5_readsArguments_0 rfl ?_
    refine V_tableIn 59 dX5_readsArguments_1 (by decide) (by decide) rfl (by decide) ?_
    refine V_aload_n dX5_readsArguments_59 rfl (Or.inl ⟨_, rfl⟩) ?_
    refine V_callV (q := (RX5, TX5, 23)) kX5_readsColour q3231 q3233 qs102 tw0 rfl dX5_readsArguments_60 ?_ (d' := 3) (as := []) (hst := rfl)
    refine (tw_readsColour hm hL hi hn ?_)
    refine V_aload_n dX5_readsArguments_63 rfl (Or.inl ⟨_, rfl⟩) ?_
    refine V_bipushv 32 dX5_readsArguments_64 (by decide) ?_
    refine V_iconstv 4 dX5_readsArguments_66 (by decide) ?_
    refine V_callV (q := (RX5, TX5, 23)) kX5_reads q3235 q3237 qs103 tw0 rfl dX5_readsArguments_67 ?_ (d' := 2) (as := [_, _]) (hst := rfl)
    refine (tw_rs (s := rsC L n s) (o := 4) hm hL hC.2 (by decide) rfl (by decide) hn ?_)
    refine V_goto 139 dX5_readsArguments_70 (by decide) ?_
    refine V_return dX5_readsArguments_139 rfl ?_
    exact kk
  | 2, _, kk =>
    refine V_iload_n dX5_readsArguments_0 rfl ?_
    refine V_tableIn 132 dX5_readsArguments_1 (by decide) (by decide) rfl (by decide) ?_
    exact V_subk (one kk) ⟨rfl, trivial⟩
  | 3, _, kk =>
    refine V_iload_n dX5_readsArguments_0 rfl ?_
    refine V_tableIn 132 dX5_readsArguments_1 (by decide) (by decide) rfl (by decide) ?_
    exact V_subk (one kk) ⟨rfl, trivial⟩
  | 4, _, kk =>
    refine V_iload_n dX5_readsArguments_0 rfl ?_
    refine V_tableIn 73 dX5_readsArguments_1 (by decide) (by decide) rfl (by decide) ?_
    refine V_aload_n dX5_readsArguments_73 rfl (Or.inl ⟨_, rfl⟩) ?_
    refine V_callV (q := (RX5, TX5, 23)) kX5_readsMetric q3247 q3249 qs106 tw0 rfl dX5_readsArguments_74 ?_ (d' := 1) (as := []) (hst := rfl)
    refine (tw_readsMetric hm hL hi hn ?_)
    refine V_goto 139 dX5_readsArguments_77 (by decide) ?_
    refine V_return dX5_readsArguments_139 rfl ?_
    exact kk
  | 5, _, kk =>
    refine V_iload_n dX5_readsArguments_0 rfl ?_
    refine V_tableIn 80 dX5_readsArguments_1 (by decide) (by decide) rfl (by decide) ?_
    exact V_subk (two kk) ⟨rfl, trivial⟩
  | 6, _, kk =>
    refine V_iload_n dX5_readsArguments_0 rfl ?_
    refine V_tableIn 97 dX5_readsArguments_1 (by decide) (by decide) rfl (by decide) ?_
    refine V_goto 139 dX5_readsArguments_97 (by decide) ?_
    refine V_return dX5_readsArguments_139 rfl ?_
    exact kk
  | 7, _, kk =>
    refine V_iload_n dX5_readsArguments_0 rfl ?_
    refine V_tableIn 80 dX5_readsArguments_1 (by decide) (by decide) rfl (by decide) ?_
    exact V_subk (two kk) ⟨rfl, trivial⟩
  | 8, _, kk =>
    refine V_iload_n dX5_readsArguments_0 rfl ?_
    refine V_tableIn 100 dX5_readsArguments_1 (by decide) (by decide) rfl (by decide) ?_
    refine V_aload_n dX5_readsArguments_100 rfl (Or.inl ⟨_, rfl⟩) ?_
    refine V_get ckX5 tw0 17 (by decide) q2716 rfl rfl dX5_readsArguments_101 ?_
    refine V_bipushv 8 dX5_readsArguments_104 (by decide) ?_
    refine V_aload_n dX5_readsArguments_106 rfl (Or.inl ⟨_, rfl⟩) ?_
    refine V_get ckX5 tw0 21 (by decide) q2720 rfl rfl dX5_readsArguments_107 ?_
    rw [show (pT T s.1 s.2.1 n K s.2.2).2 21 = nI n from rfl]
    refine V_imul dX5_readsArguments_110 ?_
    rw [show (8 : Int32) * nI n = nI (8 * n) by rw [← nI_mul]; rfl]
    refine V_iconstv 1 dX5_readsArguments_111 (by decide) ?_
    refine tw_st 11 (8 * n) hm (by decide) (by decide) rfl (show _ < 256 from by omega) (by decide) dX5_readsArguments_112 ?_
    rw [pT_A, show (pT T s.1 s.2.1 n K s.2.2).1 11 = s.2.2 from rfl]
    refine V_aload_n dX5_readsArguments_113 rfl (Or.inl ⟨_, rfl⟩) ?_
    refine V_callV (q := (RX5, TX5, 23)) kX5_mark q3239 q3241 qs104 tw0 rfl dX5_readsArguments_114 ?_ (d' := 0) (as := []) (hst := rfl)
    refine (tw_mark hL hi ?_)
    refine V_bipushv 32 dX5_readsArguments_117 (by decide) ?_
    have kk : P (.returned none) (g_tG E G m (pT T (if mkW s.2.1 L s.1 = 32 then rs L n 32 0 (s.1, s.2.1, upd s.2.2 (8 * n) 1) else (s.1, s.2.1, upd s.2.2 (8 * n) 1)).1 (if mkW s.2.1 L s.1 = 32 then rs L n 32 0 (s.1, s.2.1, upd s.2.2 (8 * n) 1) else (s.1, s.2.1, upd s.2.2 (8 * n) 1)).2.1 n K (if mkW s.2.1 L s.1 = 32 then rs L n 32 0 (s.1, s.2.1, upd s.2.2 (8 * n) 1) else (s.1, s.2.1, upd s.2.2 (8 * n) 1)).2.2)) := kk
    by_cases he : mkW s.2.1 L s.1 = 32
    · rw [if_pos he] at kk
      refine V_icmp_ne 139 dX5_readsArguments_119 (by decide) (fun c119 => absurd c119 (not_not_intro he)) (fun _ => ?_)
      refine V_aload_n dX5_readsArguments_122 rfl (Or.inl ⟨_, rfl⟩) ?_
      refine V_bipushv 32 dX5_readsArguments_123 (by decide) ?_
      refine V_iconstv 0 dX5_readsArguments_125 (by decide) ?_
      refine V_callV (q := (RX5, TX5, 23)) kX5_reads q3235 q3237 qs103 tw0 rfl dX5_readsArguments_126 ?_ (d' := 2) (as := [_, _]) (hst := rfl)
      refine (tw_rs (s := (s.1, s.2.1, upd s.2.2 (8 * n) 1)) (o := 0) hm hL hi (by decide) rfl (by decide) hn ?_)
      refine V_goto 139 dX5_readsArguments_129 (by decide) ?_
      refine V_return dX5_readsArguments_139 rfl ?_
      exact kk
    · rw [if_neg he] at kk
      refine V_icmp_ne 139 dX5_readsArguments_119 (by decide) (fun _ => ?_) (fun c119 => absurd c119 he)
      refine V_return dX5_readsArguments_139 rfl ?_
      exact kk
end TW20
