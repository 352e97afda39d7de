/-! REFERENCE 6: days, copies, commit -/
set_option maxRecDepth 100000
def rwSet (c : Rw) (j : Nat) (v : Int32) : Rw := match j with
  | 1 => (c.1, (v, c.2.1.2.1, c.2.1.2.2), c.2.2)
  | 2 => (c.1, (c.2.1.1, v, c.2.1.2.2), c.2.2)
  | _ => (c.1, (c.2.1.1, c.2.1.2.1, v), c.2.2)
theorem rwSet_at {c : Rw} {j i : Nat} {v : Int32} (hj : 0 < j) (h4 : j < 4) (hi : i < 6) : rw_at (rwSet c j v) i = if i = j then v else rw_at c i := by
  match j, hj, h4 with
  | 1, _, _ =>
    match i, hi with
    | 0, _ => rfl
    | 1, _ => rfl
    | 2, _ => rfl
    | 3, _ => rfl
    | 4, _ => rfl
    | 5, _ => rfl
  | 2, _, _ =>
    match i, hi with
    | 0, _ => rfl
    | 1, _ => rfl
    | 2, _ => rfl
    | 3, _ => rfl
    | 4, _ => rfl
    | 5, _ => rfl
  | 3, _, _ =>
    match i, hi with
    | 0, _ => rfl
    | 1, _ => rfl
    | 2, _ => rfl
    | 3, _ => rfl
    | 4, _ => rfl
    | 5, _ => rfl
theorem TwO.part {F : Nat → Int32} {o : Of} {k j : Nat} {c : Rw} {v : Int32} (h : TwO F o) (hk : o.1[k]? = some c) (hj : 0 < j) (h4 : j < 4) : TwO (upd F (8 + 8 * k + j) v) (o.1.set k (rwSet c j v), o.2) := by
  refine h.row (fun i hi => ?_) (fun q hq => if_neg (by omega)) (lt_of_at hk)
  rw [rwSet_at hj h4 hi, ← h.2.2.2.2.2.1 k c hk i hi]
  show (if 8 + 8 * k + i = 8 + 8 * k + j then v else _) = _
  by_cases e : i = j
  · rw [if_pos (by omega), if_pos e]
  · rw [if_neg (by omega), if_neg e]
theorem pass_f {n : Nat} {o : Of} (h : ∀ c ∈ o.1, c.2.2.1 ≠ 0) : ∀ c ∈ (passN n o).1, c.2.2.1 ≠ 0 := by
  induction n with
  | zero => exact h
  | succ n ih =>
    intro c hc
    obtain ⟨x, hx, rfl⟩ := List.mem_map.mp (show c ∈ (passN n o).1.map _ from hc)
    have := ih x hx
    unfold fadeC
    by_cases e : 0 < rm ((passN n o).2.2 4 + 1 - x.2.2.2) x.2.2.1
    · rw [if_pos e]; exact this
    · rw [if_neg e]; exact this
theorem set_at {L : List Rw} {k : Nat} {c : Rw} (h : k < L.length) : (L.set k c)[k]? = some c := by
  rw [List.getElem?_set, if_pos rfl, if_pos h]
section TW6
variable {l : Launch} {E : g_E} {P : Outcome → g_G → Prop} {G : g_G} {m : Nat} {T : Tw} {o : Of}
theorem tw_passes {x : Int32} {n : Nat} (hm : g_B E ≤ m) (h : TwO (T.1 1) o) (hx : x = nI n) (hn : n < 2 ^ 31) (hf : ∀ c ∈ o.1, c.2.2.1 ≠ 0) (kk : ∀ F, TwO F (passN n o) → P (.returned (some (.int (nI ((passN n o).1.countP isG))))) (g_tG E G m (twA T 1 F))) : g_Spc l E mX5_passes 4 [.ref m, .int x] (g_tG E G m T) P := by
  subst hx
  refine V_intro (plainFor_of_name plX5) (Nat.le_of_ble_eq_true rfl) ?_
  have part : ∀ (d k j : Nat) (F : Nat → Int32) (oo : Of) (c : Rw), TwO F oo → oo.1[k]? = some c → 0 < j → j < 4 → (∀ F', TwO F' (oo.1.set k (rwSet c j (fd1 (rw_at c j))), oo.2) → V l E mX5_passes 4 P 50 [(0, .ref m), (1, .int (nI n)), (2, .int (nI d)), (3, .int (nI k)), (4, .int (nI (j + 1)))] [] (g_tG E G m (twA T 1 F'))) → V l E mX5_passes 4 P 50 [(0, .ref m), (1, .int (nI n)), (2, .int (nI d)), (3, .int (nI k)), (4, .int (nI j))] [] (g_tG E G m (twA T 1 F)) := by
    intro d k j F oo c h1 hk h0 h4 nx
    have hk2 := lt_of_at hk
    have b1 := h1.1
    refine V_iload dX5_passes_50 rfl ?_
    refine V_iconstv 3 dX5_passes_52 (by decide) ?_
    refine V_icmp_gt 84 dX5_passes_53 (by decide) (fun c53 => absurd c53 (fun q => absurd ((nI_ltI (a := 3) (by decide) (by omega)).mp q) (by omega))) (fun _ => ?_)
    refine V_aload_n dX5_passes_56 rfl (Or.inl ⟨_, rfl⟩) ?_
    refine V_get ckX5 tw0 0 (by decide) q2699 rfl rfl dX5_passes_57 ?_
    refine V_iload_n dX5_passes_60 rfl ?_
    refine V_callS kX5_colourRow q2802 q2803 dX5_passes_61 ?_ (d' := 0) (as := [_]) (hst := rfl)
    refine (tw_colourRow (k := k) rfl ?_)
    refine V_iload dX5_passes_64 rfl ?_
    refine V_iadd dX5_passes_66 ?_
    refine V_aload_n dX5_passes_67 rfl (Or.inl ⟨_, rfl⟩) ?_
    refine V_iload_n dX5_passes_68 rfl ?_
    refine V_iload dX5_passes_69 rfl ?_
    refine V_callV (q := (RX5, TX5, 23)) kX5_c q2860 q2862 qs61 tw0 rfl dX5_passes_71 ?_ (d' := 1) (as := [_, _]) (hst := rfl)
    refine (tw_c (k := k) (j := j) (show TwO ((twA T 1 F).1 1) oo by rw [twA_at]; exact h1) rfl rfl hk (by omega) ?_)
    refine V_callS kX5_faded q2963 q2964 dX5_passes_74 ?_ (d' := 0) (as := [_]) (hst := rfl)
    refine (tw_faded ?_)
    refine tw_st 1 (8 + 8 * k + j) hm (by decide) (by decide) (nI_add _ _) (show _ < 136 from by omega) (by decide) dX5_passes_77 ?_
    rw [twA_at, twA_twA]
    refine V_iinc dX5_passes_78 rfl (by decide) ?_
    refine V_goto 50 dX5_passes_81 (by decide) ?_
    refine V_sub (L' := [(0, .ref m), (1, .int (nI n)), (2, .int (nI d)), (3, .int (nI k)), (4, .int (nI j + Int32.ofInt 1))]) ⟨rfl, rfl, rfl, rfl, rfl, trivial⟩ ?_
    rw [show nI j + Int32.ofInt 1 = nI (j + 1) from nI_1 j]
    exact nx _ (h1.part hk h0 h4)
  have col : ∀ (d k : Nat) (F : Nat → Int32) (oo : Of) (c : Rw), TwO F oo → oo.1[k]? = some c → c.2.2.1 ≠ 0 → (∀ F', TwO F' (oo.1.set k (fadeC (oo.2.2 4) c), oo.2) → V l E mX5_passes 4 P 84 [(0, .ref m), (1, .int (nI n)), (2, .int (nI d)), (3, .int (nI k))] [] (g_tG E G m (twA T 1 F'))) → V l E mX5_passes 4 P 29 [(0, .ref m), (1, .int (nI n)), (2, .int (nI d)), (3, .int (nI k))] [] (g_tG E G m (twA T 1 F)) := by
    intro d k F oo c h1 hk hc nx
    have hk2 := lt_of_at hk
    have h1' : TwO ((twA T 1 F).1 1) oo := by rw [twA_at]; exact h1
    refine V_aload_n dX5_passes_29 rfl (Or.inl ⟨_, rfl⟩) ?_
    refine V_iload_n dX5_passes_30 rfl ?_
    refine V_callV (q := (RX5, TX5, 23)) kX5_ageAt q2959 q2961 qs79 tw0 rfl dX5_passes_31 ?_ (d' := 2) (as := [_]) (hst := rfl)
    refine (tw_ageAt (k := k) h1' rfl hk ?_)
    refine V_aload_n dX5_passes_34 rfl (Or.inl ⟨_, rfl⟩) ?_
    refine V_iload_n dX5_passes_35 rfl ?_
    refine V_iconstv 4 dX5_passes_36 (by decide) ?_
    refine V_callV (q := (RX5, TX5, 23)) kX5_c q2860 q2862 qs61 tw0 rfl dX5_passes_37 ?_ (d' := 1) (as := [_, _]) (hst := rfl)
    refine (tw_c (k := k) (j := 4) h1' rfl rfl hk (by decide) ?_)
    refine V_irem dX5_passes_40 hc ?_
    unfold fadeC rm at nx
    refine V_if_le 47 dX5_passes_41 (by decide) (fun c41 => ?_) (fun c41 => ?_)
    · rw [show rw_at c 4 = c.2.2.1 from rfl] at c41
      rw [if_neg (Int32.not_lt.mpr c41)] at nx
      refine V_iconstv 1 dX5_passes_47 (by decide) ?_
      refine V_istore dX5_passes_48 (by decide) ?_
      refine V_sub (L' := [(0, .ref m), (1, .int (nI n)), (2, .int (nI d)), (3, .int (nI k)), (4, .int (nI 1))]) ⟨rfl, rfl, rfl, rfl, rfl, trivial⟩ ?_
      refine part d k 1 F oo c h1 hk (by decide) (by decide) (fun F1 hF1 => ?_)
      refine part d k 2 F1 _ _ hF1 (set_at hk2) (by decide) (by decide) (fun F2 hF2 => ?_)
      refine part d k 3 F2 _ _ hF2 (set_at (by rw [List.length_set]; exact hk2)) (by decide) (by decide) (fun F3 hF3 => ?_)
      refine V_iload dX5_passes_50 rfl ?_
      refine V_iconstv 3 dX5_passes_52 (by decide) ?_
      refine V_icmp_gt 84 dX5_passes_53 (by decide) (fun _ => ?_) (fun c53 => absurd (show (3 : Int32) < nI 4 by decide) c53)
      rw [List.set_set, List.set_set] at hF3
      exact V_subk (nx F3 hF3) ⟨rfl, rfl, rfl, rfl, trivial⟩
    · rw [show rw_at c 4 = c.2.2.1 from rfl] at c41
      rw [if_pos (Int32.not_le.mp c41), set_self hk] at nx
      refine V_goto 84 dX5_passes_44 (by decide) ?_
      exact nx F h1
  have days : ∀ d, d ≤ n → ∀ F, TwO F (passN d o) → V l E mX5_passes 4 P 2 [(0, .ref m), (1, .int (nI n)), (2, .int (nI d))] [] (g_tG E G m (twA T 1 F)) := by
    refine down n ?_ ?_
    · intro F hF
      refine V_iload_n dX5_passes_2 rfl ?_
      refine V_iload_n dX5_passes_3 rfl ?_
      refine V_icmp_ge 96 dX5_passes_4 (by decide) (fun _ => ?_) (fun c4 => absurd (Int32.le_refl _) c4)
      refine V_aload_n dX5_passes_96 rfl (Or.inl ⟨_, rfl⟩) ?_
      refine V_callV (q := (RX5, TX5, 23)) kX5_greys q2966 q2968 qs80 tw0 rfl dX5_passes_97 ?_ (d' := 3) (as := []) (hst := rfl)
      refine (tw_greys (show TwO ((twA T 1 F).1 1) _ by rw [twA_at]; exact hF) ?_)
      refine V_ireturn dX5_passes_100 rfl ?_
      exact kk F hF
    · intro d hd ih F hF
      have e4 : F 4 = (passN d o).2.2 4 := hF.2.2.2.2.1 4 (by decide) (by decide)
      refine V_iload_n dX5_passes_2 rfl ?_
      refine V_iload_n dX5_passes_3 rfl ?_
      refine V_icmp_ge 96 dX5_passes_4 (by decide) (fun c4 => absurd c4 (nI_ge hd hn)) (fun _ => ?_)
      refine V_aload_n dX5_passes_7 rfl (Or.inl ⟨_, rfl⟩) ?_
      refine V_get ckX5 tw0 0 (by decide) q2699 rfl rfl dX5_passes_8 ?_
      refine V_iconstv 4 dX5_passes_11 (by decide) ?_
      refine V_dup2 dX5_passes_12 rfl rfl ?_
      refine tw_ld 1 (4) (by decide) (by decide) rfl (show _ < 136 from by omega) (by decide) dX5_passes_13 ?_
      refine V_iconstv 1 dX5_passes_14 (by decide) ?_
      refine V_iadd dX5_passes_15 ?_
      refine tw_st 1 (4) hm (by decide) (by decide) rfl (show _ < 136 from by omega) (by decide) dX5_passes_16 ?_
      rw [twA_at, twA_twA, e4]
      have hF1 := hF.num (j := 4) (v := (passN d o).2.2 4 + 1) (by decide) (by decide)
      generalize upd F 4 ((passN d o).2.2 4 + 1) = F1 at hF1
      have hlen : (passN d o).1.length ≤ 10 := hF.1
      have cols : ∀ k, k ≤ (passN d o).1.length → ∀ F', TwO F' (mapTo (fadeC ((passN d o).2.2 4 + 1)) k (passN d o).1, (passN d o).2.1, upd (passN d o).2.2 4 ((passN d o).2.2 4 + 1)) → V l E mX5_passes 4 P 19 [(0, .ref m), (1, .int (nI n)), (2, .int (nI d)), (3, .int (nI k))] [] (g_tG E G m (twA T 1 F')) := by
        refine down (passN d o).1.length ?_ ?_
        · intro F' hF'
          have b3 := hF'.2.2.1
          rw [show (mapTo (fadeC ((passN d o).2.2 4 + 1)) (passN d o).1.length (passN d o).1, (passN d o).2.1, upd (passN d o).2.2 4 ((passN d o).2.2 4 + 1)).1.length = (passN d o).1.length from mapTo_len] at b3
          refine V_iload_n dX5_passes_19 rfl ?_
          refine V_aload_n dX5_passes_20 rfl (Or.inl ⟨_, rfl⟩) ?_
          refine V_get ckX5 tw0 0 (by decide) q2699 rfl rfl dX5_passes_21 ?_
          refine V_iconstv 0 dX5_passes_24 (by decide) ?_
          refine tw_ld 1 (0) (by decide) (by decide) rfl (show _ < 136 from by omega) (by decide) dX5_passes_25 ?_
          rw [twA_at, b3]
          refine V_icmp_ge 90 dX5_passes_26 (by decide) (fun _ => ?_) (fun c26 => absurd (Int32.le_refl _) c26)
          refine V_iinc dX5_passes_90 rfl (by decide) ?_
          refine V_goto 2 dX5_passes_93 (by decide) ?_
          refine V_sub (L' := [(0, .ref m), (1, .int (nI n)), (2, .int (nI d + Int32.ofInt 1))]) ⟨rfl, rfl, rfl, trivial⟩ ?_
          rw [show nI d + Int32.ofInt 1 = nI (d + 1) from nI_1 d]
          rw [mapTo_n] at hF'
          exact ih F' hF'
        · intro k hk ihk F' hF'
          have b3 := hF'.2.2.1
          rw [show (mapTo (fadeC ((passN d o).2.2 4 + 1)) k (passN d o).1, (passN d o).2.1, upd (passN d o).2.2 4 ((passN d o).2.2 4 + 1)).1.length = (passN d o).1.length from mapTo_len] at b3
          obtain ⟨c, hc, -⟩ := drop_at hk
          refine V_iload_n dX5_passes_19 rfl ?_
          refine V_aload_n dX5_passes_20 rfl (Or.inl ⟨_, rfl⟩) ?_
          refine V_get ckX5 tw0 0 (by decide) q2699 rfl rfl dX5_passes_21 ?_
          refine V_iconstv 0 dX5_passes_24 (by decide) ?_
          refine tw_ld 1 (0) (by decide) (by decide) rfl (show _ < 136 from by omega) (by decide) dX5_passes_25 ?_
          rw [twA_at, b3]
          refine V_icmp_ge 90 dX5_passes_26 (by decide) (fun c26 => absurd c26 (nI_ge hk (by omega))) (fun _ => ?_)
          refine col d k F' _ c hF' ((mapTo_at hk).trans hc) (pass_f hf c (List.mem_of_getElem? hc)) (fun F2 hF2 => ?_)
          refine V_iinc dX5_passes_84 rfl (by decide) ?_
          refine V_goto 19 dX5_passes_87 (by decide) ?_
          refine V_sub (L' := [(0, .ref m), (1, .int (nI n)), (2, .int (nI d)), (3, .int (nI k + Int32.ofInt 1))]) ⟨rfl, rfl, rfl, rfl, trivial⟩ ?_
          rw [show nI k + Int32.ofInt 1 = nI (k + 1) from nI_1 k]
          refine ihk F2 ?_
          rw [mapTo_s hc]
          exact hF2
      refine V_iconstv 0 dX5_passes_17 (by decide) ?_
      refine V_istore_n dX5_passes_18 (by decide) ?_
      refine V_sub (L' := [(0, .ref m), (1, .int (nI n)), (2, .int (nI d)), (3, .int (nI 0))]) ⟨rfl, rfl, rfl, rfl, trivial⟩ ?_
      exact cols 0 (Nat.zero_le _) F1 (by rw [mapTo_0]; exact hF1)
  refine V_iconstv 0 dX5_passes_0 (by decide) ?_
  refine V_istore_n dX5_passes_1 (by decide) ?_
  refine V_sub (L' := [(0, .ref m), (1, .int (nI n)), (2, .int (nI 0))]) ⟨rfl, rfl, rfl, trivial⟩ ?_
  have := days 0 (Nat.zero_le _) (T.1 1) h
  rw [twA_self] at this
  exact this
theorem tw_copy {a b i j : Nat} {x y : Int32} (hm : g_B E ≤ m) (ha0 : 0 < a) (ha : a < 12) (hb0 : 0 < b) (hb : b < 12) (hx : x = nI i) (hy : y = nI j) (hi : i + 136 ≤ twN a) (hj : j + 136 ≤ twN b) (hza : twN a < 2 ^ 31) (hzb : twN b < 2 ^ 31) (hab : a ≠ b ∨ j + 136 ≤ i) (kk : P (.returned none) (g_tG E G m (twA T b (cpy (T.1 a) (T.1 b) i j 136)))) : g_Spc l E mX5_copy 0 [.ref (m + a), .int x, .ref (m + b), .int y] (g_tG E G m T) P := by
  subst hx hy
  refine V_intro (plainFor_of_name plX5) (Nat.le_of_ble_eq_true rfl) ?_
  have loop : ∀ q, q ≤ 136 → V l E mX5_copy 0 P 3 [(0, .ref (m + a)), (1, .int (nI i)), (2, .ref (m + b)), (3, .int (nI j)), (4, .int (nI q))] [] (g_tG E G m (twA T b (cpy (T.1 a) (T.1 b) i j q))) := by
    refine down 136 ?_ ?_
    · refine V_iload dX5_copy_3 rfl ?_
      refine V_sipushv 136 dX5_copy_5 (by decide) ?_
      refine V_icmp_ge 29 dX5_copy_8 (by decide) (fun _ => ?_) (fun c8 => absurd (Int32.le_refl _) c8)
      refine V_return dX5_copy_29 rfl ?_
      exact kk
    · intro q hq ih
      have e : (twA T b (cpy (T.1 a) (T.1 b) i j q)).1 a (i + q) = T.1 a (i + q) := by
        by_cases h9 : a = b
        · subst h9
          rw [twA_at]
          exact if_neg (by omega)
        · rw [twA_ne h9]
      refine V_iload dX5_copy_3 rfl ?_
      refine V_sipushv 136 dX5_copy_5 (by decide) ?_
      refine V_icmp_ge 29 dX5_copy_8 (by decide) (fun c8 => absurd c8 (nI_ge hq (by decide))) (fun _ => ?_)
      refine V_aload_n dX5_copy_11 rfl (Or.inl ⟨_, rfl⟩) ?_
      refine V_iload_n dX5_copy_12 rfl ?_
      refine V_iload dX5_copy_13 rfl ?_
      refine V_iadd dX5_copy_15 ?_
      refine V_aload_n dX5_copy_16 rfl (Or.inl ⟨_, rfl⟩) ?_
      refine V_iload_n dX5_copy_17 rfl ?_
      refine V_iload dX5_copy_18 rfl ?_
      refine V_iadd dX5_copy_20 ?_
      rw [nI_add, nI_add]
      refine tw_ld a (i + q) ha0 ha rfl (by omega) hza dX5_copy_21 ?_
      refine tw_st b (j + q) hm hb0 hb rfl (by omega) hzb dX5_copy_22 ?_
      rw [e, twA_at, twA_twA, cpy_s]
      refine V_iinc dX5_copy_23 rfl (by decide) ?_
      refine V_goto 3 dX5_copy_26 (by decide) ?_
      refine V_sub (L' := [(0, .ref (m + a)), (1, .int (nI i)), (2, .ref (m + b)), (3, .int (nI j)), (4, .int (nI q + Int32.ofInt 1))]) ⟨rfl, rfl, rfl, rfl, rfl, trivial⟩ ?_
      rw [show nI q + Int32.ofInt 1 = nI (q + 1) from nI_1 q]
      exact ih
  refine V_iconstv 0 dX5_copy_0 (by decide) ?_
  refine V_istore dX5_copy_1 (by decide) ?_
  refine V_sub (L' := [(0, .ref (m + a)), (1, .int (nI i)), (2, .ref (m + b)), (3, .int (nI j)), (4, .int (nI 0))]) ⟨rfl, rfl, rfl, rfl, rfl, trivial⟩ ?_
  have := loop 0 (by decide)
  rw [cpy_0, twA_self] at this
  exact this
theorem tw_begin (hm : g_B E ≤ m) (kk : P (.returned none) (g_tG E G m (twA (twI T 5 0) 2 (cpy (T.1 1) (T.1 2) 0 0 136)))) : g_Spc l E mX5_begin 1 [.ref m] (g_tG E G m T) P := by
  refine V_intro (plainFor_of_name plX5) (Nat.le_of_ble_eq_true rfl) ?_
  refine V_aload_n dX5_begin_0 rfl (Or.inl ⟨_, rfl⟩) ?_
  refine V_iconstv 0 dX5_begin_1 (by decide) ?_
  refine tw_putI 5 hm (by decide) q2704 rfl rfl rfl rfl rfl dX5_begin_2 ?_
  refine V_aload_n dX5_begin_5 rfl (Or.inl ⟨_, rfl⟩) ?_
  refine V_get ckX5 tw0 0 (by decide) q2699 rfl rfl dX5_begin_6 ?_
  refine V_iconstv 0 dX5_begin_9 (by decide) ?_
  refine V_aload_n dX5_begin_10 rfl (Or.inl ⟨_, rfl⟩) ?_
  refine V_get ckX5 tw0 1 (by decide) q2700 rfl rfl dX5_begin_11 ?_
  refine V_iconstv 0 dX5_begin_14 (by decide) ?_
  refine V_callS kX5_copy q2781 q2782 dX5_begin_15 ?_ (d' := 0) (as := [_, _, _, _]) (hst := rfl)
  refine (tw_copy (a := 1) (b := 2) (i := 0) (j := 0) hm (by decide) (by decide) (by decide) (by decide) rfl rfl (by decide) (by decide) (by decide) (by decide) (Or.inl (by decide)) ?_)
  refine V_return dX5_begin_18 rfl ?_
  exact kk
theorem tw_fail {x : Int32} (hm : g_B E ≤ m) (kk : P (.returned (some (.int 0))) (g_tG E G m (twI T 5 x))) : g_Spc l E mX5_fail 0 [.ref m, .int x] (g_tG E G m T) P := by
  refine V_intro (plainFor_of_name plX5) (Nat.le_of_ble_eq_true rfl) ?_
  refine V_aload_n dX5_fail_0 rfl (Or.inl ⟨_, rfl⟩) ?_
  refine V_iload_n dX5_fail_1 rfl ?_
  refine tw_putI 5 hm (by decide) q2704 rfl rfl rfl rfl rfl dX5_fail_2 ?_
  refine V_iconstv 0 dX5_fail_5 (by decide) ?_
  refine V_ireturn dX5_fail_6 rfl ?_
  exact kk
theorem tw_plain {x : Int32} (hm : g_B E ≤ m) (kk : P (.returned (some (.int x))) (g_tG E G m (twI T 5 0))) : g_Spc l E mX5_plain 0 [.ref m, .int x] (g_tG E G m T) P := by
  refine V_intro (plainFor_of_name plX5) (Nat.le_of_ble_eq_true rfl) ?_
  refine V_aload_n dX5_plain_0 rfl (Or.inl ⟨_, rfl⟩) ?_
  refine V_iconstv 0 dX5_plain_1 (by decide) ?_
  refine tw_putI 5 hm (by decide) q2704 rfl rfl rfl rfl rfl dX5_plain_2 ?_
  refine V_iload_n dX5_plain_5 rfl ?_
  refine V_ireturn dX5_plain_6 rfl ?_
  exact kk
theorem tw_checked {b : Bool} (hm : g_B E ≤ m) (kk : P (.returned (some (.int (b2i (!b))))) (g_tG E G m (twI T 5 (b2i (!b))))) : g_Spc l E mX5_checked 0 [.ref m, .int (b2i b)] (g_tG E G m T) P := by
  refine V_intro (plainFor_of_name plX5) (Nat.le_of_ble_eq_true rfl) ?_
  cases b with
  | true =>
    refine V_aload_n dX5_checked_0 rfl (Or.inl ⟨_, rfl⟩) ?_
    refine V_iload_n dX5_checked_1 rfl ?_
    refine V_if_eq 9 dX5_checked_2 (by decide) (fun c2 => absurd c2 (by decide)) (fun _ => ?_)
    refine V_iconstv 0 dX5_checked_5 (by decide) ?_
    refine V_goto 10 dX5_checked_6 (by decide) ?_
    refine tw_putI 5 hm (by decide) q2704 rfl rfl rfl rfl rfl dX5_checked_10 ?_
    refine V_aload_n dX5_checked_13 rfl (Or.inl ⟨_, rfl⟩) ?_
    refine V_get ckX5 tw0 5 (by decide) q2704 rfl rfl dX5_checked_14 ?_
    refine V_ireturn dX5_checked_17 rfl ?_
    exact kk
  | false =>
    refine V_aload_n dX5_checked_0 rfl (Or.inl ⟨_, rfl⟩) ?_
    refine V_iload_n dX5_checked_1 rfl ?_
    refine V_if_eq 9 dX5_checked_2 (by decide) (fun _ => ?_) (fun c2 => absurd rfl c2)
    refine V_iconstv 1 dX5_checked_9 (by decide) ?_
    refine tw_putI 5 hm (by decide) q2704 rfl rfl rfl rfl rfl dX5_checked_10 ?_
    refine V_aload_n dX5_checked_13 rfl (Or.inl ⟨_, rfl⟩) ?_
    refine V_get ckX5 tw0 5 (by decide) q2704 rfl rfl dX5_checked_14 ?_
    refine V_ireturn dX5_checked_17 rfl ?_
    exact kk
end TW6
