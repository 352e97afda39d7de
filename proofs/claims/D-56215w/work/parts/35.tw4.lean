/-! REFERENCE 4: the changes' parts, walks -/
set_option maxRecDepth 100000
theorem b2i_ne {b : Bool} (h : b = true) : ¬ b2i b = 0 := by subst h; decide
theorem b2i_z {b : Bool} (h : b = false) : b2i b = 0 := by subst h; rfl
section TW4
variable {l : Launch} {E : g_E} {P : Outcome → g_G → Prop} {G : g_G} {m : Nat} {T : Tw} {o : Of}
theorem tw_apartFor {x y : Int32} {k j : Nat} {r c : Rw} (h : TwO (T.1 1) o) (hx : x = nI k) (hy : y = nI j) (hk : o.2.1[k]? = some r) (hj : o.1[j]? = some c) (kk : P (.returned (some (.int (dO o r.2.1 c)))) (g_tG E G m T)) : g_Spc l E mX5_apartFor 2 [.ref m, .int x, .int y] (g_tG E G m T) P := by
  have h2 := lt_of_at hk
  have h3 := lt_of_at hj
  have e5 : T.1 1 5 = o.2.2 5 := h.2.2.2.2.1 5 (by decide) (by decide)
  have b1 := h.1
  have b2 := h.2.1
  refine V_intro (plainFor_of_name plX5) (Nat.le_of_ble_eq_true rfl) ?_
  refine V_aload_n dX5_apartFor_0 rfl (Or.inl ⟨_, rfl⟩) ?_
  refine V_iload_n dX5_apartFor_1 rfl ?_
  refine V_callS kX5_reportRow q2825 q2826 dX5_apartFor_2 ?_ (d' := 0) (as := [_]) (hst := rfl)
  refine (tw_reportRow hx ?_)
  refine V_iload_n dX5_apartFor_5 rfl ?_
  refine V_callS kX5_colourRow q2802 q2803 dX5_apartFor_6 ?_ (d' := 0) (as := [_]) (hst := rfl)
  refine (tw_colourRow hy ?_)
  refine V_callV (q := (RX5, TX5, 23)) kX5_apart q2895 q2897 qs67 tw0 rfl dX5_apartFor_9 ?_ (d' := 1) (as := [_, _]) (hst := rfl)
  refine (tw_apart rfl rfl (by omega) (by omega) ?_)
  rw [h.tnR hk, h.tnC hj, e5]
  refine V_ireturn dX5_apartFor_12 rfl ?_
  exact kk
theorem tw_isFit {x y : Int32} {k j : Nat} {r c : Rw} (h : TwO (T.1 1) o) (hx : x = nI k) (hy : y = nI j) (hk : o.2.1[k]? = some r) (hj : o.1[j]? = some c) (kk : P (.returned (some (.int (b2i (fitO o r c))))) (g_tG E G m T)) : g_Spc l E mX5_isFit 3 [.ref m, .int x, .int y] (g_tG E G m T) P := by
  refine V_intro (plainFor_of_name plX5) (Nat.le_of_ble_eq_true rfl) ?_
  refine V_aload_n dX5_isFit_0 rfl (Or.inl ⟨_, rfl⟩) ?_
  refine V_iload_n dX5_isFit_1 rfl ?_
  refine V_iload_n dX5_isFit_2 rfl ?_
  refine V_callV (q := (RX5, TX5, 23)) kX5_apartFor q2906 q2908 qs69 tw0 rfl dX5_isFit_3 ?_ (d' := 2) (as := [_, _]) (hst := rfl)
  refine (tw_apartFor h hx hy hk hj ?_)
  refine V_aload_n dX5_isFit_6 rfl (Or.inl ⟨_, rfl⟩) ?_
  refine V_iload_n dX5_isFit_7 rfl ?_
  refine V_iconstv 4 dX5_isFit_8 (by decide) ?_
  refine V_callV (q := (RX5, TX5, 23)) kX5_r q2836 q2838 qs56 tw0 rfl dX5_isFit_9 ?_ (d' := 1) (as := [_, _]) (hst := rfl)
  refine (tw_r (j := 4) h hx rfl hk (by decide) ?_)
  refine V_icmp_gt 19 dX5_isFit_12 (by decide) (fun c12 => ?_) (fun c12 => ?_)
  · refine V_iconstv 0 dX5_isFit_19 (by decide) ?_
    refine V_zreturn dX5_isFit_20 rfl rfl ?_
    have e : fitO o r c = false := decide_eq_false (Int32.not_le.mpr c12)
    rw [e] at kk
    exact kk
  · refine V_iconstv 1 dX5_isFit_15 (by decide) ?_
    refine V_goto 20 dX5_isFit_16 (by decide) ?_
    refine V_zreturn dX5_isFit_20 rfl rfl ?_
    have e : fitO o r c = true := decide_eq_true (Int32.not_lt.mp c12)
    rw [e] at kk
    exact kk
theorem tw_nearestTo {x : Int32} {a : Nat} (h : TwO (T.1 1) o) (hx : x = nI a) (ha : a + 8 ≤ 136) (kk : P (.returned (some (.int (plI (nst o (tnA (T.1 1) a)))))) (g_tG E G m T)) : g_Spc l E mX5_nearestTo 2 [.ref m, .int x] (g_tG E G m T) P := by
  subst hx
  have e5 : T.1 1 5 = o.2.2 5 := h.2.2.2.2.1 5 (by decide) (by decide)
  have b1 := h.1
  have b3 := h.2.2.1
  refine V_intro (plainFor_of_name plX5) (Nat.le_of_ble_eq_true rfl) ?_
  have loop : ∀ i, i ≤ o.1.length → ∀ b : Option (Nat × Int32), (∀ j y, b = some (j, y) → ∃ c, o.1[j]? = some c ∧ y = dO o (tnA (T.1 1) a) c) → P (.returned (some (.int (plI ((amF (dO o (tnA (T.1 1) a)) i b (o.1.drop i)).map (·.1)))))) (g_tG E G m T) → V l E mX5_nearestTo 2 P 4 [(0, .ref m), (1, .int (nI a)), (2, .int (plI (b.map (·.1)))), (3, .int (nI i))] [] (g_tG E G m T) := by
    refine down o.1.length ?_ ?_
    · intro b hb kk
      refine V_iload_n dX5_nearestTo_4 rfl ?_
      refine V_aload_n dX5_nearestTo_5 rfl (Or.inl ⟨_, rfl⟩) ?_
      refine V_get ckX5 tw0 0 (by decide) q2699 rfl rfl dX5_nearestTo_6 ?_
      refine V_iconstv 0 dX5_nearestTo_9 (by decide) ?_
      refine tw_ld 1 (0) (by decide) (by decide) rfl (show _ < 136 from by omega) (by decide) dX5_nearestTo_10 ?_
      rw [b3]
      refine V_icmp_ge 47 dX5_nearestTo_11 (by decide) (fun _ => ?_) (fun c11 => absurd (Int32.le_refl _) c11)
      refine V_iload_n dX5_nearestTo_47 rfl ?_
      refine V_ireturn dX5_nearestTo_48 rfl ?_
      rw [List.drop_length] at kk
      exact kk
    · intro i hi ih b hb kk
      obtain ⟨c, hc, hd⟩ := drop_at hi
      rw [hd] at kk
      have next : ∀ b' : Option (Nat × Int32), (∀ j y, b' = some (j, y) → ∃ c, o.1[j]? = some c ∧ y = dO o (tnA (T.1 1) a) c) → P (.returned (some (.int (plI ((amF (dO o (tnA (T.1 1) a)) (i + 1) b' (o.1.drop (i + 1))).map (·.1)))))) (g_tG E G m T) → V l E mX5_nearestTo 2 P 41 [(0, .ref m), (1, .int (nI a)), (2, .int (plI (b'.map (·.1)))), (3, .int (nI i))] [] (g_tG E G m T) := by
        intro b' hb' kk'
        refine V_iinc dX5_nearestTo_41 rfl (by decide) ?_
        refine V_goto 4 dX5_nearestTo_44 (by decide) ?_
        refine V_sub (L' := [(0, .ref m), (1, .int (nI a)), (2, .int (plI (b'.map (·.1)))), (3, .int (nI i + Int32.ofInt 1))]) ⟨rfl, rfl, rfl, rfl, trivial⟩ ?_
        rw [show nI i + Int32.ofInt 1 = nI (i + 1) from nI_1 i]
        exact ih b' hb' kk'
      have take : P (.returned (some (.int (plI ((amF (dO o (tnA (T.1 1) a)) (i + 1) (some (i, dO o (tnA (T.1 1) a) c)) (o.1.drop (i + 1))).map (·.1)))))) (g_tG E G m T) → V l E mX5_nearestTo 2 P 39 [(0, .ref m), (1, .int (nI a)), (2, .int (plI (b.map (·.1)))), (3, .int (nI i))] [] (g_tG E G m T) := by
        intro kk'
        refine V_iload_n dX5_nearestTo_39 rfl ?_
        refine V_istore_n dX5_nearestTo_40 (by decide) ?_
        refine V_sub (L' := [(0, .ref m), (1, .int (nI a)), (2, .int (nI i)), (3, .int (nI i))]) ⟨rfl, rfl, rfl, rfl, trivial⟩ ?_
        exact next (some (i, dO o (tnA (T.1 1) a) c)) (fun j y e => by cases e; exact ⟨c, hc, rfl⟩) kk'
      refine V_iload_n dX5_nearestTo_4 rfl ?_
      refine V_aload_n dX5_nearestTo_5 rfl (Or.inl ⟨_, rfl⟩) ?_
      refine V_get ckX5 tw0 0 (by decide) q2699 rfl rfl dX5_nearestTo_6 ?_
      refine V_iconstv 0 dX5_nearestTo_9 (by decide) ?_
      refine tw_ld 1 (0) (by decide) (by decide) rfl (show _ < 136 from by omega) (by decide) dX5_nearestTo_10 ?_
      rw [b3]
      refine V_icmp_ge 47 dX5_nearestTo_11 (by decide) (fun c11 => absurd c11 (nI_ge hi (by omega))) (fun _ => ?_)
      refine V_iload_n dX5_nearestTo_14 rfl ?_
      cases b with
      | none =>
        refine V_if_lt 39 dX5_nearestTo_15 (by decide) (fun _ => ?_) (fun c15 => absurd (show plI none < 0 by decide) c15)
        exact take kk
      | some z =>
        obtain ⟨j, y⟩ := z
        obtain ⟨c', hc', hy⟩ := hb j y rfl
        have hj := lt_of_at hc'
        refine V_if_lt 39 dX5_nearestTo_15 (by decide) (fun c15 => absurd c15 (nI_pos (show j < 2 ^ 31 by omega))) (fun _ => ?_)
        refine V_aload_n dX5_nearestTo_18 rfl (Or.inl ⟨_, rfl⟩) ?_
        refine V_iload_n dX5_nearestTo_19 rfl ?_
        refine V_iload_n dX5_nearestTo_20 rfl ?_
        refine V_callS kX5_colourRow q2802 q2803 dX5_nearestTo_21 ?_ (d' := 0) (as := [_]) (hst := rfl)
        refine (tw_colourRow rfl ?_)
        refine V_callV (q := (RX5, TX5, 23)) kX5_apart q2895 q2897 qs67 tw0 rfl dX5_nearestTo_24 ?_ (d' := 1) (as := [_, _]) (hst := rfl)
        refine (tw_apart rfl rfl (by omega) (by omega) ?_)
        refine V_aload_n dX5_nearestTo_27 rfl (Or.inl ⟨_, rfl⟩) ?_
        refine V_iload_n dX5_nearestTo_28 rfl ?_
        refine V_iload_n dX5_nearestTo_29 rfl ?_
        refine V_callS kX5_colourRow q2802 q2803 dX5_nearestTo_30 ?_ (d' := 0) (as := [_]) (hst := rfl)
        refine (tw_colourRow (k := j) rfl ?_)
        refine V_callV (q := (RX5, TX5, 23)) kX5_apart q2895 q2897 qs67 tw0 rfl dX5_nearestTo_33 ?_ (d' := 1) (as := [_, _]) (hst := rfl)
        refine (tw_apart (b := 8 + 8 * j) rfl rfl (by omega) (by omega) ?_)
        rw [h.tnC hc, h.tnC hc', e5]
        have kk : P (.returned (some (.int (plI ((amF (dO o (tnA (T.1 1) a)) (i + 1) (if dO o (tnA (T.1 1) a) c < y then some (i, dO o (tnA (T.1 1) a) c) else some (j, y)) (o.1.drop (i + 1))).map (·.1)))))) (g_tG E G m T) := kk
        rw [hy] at kk
        refine V_icmp_ge 41 dX5_nearestTo_36 (by decide) (fun c36 => ?_) (fun c36 => ?_)
        · rw [if_neg (show ¬ dO o (tnA (T.1 1) a) c < dO o (tnA (T.1 1) a) c' from Int32.not_lt.mpr c36)] at kk
          exact next (some (j, dO o (tnA (T.1 1) a) c')) (fun j' y' e => by cases e; exact ⟨c', hc', rfl⟩) kk
        · rw [if_pos (show dO o (tnA (T.1 1) a) c < dO o (tnA (T.1 1) a) c' from Int32.not_le.mp c36)] at kk
          exact take kk
  refine V_iconstv (-1) dX5_nearestTo_0 (by decide) ?_
  refine V_istore_n dX5_nearestTo_1 (by decide) ?_
  refine V_iconstv 0 dX5_nearestTo_2 (by decide) ?_
  refine V_istore_n dX5_nearestTo_3 (by decide) ?_
  refine V_sub (L' := [(0, .ref m), (1, .int (nI a)), (2, .int (plI none)), (3, .int (nI 0))]) ⟨rfl, rfl, rfl, rfl, trivial⟩ ?_
  exact loop 0 (Nat.zero_le _) none (fun _ _ e => by cases e) kk
theorem tw_areParts {r g b : Int32} (kk : P (.returned (some (.int (b2i (isb r 0 99 && isb g 0 99 && isb b 0 99))))) G) : g_Spc l E mX5_areParts 1 [.int r, .int g, .int b] G P := by
  refine V_intro (plainFor_of_name plX5) (Nat.le_of_ble_eq_true rfl) ?_
  refine V_iload_n dX5_areParts_0 rfl ?_
  refine V_iconstv 0 dX5_areParts_1 (by decide) ?_
  refine V_bipushv 99 dX5_areParts_2 (by decide) ?_
  refine V_callS kX5_in q2791 q2792 dX5_areParts_4 ?_ (d' := 0) (as := [_, _, _]) (hst := rfl)
  refine (tw_in ?_)
  refine V_if_eq 34 dX5_areParts_7 (by decide) (fun c7 => ?_) (fun c7 => ?_)
  · rw [b2i_f c7] at kk
    refine V_iconstv 0 dX5_areParts_34 (by decide) ?_
    refine V_zreturn dX5_areParts_35 rfl rfl ?_
    exact kk
  · rw [b2i_t c7] at kk
    refine V_iload_n dX5_areParts_10 rfl ?_
    refine V_iconstv 0 dX5_areParts_11 (by decide) ?_
    refine V_bipushv 99 dX5_areParts_12 (by decide) ?_
    refine V_callS kX5_in q2791 q2792 dX5_areParts_14 ?_ (d' := 0) (as := [_, _, _]) (hst := rfl)
    refine (tw_in ?_)
    refine V_if_eq 34 dX5_areParts_17 (by decide) (fun c17 => ?_) (fun c17 => ?_)
    · rw [b2i_f c17] at kk
      refine V_iconstv 0 dX5_areParts_34 (by decide) ?_
      refine V_zreturn dX5_areParts_35 rfl rfl ?_
      exact kk
    · rw [b2i_t c17] at kk
      refine V_iload_n dX5_areParts_20 rfl ?_
      refine V_iconstv 0 dX5_areParts_21 (by decide) ?_
      refine V_bipushv 99 dX5_areParts_22 (by decide) ?_
      refine V_callS kX5_in q2791 q2792 dX5_areParts_24 ?_ (d' := 0) (as := [_, _, _]) (hst := rfl)
      refine (tw_in ?_)
      refine V_if_eq 34 dX5_areParts_27 (by decide) (fun c27 => ?_) (fun c27 => ?_)
      · rw [b2i_f c27] at kk
        refine V_iconstv 0 dX5_areParts_34 (by decide) ?_
        refine V_zreturn dX5_areParts_35 rfl rfl ?_
        exact kk
      · rw [b2i_t c27] at kk
        refine V_iconstv 1 dX5_areParts_30 (by decide) ?_
        refine V_goto 35 dX5_areParts_31 (by decide) ?_
        refine V_zreturn dX5_areParts_35 rfl rfl ?_
        exact kk
theorem tw_lay {x : Int32} {a : Nat} {r : Rw} (hm : g_B E ≤ m) (hx : x = nI a) (ha : a + 8 ≤ 136) (kk : P (.returned none) (g_tG E G m (twA T 1 (lay6 (T.1 1) a r)))) : g_Spc l E mX5_lay 0 [.ref m, .int x, .int r.1, .int r.2.1.1, .int r.2.1.2.1, .int r.2.1.2.2, .int r.2.2.1, .int r.2.2.2] (g_tG E G m T) P := by
  subst hx
  refine V_intro (plainFor_of_name plX5) (Nat.le_of_ble_eq_true rfl) ?_
  refine V_aload_n dX5_lay_0 rfl (Or.inl ⟨_, rfl⟩) ?_
  refine V_get ckX5 tw0 0 (by decide) q2699 rfl rfl dX5_lay_1 ?_
  refine V_iload_n dX5_lay_4 rfl ?_
  refine V_iconstv 0 dX5_lay_5 (by decide) ?_
  refine V_iadd dX5_lay_6 ?_
  refine V_iload_n dX5_lay_7 rfl ?_
  refine tw_st 1 (a) hm (by decide) (by decide) (nI_add a 0) (show _ < 136 from by omega) (by decide) dX5_lay_8 ?_
  refine V_aload_n dX5_lay_9 rfl (Or.inl ⟨_, rfl⟩) ?_
  refine V_get ckX5 tw0 0 (by decide) q2699 rfl rfl dX5_lay_10 ?_
  refine V_iload_n dX5_lay_13 rfl ?_
  refine V_iconstv 1 dX5_lay_14 (by decide) ?_
  refine V_iadd dX5_lay_15 ?_
  refine V_iload_n dX5_lay_16 rfl ?_
  refine tw_st 1 (a + 1) hm (by decide) (by decide) (nI_add a 1) (show _ < 136 from by omega) (by decide) dX5_lay_17 ?_
  refine V_aload_n dX5_lay_18 rfl (Or.inl ⟨_, rfl⟩) ?_
  refine V_get ckX5 tw0 0 (by decide) q2699 rfl rfl dX5_lay_19 ?_
  refine V_iload_n dX5_lay_22 rfl ?_
  refine V_iconstv 2 dX5_lay_23 (by decide) ?_
  refine V_iadd dX5_lay_24 ?_
  refine V_iload dX5_lay_25 rfl ?_
  refine tw_st 1 (a + 2) hm (by decide) (by decide) (nI_add a 2) (show _ < 136 from by omega) (by decide) dX5_lay_27 ?_
  refine V_aload_n dX5_lay_28 rfl (Or.inl ⟨_, rfl⟩) ?_
  refine V_get ckX5 tw0 0 (by decide) q2699 rfl rfl dX5_lay_29 ?_
  refine V_iload_n dX5_lay_32 rfl ?_
  refine V_iconstv 3 dX5_lay_33 (by decide) ?_
  refine V_iadd dX5_lay_34 ?_
  refine V_iload dX5_lay_35 rfl ?_
  refine tw_st 1 (a + 3) hm (by decide) (by decide) (nI_add a 3) (show _ < 136 from by omega) (by decide) dX5_lay_37 ?_
  refine V_aload_n dX5_lay_38 rfl (Or.inl ⟨_, rfl⟩) ?_
  refine V_get ckX5 tw0 0 (by decide) q2699 rfl rfl dX5_lay_39 ?_
  refine V_iload_n dX5_lay_42 rfl ?_
  refine V_iconstv 4 dX5_lay_43 (by decide) ?_
  refine V_iadd dX5_lay_44 ?_
  refine V_iload dX5_lay_45 rfl ?_
  refine tw_st 1 (a + 4) hm (by decide) (by decide) (nI_add a 4) (show _ < 136 from by omega) (by decide) dX5_lay_47 ?_
  refine V_aload_n dX5_lay_48 rfl (Or.inl ⟨_, rfl⟩) ?_
  refine V_get ckX5 tw0 0 (by decide) q2699 rfl rfl dX5_lay_49 ?_
  refine V_iload_n dX5_lay_52 rfl ?_
  refine V_iconstv 5 dX5_lay_53 (by decide) ?_
  refine V_iadd dX5_lay_54 ?_
  refine V_iload dX5_lay_55 rfl ?_
  refine tw_st 1 (a + 5) hm (by decide) (by decide) (nI_add a 5) (show _ < 136 from by omega) (by decide) dX5_lay_57 ?_
  refine V_return dX5_lay_58 rfl ?_
  simp only [twA_at, twA_twA]
  exact kk
theorem tw_cannotAdd {r g b f : Int32} (h : TwO (T.1 1) o) (kk : P (.returned (some (.int (cadd o r g b f)))) (g_tG E G m T)) : g_Spc l E mX5_cannotAdd 2 [.ref m, .int r, .int g, .int b, .int f] (g_tG E G m T) P := by
  have b1 := h.1
  have b3 := h.2.2.1
  refine V_intro (plainFor_of_name plX5) (Nat.le_of_ble_eq_true rfl) ?_
  refine V_iload_n dX5_cannotAdd_0 rfl ?_
  refine V_iload_n dX5_cannotAdd_1 rfl ?_
  refine V_iload_n dX5_cannotAdd_2 rfl ?_
  refine V_callS kX5_areParts q2788 q2789 dX5_cannotAdd_3 ?_ (d' := 1) (as := [_, _, _]) (hst := rfl)
  refine (tw_areParts ?_)
  unfold cadd at kk
  refine V_if_eq 20 dX5_cannotAdd_6 (by decide) (fun c6 => ?_) (fun c6 => ?_)
  · rw [b2i_f c6] at kk
    refine V_iconstv 1 dX5_cannotAdd_20 (by decide) ?_
    refine V_ireturn dX5_cannotAdd_21 rfl ?_
    exact kk
  · rw [b2i_t c6] at kk
    refine V_iload dX5_cannotAdd_9 rfl ?_
    refine V_iconstv 1 dX5_cannotAdd_11 (by decide) ?_
    refine V_bipushv 9 dX5_cannotAdd_12 (by decide) ?_
    refine V_callS kX5_in q2791 q2792 dX5_cannotAdd_14 ?_ (d' := 0) (as := [_, _, _]) (hst := rfl)
    refine (tw_in ?_)
    refine V_if_ne 22 dX5_cannotAdd_17 (by decide) (fun c17 => ?_) (fun c17 => ?_)
    · rw [b2i_t c17] at kk
      refine V_aload_n dX5_cannotAdd_22 rfl (Or.inl ⟨_, rfl⟩) ?_
      refine V_get ckX5 tw0 0 (by decide) q2699 rfl rfl dX5_cannotAdd_23 ?_
      refine V_iconstv 0 dX5_cannotAdd_26 (by decide) ?_
      refine tw_ld 1 (0) (by decide) (by decide) rfl (show _ < 136 from by omega) (by decide) dX5_cannotAdd_27 ?_
      refine V_bipushv 10 dX5_cannotAdd_28 (by decide) ?_
      rw [b3]
      refine V_icmp_ne 37 dX5_cannotAdd_30 (by decide) (fun c30 => ?_) (fun c30 => ?_)
      · rw [show (true && true) = true from rfl, if_pos rfl, if_neg (fun e => c30 (by rw [e]; rfl))] at kk
        refine V_iconstv 0 dX5_cannotAdd_37 (by decide) ?_
        refine V_ireturn dX5_cannotAdd_38 rfl ?_
        exact kk
      · rw [show (true && true) = true from rfl, if_pos rfl, if_pos ((nI_eq (b := 10) (by omega) (by decide)).mp c30)] at kk
        refine V_iconstv 2 dX5_cannotAdd_33 (by decide) ?_
        refine V_goto 38 dX5_cannotAdd_34 (by decide) ?_
        refine V_ireturn dX5_cannotAdd_38 rfl ?_
        exact kk
    · rw [b2i_f c17] at kk
      refine V_iconstv 1 dX5_cannotAdd_20 (by decide) ?_
      refine V_ireturn dX5_cannotAdd_21 rfl ?_
      exact kk
theorem tw_adds {r g b f : Int32} (hm : g_B E ≤ m) (h : TwO (T.1 1) o) (hn : o.1.length < 10) (kk : ∀ F, TwO F (ofAdd o (r, g, b) f) → P (.returned (some (.int (o.2.2 2)))) (g_tG E G m (twA T 1 F))) : g_Spc l E mX5_adds 1 [.ref m, .int r, .int g, .int b, .int f] (g_tG E G m T) P := by
  have hh := h
  obtain ⟨h1, h2, h3, h4, h5, h6, h7⟩ := h
  have e2 : T.1 1 2 = o.2.2 2 := h5 2 (by decide) (by decide)
  have e4 : T.1 1 4 = o.2.2 4 := h5 4 (by decide) (by decide)
  have q0 : ∀ R, lay6 (T.1 1) (8 + 8 * o.1.length) R 0 = nI o.1.length := fun R => (lay6_ne (by omega)).trans h3
  have q2 : ∀ R, upd (lay6 (T.1 1) (8 + 8 * o.1.length) R) 0 (nI (o.1.length + 1)) 2 = o.2.2 2 := fun R => (if_neg (by decide)).trans ((lay6_ne (by omega)).trans e2)
  refine V_intro (plainFor_of_name plX5) (Nat.le_of_ble_eq_true rfl) ?_
  refine V_aload_n dX5_adds_0 rfl (Or.inl ⟨_, rfl⟩) ?_
  refine V_aload_n dX5_adds_1 rfl (Or.inl ⟨_, rfl⟩) ?_
  refine V_get ckX5 tw0 0 (by decide) q2699 rfl rfl dX5_adds_2 ?_
  refine V_iconstv 0 dX5_adds_5 (by decide) ?_
  refine tw_ld 1 (0) (by decide) (by decide) rfl (show _ < 136 from by omega) (by decide) dX5_adds_6 ?_
  rw [h3]
  refine V_callS kX5_colourRow q2802 q2803 dX5_adds_7 ?_ (d' := 0) (as := [_]) (hst := rfl)
  refine (tw_colourRow rfl ?_)
  refine V_aload_n dX5_adds_10 rfl (Or.inl ⟨_, rfl⟩) ?_
  refine V_get ckX5 tw0 0 (by decide) q2699 rfl rfl dX5_adds_11 ?_
  refine V_iconstv 2 dX5_adds_14 (by decide) ?_
  refine tw_ld 1 (2) (by decide) (by decide) rfl (show _ < 136 from by omega) (by decide) dX5_adds_15 ?_
  refine V_iload_n dX5_adds_16 rfl ?_
  refine V_iload_n dX5_adds_17 rfl ?_
  refine V_iload_n dX5_adds_18 rfl ?_
  refine V_iload dX5_adds_19 rfl ?_
  refine V_aload_n dX5_adds_21 rfl (Or.inl ⟨_, rfl⟩) ?_
  refine V_get ckX5 tw0 0 (by decide) q2699 rfl rfl dX5_adds_22 ?_
  refine V_iconstv 4 dX5_adds_25 (by decide) ?_
  refine tw_ld 1 (4) (by decide) (by decide) rfl (show _ < 136 from by omega) (by decide) dX5_adds_26 ?_
  rw [e2, e4]
  refine V_callV (q := (RX5, TX5, 23)) kX5_lay q2805 q2807 qs51 tw0 rfl dX5_adds_27 ?_ (d' := 0) (as := [_, _, _, _, _, _, _]) (hst := rfl)
  refine (tw_lay (a := 8 + 8 * o.1.length) (r := (o.2.2 2, (r, g, b), f, o.2.2 4)) hm rfl (by omega) ?_)
  refine V_aload_n dX5_adds_30 rfl (Or.inl ⟨_, rfl⟩) ?_
  refine V_get ckX5 tw0 0 (by decide) q2699 rfl rfl dX5_adds_31 ?_
  refine V_iconstv 0 dX5_adds_34 (by decide) ?_
  refine V_dup2 dX5_adds_35 rfl rfl ?_
  refine tw_ld 1 (0) (by decide) (by decide) rfl (show _ < 136 from by omega) (by decide) dX5_adds_36 ?_
  rw [twA_at, q0]
  refine V_iconstv 1 dX5_adds_37 (by decide) ?_
  refine V_iadd dX5_adds_38 ?_
  rw [show nI o.1.length + 1 = nI (o.1.length + 1) from nI_1 _]
  refine tw_st 1 (0) hm (by decide) (by decide) rfl (show _ < 136 from by omega) (by decide) dX5_adds_39 ?_
  refine V_aload_n dX5_adds_40 rfl (Or.inl ⟨_, rfl⟩) ?_
  refine V_get ckX5 tw0 0 (by decide) q2699 rfl rfl dX5_adds_41 ?_
  refine V_iconstv 2 dX5_adds_44 (by decide) ?_
  refine V_dup2 dX5_adds_45 rfl rfl ?_
  refine tw_ld 1 (2) (by decide) (by decide) rfl (show _ < 136 from by omega) (by decide) dX5_adds_46 ?_
  rw [twA_at, twA_at, twA_twA, q2]
  refine V_iconstv 1 dX5_adds_47 (by decide) ?_
  refine V_iadd dX5_adds_48 ?_
  refine tw_st 1 (2) hm (by decide) (by decide) rfl (show _ < 136 from by omega) (by decide) dX5_adds_49 ?_
  refine V_aload_n dX5_adds_50 rfl (Or.inl ⟨_, rfl⟩) ?_
  refine V_get ckX5 tw0 0 (by decide) q2699 rfl rfl dX5_adds_51 ?_
  refine V_iconstv 2 dX5_adds_54 (by decide) ?_
  refine tw_ld 1 (2) (by decide) (by decide) rfl (show _ < 136 from by omega) (by decide) dX5_adds_55 ?_
  refine V_iconstv 1 dX5_adds_56 (by decide) ?_
  rw [twA_at, twA_twA, twA_at]
  rw [show upd (upd (lay6 (T.1 1) (8 + 8 * o.1.length) (o.2.2 2, (r, g, b), f, o.2.2 4)) 0 (nI (o.1.length + 1))) 2 (o.2.2 2 + 1) 2 = o.2.2 2 + 1 from if_pos rfl]
  refine V_isub dX5_adds_57 ?_
  rw [show o.2.2 2 + 1 - 1 = o.2.2 2 from Int32.add_sub_cancel _ _]
  refine V_ireturn dX5_adds_58 rfl ?_
  exact kk _ (hh.addC hn)
theorem tw_cannotReport {r g b f w : Int32} (h : TwO (T.1 1) o) (kk : P (.returned (some (.int (crep o r g b f w)))) (g_tG E G m T)) : g_Spc l E mX5_cannotReport 2 [.ref m, .int r, .int g, .int b, .int f, .int w] (g_tG E G m T) P := by
  have b1 := h.2.1
  have b3 := h.2.2.2.1
  refine V_intro (plainFor_of_name plX5) (Nat.le_of_ble_eq_true rfl) ?_
  refine V_iload_n dX5_cannotReport_0 rfl ?_
  refine V_iload_n dX5_cannotReport_1 rfl ?_
  refine V_iload_n dX5_cannotReport_2 rfl ?_
  refine V_callS kX5_areParts q2788 q2789 dX5_cannotReport_3 ?_ (d' := 1) (as := [_, _, _]) (hst := rfl)
  refine (tw_areParts ?_)
  unfold crep at kk
  refine V_if_eq 32 dX5_cannotReport_6 (by decide) (fun c6 => ?_) (fun c6 => ?_)
  · rw [b2i_f c6] at kk
    refine V_iconstv 1 dX5_cannotReport_32 (by decide) ?_
    refine V_ireturn dX5_cannotReport_33 rfl ?_
    exact kk
  · rw [b2i_t c6] at kk
    refine V_iload dX5_cannotReport_9 rfl ?_
    refine V_iconstv 0 dX5_cannotReport_11 (by decide) ?_
    refine V_sipushv 9999 dX5_cannotReport_12 (by decide) ?_
    refine V_callS kX5_in q2791 q2792 dX5_cannotReport_15 ?_ (d' := 0) (as := [_, _, _]) (hst := rfl)
    refine (tw_in ?_)
    refine V_if_eq 32 dX5_cannotReport_18 (by decide) (fun c18 => ?_) (fun c18 => ?_)
    · rw [b2i_f c18] at kk
      refine V_iconstv 1 dX5_cannotReport_32 (by decide) ?_
      refine V_ireturn dX5_cannotReport_33 rfl ?_
      exact kk
    · rw [b2i_t c18] at kk
      refine V_iload dX5_cannotReport_21 rfl ?_
      refine V_iconstv 1 dX5_cannotReport_23 (by decide) ?_
      refine V_bipushv 99 dX5_cannotReport_24 (by decide) ?_
      refine V_callS kX5_in q2791 q2792 dX5_cannotReport_26 ?_ (d' := 0) (as := [_, _, _]) (hst := rfl)
      refine (tw_in ?_)
      refine V_if_ne 34 dX5_cannotReport_29 (by decide) (fun c29 => ?_) (fun c29 => ?_)
      · rw [b2i_t c29] at kk
        refine V_aload_n dX5_cannotReport_34 rfl (Or.inl ⟨_, rfl⟩) ?_
        refine V_get ckX5 tw0 0 (by decide) q2699 rfl rfl dX5_cannotReport_35 ?_
        refine V_iconstv 1 dX5_cannotReport_38 (by decide) ?_
        refine tw_ld 1 (1) (by decide) (by decide) rfl (show _ < 136 from by omega) (by decide) dX5_cannotReport_39 ?_
        refine V_bipushv 6 dX5_cannotReport_40 (by decide) ?_
        rw [b3]
        refine V_icmp_ne 49 dX5_cannotReport_42 (by decide) (fun c42 => ?_) (fun c42 => ?_)
        · rw [show (true && true && true) = true from rfl, if_pos rfl, if_neg (fun e => c42 (by rw [e]; rfl))] at kk
          refine V_iconstv 0 dX5_cannotReport_49 (by decide) ?_
          refine V_ireturn dX5_cannotReport_50 rfl ?_
          exact kk
        · rw [show (true && true && true) = true from rfl, if_pos rfl, if_pos ((nI_eq (b := 6) (by omega) (by decide)).mp c42)] at kk
          refine V_iconstv 2 dX5_cannotReport_45 (by decide) ?_
          refine V_goto 50 dX5_cannotReport_46 (by decide) ?_
          refine V_ireturn dX5_cannotReport_50 rfl ?_
          exact kk
      · rw [b2i_f c29] at kk
        refine V_iconstv 1 dX5_cannotReport_32 (by decide) ?_
        refine V_ireturn dX5_cannotReport_33 rfl ?_
        exact kk
theorem tw_reports {r g b f w : Int32} (hm : g_B E ≤ m) (h : TwO (T.1 1) o) (hn : o.2.1.length < 6) (kk : ∀ F, TwO F (ofRep o (r, g, b) f w) → P (.returned (some (.int (o.2.2 3)))) (g_tG E G m (twA T 1 F))) : g_Spc l E mX5_reports 1 [.ref m, .int r, .int g, .int b, .int f, .int w] (g_tG E G m T) P := by
  have hh := h
  obtain ⟨h1, h2, h3, h4, h5, h6, h7⟩ := h
  have e2 : T.1 1 3 = o.2.2 3 := h5 3 (by decide) (by decide)
  have q0 : ∀ R, lay6 (T.1 1) (88 + 8 * o.2.1.length) R 1 = nI o.2.1.length := fun R => (lay6_ne (by omega)).trans h4
  have q2 : ∀ R, upd (lay6 (T.1 1) (88 + 8 * o.2.1.length) R) 1 (nI (o.2.1.length + 1)) 3 = o.2.2 3 := fun R => (if_neg (by decide)).trans ((lay6_ne (by omega)).trans e2)
  refine V_intro (plainFor_of_name plX5) (Nat.le_of_ble_eq_true rfl) ?_
  refine V_aload_n dX5_reports_0 rfl (Or.inl ⟨_, rfl⟩) ?_
  refine V_aload_n dX5_reports_1 rfl (Or.inl ⟨_, rfl⟩) ?_
  refine V_get ckX5 tw0 0 (by decide) q2699 rfl rfl dX5_reports_2 ?_
  refine V_iconstv 1 dX5_reports_5 (by decide) ?_
  refine tw_ld 1 (1) (by decide) (by decide) rfl (show _ < 136 from by omega) (by decide) dX5_reports_6 ?_
  rw [h4]
  refine V_callS kX5_reportRow q2825 q2826 dX5_reports_7 ?_ (d' := 0) (as := [_]) (hst := rfl)
  refine (tw_reportRow rfl ?_)
  refine V_aload_n dX5_reports_10 rfl (Or.inl ⟨_, rfl⟩) ?_
  refine V_get ckX5 tw0 0 (by decide) q2699 rfl rfl dX5_reports_11 ?_
  refine V_iconstv 3 dX5_reports_14 (by decide) ?_
  refine tw_ld 1 (3) (by decide) (by decide) rfl (show _ < 136 from by omega) (by decide) dX5_reports_15 ?_
  refine V_iload_n dX5_reports_16 rfl ?_
  refine V_iload_n dX5_reports_17 rfl ?_
  refine V_iload_n dX5_reports_18 rfl ?_
  refine V_iload dX5_reports_19 rfl ?_
  refine V_iload dX5_reports_21 rfl ?_
  rw [e2]
  refine V_callV (q := (RX5, TX5, 23)) kX5_lay q2805 q2807 qs51 tw0 rfl dX5_reports_23 ?_ (d' := 0) (as := [_, _, _, _, _, _, _]) (hst := rfl)
  refine (tw_lay (a := 88 + 8 * o.2.1.length) (r := (o.2.2 3, (r, g, b), f, w)) hm rfl (by omega) ?_)
  refine V_aload_n dX5_reports_26 rfl (Or.inl ⟨_, rfl⟩) ?_
  refine V_get ckX5 tw0 0 (by decide) q2699 rfl rfl dX5_reports_27 ?_
  refine V_iconstv 1 dX5_reports_30 (by decide) ?_
  refine V_dup2 dX5_reports_31 rfl rfl ?_
  refine tw_ld 1 (1) (by decide) (by decide) rfl (show _ < 136 from by omega) (by decide) dX5_reports_32 ?_
  rw [twA_at, q0]
  refine V_iconstv 1 dX5_reports_33 (by decide) ?_
  refine V_iadd dX5_reports_34 ?_
  rw [show nI o.2.1.length + 1 = nI (o.2.1.length + 1) from nI_1 _]
  refine tw_st 1 (1) hm (by decide) (by decide) rfl (show _ < 136 from by omega) (by decide) dX5_reports_35 ?_
  refine V_aload_n dX5_reports_36 rfl (Or.inl ⟨_, rfl⟩) ?_
  refine V_get ckX5 tw0 0 (by decide) q2699 rfl rfl dX5_reports_37 ?_
  refine V_iconstv 3 dX5_reports_40 (by decide) ?_
  refine V_dup2 dX5_reports_41 rfl rfl ?_
  refine tw_ld 1 (3) (by decide) (by decide) rfl (show _ < 136 from by omega) (by decide) dX5_reports_42 ?_
  rw [twA_at, twA_at, twA_twA, q2]
  refine V_iconstv 1 dX5_reports_43 (by decide) ?_
  refine V_iadd dX5_reports_44 ?_
  refine tw_st 1 (3) hm (by decide) (by decide) rfl (show _ < 136 from by omega) (by decide) dX5_reports_45 ?_
  refine V_aload_n dX5_reports_46 rfl (Or.inl ⟨_, rfl⟩) ?_
  refine V_get ckX5 tw0 0 (by decide) q2699 rfl rfl dX5_reports_47 ?_
  refine V_iconstv 3 dX5_reports_50 (by decide) ?_
  refine tw_ld 1 (3) (by decide) (by decide) rfl (show _ < 136 from by omega) (by decide) dX5_reports_51 ?_
  refine V_iconstv 1 dX5_reports_52 (by decide) ?_
  rw [twA_at, twA_twA, twA_at]
  rw [show upd (upd (lay6 (T.1 1) (88 + 8 * o.2.1.length) (o.2.2 3, (r, g, b), f, w)) 1 (nI (o.2.1.length + 1))) 3 (o.2.2 3 + 1) 3 = o.2.2 3 + 1 from if_pos rfl]
  refine V_isub dX5_reports_53 ?_
  rw [show o.2.2 3 + 1 - 1 = o.2.2 3 from Int32.add_sub_cancel _ _]
  refine V_ireturn dX5_reports_54 rfl ?_
  exact kk _ (hh.addR hn)
theorem tw_withdraws {id : Int32} {k : Nat} (hm : g_B E ≤ m) (h : TwO (T.1 1) o) (hk : plc id o.2.1 = some k) (kk : ∀ F, TwO F (ofWd o k) → P (.returned (some (.int (nI (ofWd o k).2.1.length)))) (g_tG E G m (twA T 1 F))) : g_Spc l E mX5_withdraws 3 [.ref m, .int id] (g_tG E G m T) P := by
  have hk1 := plc_lt hk
  refine V_intro (plainFor_of_name plX5) (Nat.le_of_ble_eq_true rfl) ?_
  refine V_aload_n dX5_withdraws_0 rfl (Or.inl ⟨_, rfl⟩) ?_
  refine V_aload_n dX5_withdraws_1 rfl (Or.inl ⟨_, rfl⟩) ?_
  refine V_iload_n dX5_withdraws_2 rfl ?_
  refine V_callV (q := (RX5, TX5, 23)) kX5_openReport q2832 q2834 qs55 tw0 rfl dX5_withdraws_3 ?_ (d' := 2) (as := [_]) (hst := rfl)
  refine (tw_openReport h ?_)
  rw [hk]
  refine V_callV (q := (RX5, TX5, 23)) kX5_removeReport q2844 q2846 qs58 tw0 rfl dX5_withdraws_6 ?_ (d' := 1) (as := [_]) (hst := rfl)
  refine (tw_removeReport (k := k) hm h rfl hk1 (fun F hF => ?_))
  refine V_aload_n dX5_withdraws_9 rfl (Or.inl ⟨_, rfl⟩) ?_
  refine V_get ckX5 tw0 0 (by decide) q2699 rfl rfl dX5_withdraws_10 ?_
  refine V_iconstv 1 dX5_withdraws_13 (by decide) ?_
  refine tw_ld 1 (1) (by decide) (by decide) rfl (show _ < 136 from by omega) (by decide) dX5_withdraws_14 ?_
  rw [twA_at, hF.2.2.2.1]
  refine V_ireturn dX5_withdraws_15 rfl ?_
  exact kk F hF
theorem tw_discards {id : Int32} {k : Nat} (hm : g_B E ≤ m) (h : TwO (T.1 1) o) (hk : plc id o.1 = some k) (kk : ∀ F, TwO F (ofDis o k) → P (.returned (some (.int (nI (ofDis o k).1.length)))) (g_tG E G m (twA T 1 F))) : g_Spc l E mX5_discards 3 [.ref m, .int id] (g_tG E G m T) P := by
  have hk1 := plc_lt hk
  refine V_intro (plainFor_of_name plX5) (Nat.le_of_ble_eq_true rfl) ?_
  refine V_aload_n dX5_discards_0 rfl (Or.inl ⟨_, rfl⟩) ?_
  refine V_aload_n dX5_discards_1 rfl (Or.inl ⟨_, rfl⟩) ?_
  refine V_iload_n dX5_discards_2 rfl ?_
  refine V_callV (q := (RX5, TX5, 23)) kX5_colour q2856 q2858 qs60 tw0 rfl dX5_discards_3 ?_ (d' := 2) (as := [_]) (hst := rfl)
  refine (tw_colour h ?_)
  rw [hk]
  refine V_callV (q := (RX5, TX5, 23)) kX5_removeColour q2868 q2870 qs63 tw0 rfl dX5_discards_6 ?_ (d' := 1) (as := [_]) (hst := rfl)
  refine (tw_removeColour (k := k) hm h rfl hk1 (fun F hF => ?_))
  refine V_aload_n dX5_discards_9 rfl (Or.inl ⟨_, rfl⟩) ?_
  refine V_get ckX5 tw0 0 (by decide) q2699 rfl rfl dX5_discards_10 ?_
  refine V_bipushv 6 dX5_discards_13 (by decide) ?_
  refine V_dup2 dX5_discards_15 rfl rfl ?_
  refine tw_ld 1 (6) (by decide) (by decide) rfl (show _ < 136 from by omega) (by decide) dX5_discards_16 ?_
  refine V_iconstv 1 dX5_discards_17 (by decide) ?_
  refine V_isub dX5_discards_18 ?_
  refine tw_st 1 (6) hm (by decide) (by decide) rfl (show _ < 136 from by omega) (by decide) dX5_discards_19 ?_
  refine V_aload_n dX5_discards_20 rfl (Or.inl ⟨_, rfl⟩) ?_
  refine V_get ckX5 tw0 0 (by decide) q2699 rfl rfl dX5_discards_21 ?_
  refine V_iconstv 0 dX5_discards_24 (by decide) ?_
  refine tw_ld 1 (0) (by decide) (by decide) rfl (show _ < 136 from by omega) (by decide) dX5_discards_25 ?_
  have hF1 := (TwO.num (j := 6) (v := F 6 - 1) hF (by decide) (by decide)).ghost (j := 9) (v := o.2.2 9 + 1) (by decide)
  have e6 : F 6 = o.2.2 6 := hF.2.2.2.2.1 6 (by decide) (by decide)
  rw [twA_at, twA_twA, twA_at, hF1.2.2.1]
  rw [e6] at hF1 ⊢
  refine V_ireturn dX5_discards_26 rfl ?_
  exact kk _ hF1
theorem tw_isMetric {c : Int32} (kk : P (.returned (some (.int (b2i (decide (c = 109 ∨ c = 115 ∨ c = 103)))))) G) : g_Spc l E mX5_isMetric 0 [.int c] G P := by
  refine V_intro (plainFor_of_name plX5) (Nat.le_of_ble_eq_true rfl) ?_
  refine V_iload_n dX5_isMetric_0 rfl ?_
  refine V_bipushv 109 dX5_isMetric_1 (by decide) ?_
  refine V_icmp_eq 18 dX5_isMetric_3 (by decide) (fun c3 => ?_) (fun c3 => ?_)
  · refine V_iconstv 1 dX5_isMetric_18 (by decide) ?_
    refine V_goto 23 dX5_isMetric_19 (by decide) ?_
    refine V_zreturn dX5_isMetric_23 rfl rfl ?_
    rw [decide_eq_true (Or.inl c3)] at kk
    exact kk
  · refine V_iload_n dX5_isMetric_6 rfl ?_
    refine V_bipushv 115 dX5_isMetric_7 (by decide) ?_
    refine V_icmp_eq 18 dX5_isMetric_9 (by decide) (fun c9 => ?_) (fun c9 => ?_)
    · refine V_iconstv 1 dX5_isMetric_18 (by decide) ?_
      refine V_goto 23 dX5_isMetric_19 (by decide) ?_
      refine V_zreturn dX5_isMetric_23 rfl rfl ?_
      rw [decide_eq_true (Or.inr (Or.inl c9))] at kk
      exact kk
    · refine V_iload_n dX5_isMetric_12 rfl ?_
      refine V_bipushv 103 dX5_isMetric_13 (by decide) ?_
      refine V_icmp_ne 22 dX5_isMetric_15 (by decide) (fun c15 => ?_) (fun c15 => ?_)
      · refine V_iconstv 0 dX5_isMetric_22 (by decide) ?_
        refine V_zreturn dX5_isMetric_23 rfl rfl ?_
        rw [decide_eq_false (fun h => h.elim c3 (fun h => h.elim c9 c15))] at kk
        exact kk
      · refine V_iconstv 1 dX5_isMetric_18 (by decide) ?_
        refine V_goto 23 dX5_isMetric_19 (by decide) ?_
        refine V_zreturn dX5_isMetric_23 rfl rfl ?_
        rw [decide_eq_true (Or.inr (Or.inr c15))] at kk
        exact kk
theorem tw_measures {c : Int32} (hm : g_B E ≤ m) (h : TwO (T.1 1) o) (kk : ∀ F, TwO F (ofMet o c) → P (.returned (some (.int (o.2.2 5)))) (g_tG E G m (twA T 1 F))) : g_Spc l E mX5_measures 0 [.ref m, .int c] (g_tG E G m T) P := by
  have e5 : T.1 1 5 = o.2.2 5 := h.2.2.2.2.1 5 (by decide) (by decide)
  refine V_intro (plainFor_of_name plX5) (Nat.le_of_ble_eq_true rfl) ?_
  refine V_aload_n dX5_measures_0 rfl (Or.inl ⟨_, rfl⟩) ?_
  refine V_get ckX5 tw0 0 (by decide) q2699 rfl rfl dX5_measures_1 ?_
  refine V_iconstv 5 dX5_measures_4 (by decide) ?_
  refine tw_ld 1 (5) (by decide) (by decide) rfl (show _ < 136 from by omega) (by decide) dX5_measures_5 ?_
  rw [e5]
  refine V_istore_n dX5_measures_6 (by decide) ?_
  refine V_aload_n dX5_measures_7 rfl (Or.inl ⟨_, rfl⟩) ?_
  refine V_get ckX5 tw0 0 (by decide) q2699 rfl rfl dX5_measures_8 ?_
  refine V_iconstv 5 dX5_measures_11 (by decide) ?_
  refine V_iload_n dX5_measures_12 rfl ?_
  refine tw_st 1 (5) hm (by decide) (by decide) rfl (show _ < 136 from by omega) (by decide) dX5_measures_13 ?_
  refine V_iload_n dX5_measures_14 rfl ?_
  refine V_ireturn dX5_measures_15 rfl ?_
  exact kk _ (h.num (by decide) (by decide))
theorem tw_cannotGive {x y : Int32} (h : TwO (T.1 1) o) (kk : P (.returned (some (.int (cgive o x y)))) (g_tG E G m T)) : g_Spc l E mX5_cannotGive 4 [.ref m, .int x, .int y] (g_tG E G m T) P := by
  have b1 := h.1
  have b2 := h.2.1
  refine V_intro (plainFor_of_name plX5) (Nat.le_of_ble_eq_true rfl) ?_
  refine V_aload_n dX5_cannotGive_0 rfl (Or.inl ⟨_, rfl⟩) ?_
  refine V_iload_n dX5_cannotGive_1 rfl ?_
  refine V_callV (q := (RX5, TX5, 23)) kX5_openReport q2832 q2834 qs55 tw0 rfl dX5_cannotGive_2 ?_ (d' := 2) (as := [_]) (hst := rfl)
  refine (tw_openReport h ?_)
  cases hk : plc x o.2.1 with
  | none =>
    refine V_if_lt 16 dX5_cannotGive_5 (by decide) (fun _ => ?_) (fun c5 => absurd (show plI none < 0 by decide) c5)
    refine V_iconstv 1 dX5_cannotGive_16 (by decide) ?_
    refine V_ireturn dX5_cannotGive_17 rfl ?_
    unfold cgive at kk
    rw [hk] at kk
    exact kk
  | some k =>
    have hk1 := plc_lt hk
    obtain ⟨r, hr, -⟩ := plc_some hk
    refine V_if_lt 16 dX5_cannotGive_5 (by decide) (fun c5 => absurd c5 (nI_pos (show k < 2 ^ 31 by omega))) (fun _ => ?_)
    refine V_aload_n dX5_cannotGive_8 rfl (Or.inl ⟨_, rfl⟩) ?_
    refine V_iload_n dX5_cannotGive_9 rfl ?_
    refine V_callV (q := (RX5, TX5, 23)) kX5_colour q2856 q2858 qs60 tw0 rfl dX5_cannotGive_10 ?_ (d' := 2) (as := [_]) (hst := rfl)
    refine (tw_colour h ?_)
    cases hj : plc y o.1 with
    | none =>
      refine V_if_ge 18 dX5_cannotGive_13 (by decide) (fun c13 => absurd c13 (show ¬ 0 ≤ plI none by decide)) (fun _ => ?_)
      refine V_iconstv 1 dX5_cannotGive_16 (by decide) ?_
      refine V_ireturn dX5_cannotGive_17 rfl ?_
      unfold cgive at kk
      rw [hk, hj] at kk
      exact kk
    | some j =>
      have hj1 := plc_lt hj
      obtain ⟨c, hc, -⟩ := plc_some hj
      refine V_if_ge 18 dX5_cannotGive_13 (by decide) (fun _ => ?_) (fun c13 => absurd (Int32.not_lt.mp (nI_pos (show j < 2 ^ 31 by omega))) c13)
      refine V_aload_n dX5_cannotGive_18 rfl (Or.inl ⟨_, rfl⟩) ?_
      refine V_iload_n dX5_cannotGive_19 rfl ?_
      refine V_callV (q := (RX5, TX5, 23)) kX5_openReport q2832 q2834 qs55 tw0 rfl dX5_cannotGive_20 ?_ (d' := 2) (as := [_]) (hst := rfl)
      refine (tw_openReport h ?_)
      rw [hk]
      refine V_istore_n dX5_cannotGive_23 (by decide) ?_
      refine V_aload_n dX5_cannotGive_24 rfl (Or.inl ⟨_, rfl⟩) ?_
      refine V_iload_n dX5_cannotGive_25 rfl ?_
      refine V_callS kX5_reportRow q2825 q2826 dX5_cannotGive_26 ?_ (d' := 0) (as := [_]) (hst := rfl)
      refine (tw_reportRow (k := k) rfl ?_)
      refine V_callV (q := (RX5, TX5, 23)) kX5_nearestTo q2891 q2893 qs66 tw0 rfl dX5_cannotGive_29 ?_ (d' := 2) (as := [_]) (hst := rfl)
      refine (tw_nearestTo (a := 88 + 8 * k) h rfl (by omega) ?_)
      refine V_aload_n dX5_cannotGive_32 rfl (Or.inl ⟨_, rfl⟩) ?_
      refine V_iload_n dX5_cannotGive_33 rfl ?_
      refine V_callV (q := (RX5, TX5, 23)) kX5_colour q2856 q2858 qs60 tw0 rfl dX5_cannotGive_34 ?_ (d' := 2) (as := [_]) (hst := rfl)
      refine (tw_colour h ?_)
      rw [h.tnR hr, hj]
      unfold cgive at kk
      rw [hk, hj] at kk
      dsimp only at kk
      rw [rwAt_of hr, rwAt_of hc] at kk
      refine V_icmp_ne 53 dX5_cannotGive_37 (by decide) (fun c37 => ?_) (fun c37 => ?_)
      · have e : ¬ (nst o r.2.1 = some j ∧ fitO o r c = true) := fun q => c37 (by rw [q.1])
        rw [if_neg e] at kk
        refine V_iconstv 2 dX5_cannotGive_53 (by decide) ?_
        refine V_goto 58 dX5_cannotGive_54 (by decide) ?_
        refine V_ireturn dX5_cannotGive_58 rfl ?_
        exact kk
      · have e1 := (plI_eq (fun i hi => by have := nst_lt hi; omega) (fun i hi => by cases hi; omega)).mp c37
        refine V_aload_n dX5_cannotGive_40 rfl (Or.inl ⟨_, rfl⟩) ?_
        refine V_iload_n dX5_cannotGive_41 rfl ?_
        refine V_aload_n dX5_cannotGive_42 rfl (Or.inl ⟨_, rfl⟩) ?_
        refine V_iload_n dX5_cannotGive_43 rfl ?_
        refine V_callV (q := (RX5, TX5, 23)) kX5_colour q2856 q2858 qs60 tw0 rfl dX5_cannotGive_44 ?_ (d' := 2) (as := [_]) (hst := rfl)
        refine (tw_colour h ?_)
        rw [hj]
        refine V_callV (q := (RX5, TX5, 23)) kX5_isFit q2902 q2904 qs68 tw0 rfl dX5_cannotGive_47 ?_ (d' := 3) (as := [_, _]) (hst := rfl)
        refine (tw_isFit (k := k) (j := j) h rfl rfl hr hc ?_)
        refine V_if_ne 57 dX5_cannotGive_50 (by decide) (fun c50 => ?_) (fun c50 => ?_)
        · rw [if_pos ⟨e1, b2i_t c50⟩] at kk
          refine V_iconstv 0 dX5_cannotGive_57 (by decide) ?_
          refine V_ireturn dX5_cannotGive_58 rfl ?_
          exact kk
        · rw [if_neg (fun q => by rw [b2i_f c50] at q; cases q.2)] at kk
          refine V_iconstv 2 dX5_cannotGive_53 (by decide) ?_
          refine V_goto 58 dX5_cannotGive_54 (by decide) ?_
          refine V_ireturn dX5_cannotGive_58 rfl ?_
          exact kk
theorem tw_gives {x y : Int32} {k j : Nat} (hm : g_B E ≤ m) (h : TwO (T.1 1) o) (hk : plc x o.2.1 = some k) (hj : plc y o.1 = some j) (kk : ∀ F, TwO F (ofGive o k j) → P (.returned (some (.int (rwAt o.2.1 k).2.2.2))) (g_tG E G m (twA T 1 F))) : g_Spc l E mX5_gives 3 [.ref m, .int x, .int y] (g_tG E G m T) P := by
  have hk1 := plc_lt hk
  have hj1 := plc_lt hj
  obtain ⟨r, hr, -⟩ := plc_some hk
  unfold ofGive at kk
  rw [rwAt_of hr] at kk
  refine V_intro (plainFor_of_name plX5) (Nat.le_of_ble_eq_true rfl) ?_
  refine V_aload_n dX5_gives_0 rfl (Or.inl ⟨_, rfl⟩) ?_
  refine V_iload_n dX5_gives_1 rfl ?_
  refine V_callV (q := (RX5, TX5, 23)) kX5_openReport q2832 q2834 qs55 tw0 rfl dX5_gives_2 ?_ (d' := 2) (as := [_]) (hst := rfl)
  refine (tw_openReport h ?_)
  rw [hk]
  refine V_istore_n dX5_gives_5 (by decide) ?_
  refine V_aload_n dX5_gives_6 rfl (Or.inl ⟨_, rfl⟩) ?_
  refine V_iload_n dX5_gives_7 rfl ?_
  refine V_iconstv 5 dX5_gives_8 (by decide) ?_
  refine V_callV (q := (RX5, TX5, 23)) kX5_r q2836 q2838 qs56 tw0 rfl dX5_gives_9 ?_ (d' := 1) (as := [_, _]) (hst := rfl)
  refine (tw_r (k := k) (j := 5) h rfl rfl hr (by decide) ?_)
  refine V_istore dX5_gives_12 (by decide) ?_
  refine V_aload_n dX5_gives_14 rfl (Or.inl ⟨_, rfl⟩) ?_
  refine V_iload_n dX5_gives_15 rfl ?_
  refine V_callV (q := (RX5, TX5, 23)) kX5_removeReport q2844 q2846 qs58 tw0 rfl dX5_gives_16 ?_ (d' := 1) (as := [_]) (hst := rfl)
  refine (tw_removeReport (k := k) hm h rfl hk1 (fun F hF => ?_))
  have hF0 : TwO ((twA T 1 F).1 1) (o.1, o.2.1.eraseIdx k, o.2.2) := by rw [twA_at]; exact hF
  refine V_aload_n dX5_gives_19 rfl (Or.inl ⟨_, rfl⟩) ?_
  refine V_aload_n dX5_gives_20 rfl (Or.inl ⟨_, rfl⟩) ?_
  refine V_iload_n dX5_gives_21 rfl ?_
  refine V_callV (q := (RX5, TX5, 23)) kX5_colour q2856 q2858 qs60 tw0 rfl dX5_gives_22 ?_ (d' := 2) (as := [_]) (hst := rfl)
  refine (tw_colour hF0 ?_)
  rw [hj]
  refine V_callV (q := (RX5, TX5, 23)) kX5_removeColour q2868 q2870 qs63 tw0 rfl dX5_gives_25 ?_ (d' := 1) (as := [_]) (hst := rfl)
  refine (tw_removeColour (k := j) hm hF0 rfl hj1 (fun F1 hF1 => ?_))
  rw [twA_twA]
  have e6 : F1 6 = o.2.2 6 := hF1.2.2.2.2.1 6 (by decide) (by decide)
  have e7 : F1 7 = o.2.2 7 := hF1.2.2.2.2.1 7 (by decide) (by decide)
  refine V_aload_n dX5_gives_28 rfl (Or.inl ⟨_, rfl⟩) ?_
  refine V_get ckX5 tw0 0 (by decide) q2699 rfl rfl dX5_gives_29 ?_
  refine V_bipushv 6 dX5_gives_32 (by decide) ?_
  refine V_dup2 dX5_gives_34 rfl rfl ?_
  refine tw_ld 1 (6) (by decide) (by decide) rfl (show _ < 136 from by omega) (by decide) dX5_gives_35 ?_
  refine V_iload dX5_gives_36 rfl ?_
  refine V_iadd dX5_gives_38 ?_
  refine tw_st 1 (6) hm (by decide) (by decide) rfl (show _ < 136 from by omega) (by decide) dX5_gives_39 ?_
  refine V_aload_n dX5_gives_40 rfl (Or.inl ⟨_, rfl⟩) ?_
  refine V_get ckX5 tw0 0 (by decide) q2699 rfl rfl dX5_gives_41 ?_
  refine V_bipushv 7 dX5_gives_44 (by decide) ?_
  refine V_dup2 dX5_gives_46 rfl rfl ?_
  refine tw_ld 1 (7) (by decide) (by decide) rfl (show _ < 136 from by omega) (by decide) dX5_gives_47 ?_
  refine V_iconstv 1 dX5_gives_48 (by decide) ?_
  refine V_iadd dX5_gives_49 ?_
  refine tw_st 1 (7) hm (by decide) (by decide) rfl (show _ < 136 from by omega) (by decide) dX5_gives_50 ?_
  refine V_iload dX5_gives_51 rfl ?_
  refine V_ireturn dX5_gives_53 rfl ?_
  have hF2 := ((hF1.num (j := 6) (v := F1 6 + r.2.2.2) (by decide) (by decide)).num (j := 7) (v := upd F1 6 (F1 6 + r.2.2.2) 7 + 1) (by decide) (by decide)).ghost (j := 8) (v := o.2.2 8 + r.2.2.2) (by decide)
  rw [show upd F1 6 (F1 6 + r.2.2.2) 7 = F1 7 from if_neg (by decide)] at hF2
  simp only [twA_at, twA_twA]
  rw [show upd F1 6 (F1 6 + rw_at r 5) 7 = F1 7 from if_neg (by decide)]
  refine kk _ ?_
  rw [← e6, ← e7]
  exact hF2
theorem tw_cannotMix {x y : Int32} (h : TwO (T.1 1) o) (kk : P (.returned (some (.int (cmix o x y)))) (g_tG E G m T)) : g_Spc l E mX5_cannotMix 3 [.ref m, .int x, .int y] (g_tG E G m T) P := by
  have b1 := h.1
  unfold cmix at kk
  refine V_intro (plainFor_of_name plX5) (Nat.le_of_ble_eq_true rfl) ?_
  refine V_aload_n dX5_cannotMix_0 rfl (Or.inl ⟨_, rfl⟩) ?_
  refine V_iload_n dX5_cannotMix_1 rfl ?_
  refine V_callV (q := (RX5, TX5, 23)) kX5_colour q2856 q2858 qs60 tw0 rfl dX5_cannotMix_2 ?_ (d' := 2) (as := [_]) (hst := rfl)
  refine (tw_colour h ?_)
  cases hk : plc x o.1 with
  | none =>
    refine V_if_lt 16 dX5_cannotMix_5 (by decide) (fun _ => ?_) (fun c5 => absurd (show plI none < 0 by decide) c5)
    refine V_iconstv 1 dX5_cannotMix_16 (by decide) ?_
    refine V_goto 30 dX5_cannotMix_17 (by decide) ?_
    refine V_ireturn dX5_cannotMix_30 rfl ?_
    rw [if_pos (Or.inl hk)] at kk
    exact kk
  | some k =>
    have hk1 := plc_lt hk
    refine V_if_lt 16 dX5_cannotMix_5 (by decide) (fun c5 => absurd c5 (nI_pos (show k < 2 ^ 31 by omega))) (fun _ => ?_)
    refine V_aload_n dX5_cannotMix_8 rfl (Or.inl ⟨_, rfl⟩) ?_
    refine V_iload_n dX5_cannotMix_9 rfl ?_
    refine V_callV (q := (RX5, TX5, 23)) kX5_colour q2856 q2858 qs60 tw0 rfl dX5_cannotMix_10 ?_ (d' := 2) (as := [_]) (hst := rfl)
    refine (tw_colour h ?_)
    cases hj : plc y o.1 with
    | none =>
      refine V_if_ge 20 dX5_cannotMix_13 (by decide) (fun c13 => absurd c13 (show ¬ 0 ≤ plI none by decide)) (fun _ => ?_)
      refine V_iconstv 1 dX5_cannotMix_16 (by decide) ?_
      refine V_goto 30 dX5_cannotMix_17 (by decide) ?_
      refine V_ireturn dX5_cannotMix_30 rfl ?_
      rw [if_pos (Or.inr hj)] at kk
      exact kk
    | some j =>
      have hj1 := plc_lt hj
      rw [if_neg (by rw [hk, hj]; exact fun q => q.elim (fun z => by cases z) (fun z => by cases z))] at kk
      refine V_if_ge 20 dX5_cannotMix_13 (by decide) (fun _ => ?_) (fun c13 => absurd (Int32.not_lt.mp (nI_pos (show j < 2 ^ 31 by omega))) c13)
      refine V_iload_n dX5_cannotMix_20 rfl ?_
      refine V_iload_n dX5_cannotMix_21 rfl ?_
      refine V_icmp_ne 29 dX5_cannotMix_22 (by decide) (fun c22 => ?_) (fun c22 => ?_)
      · refine V_iconstv 0 dX5_cannotMix_29 (by decide) ?_
        refine V_ireturn dX5_cannotMix_30 rfl ?_
        rw [if_neg c22] at kk
        exact kk
      · refine V_iconstv 2 dX5_cannotMix_25 (by decide) ?_
        refine V_goto 30 dX5_cannotMix_26 (by decide) ?_
        refine V_ireturn dX5_cannotMix_30 rfl ?_
        rw [if_pos c22] at kk
        exact kk
end TW4
