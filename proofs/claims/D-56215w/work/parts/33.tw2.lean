/-! REFERENCE 2: closing a gap, distances -/
set_option maxRecDepth 100000
theorem twA_twA {T : Tw} {a : Nat} {f g : Nat → Int32} : twA (twA T a f) a g = twA T a g := by
  refine Prod.ext (funext fun b => ?_) rfl
  show (if b = a then g else if b = a then f else T.1 b) = if b = a then g else T.1 b
  by_cases h : b = a
  · rw [if_pos h, if_pos h]
  · rw [if_neg h, if_neg h, if_neg h]
theorem twA_self {T : Tw} {a : Nat} : twA T a (T.1 a) = T := by
  refine Prod.ext (funext fun b => ?_) rfl
  show (if b = a then T.1 a else T.1 b) = T.1 b
  by_cases h : b = a
  · rw [if_pos h, h]
  · rw [if_neg h]
def shf (f : Nat → Int32) (lo i : Nat) : Nat → Int32 := fun q => if lo ≤ q ∧ q < i then f (q + 8) else f q
def zer (f : Nat → Int32) (b j : Nat) : Nat → Int32 := fun q => if b ≤ q ∧ q < b + j then 0 else f q
theorem shf_0 {f : Nat → Int32} {lo : Nat} : shf f lo lo = f := funext fun q => if_neg (by omega)
theorem shf_s {f : Nat → Int32} {lo i : Nat} (h : lo ≤ i) : upd (shf f lo i) i (shf f lo i (i + 8)) = shf f lo (i + 1) := by
  funext q
  show (if q = i then _ else _) = _
  by_cases e : q = i
  · rw [if_pos e]
    unfold shf
    rw [if_neg (by omega), if_pos (by omega), e]
  · rw [if_neg e]
    unfold shf
    by_cases h2 : lo ≤ q ∧ q < i
    · rw [if_pos h2, if_pos (by omega)]
    · rw [if_neg h2, if_neg (by omega)]
theorem zer_0 {f : Nat → Int32} {b : Nat} : zer f b 0 = f := funext fun q => if_neg (by omega)
theorem zer_s {f : Nat → Int32} {b j : Nat} : upd (zer f b j) (b + j) 0 = zer f b (j + 1) := by
  funext q
  show (if q = b + j then _ else _) = _
  by_cases e : q = b + j
  · rw [if_pos e]
    unfold zer
    rw [if_pos (by omega)]
  · rw [if_neg e]
    unfold zer
    by_cases h2 : b ≤ q ∧ q < b + j
    · rw [if_pos h2, if_pos (by omega)]
    · rw [if_neg h2, if_neg (by omega)]
section TW2
variable {l : Launch} {E : g_E} {P : Outcome → g_G → Prop} {G : g_G} {m : Nat} {T : Tw} {o : Of}
theorem tw_close {x y z : Int32} {a k n : Nat} (hm : g_B E ≤ m) (hx : x = nI a) (hy : y = nI k) (hz : z = nI n) (hk : k ≤ n) (hn : a + 8 * n + 8 ≤ 136) (kk : P (.returned none) (g_tG E G m (twA T 1 (zer (shf (T.1 1) (a + 8 * k) (a + 8 * n)) (a + 8 * n) 8)))) : g_Spc l E mX5_close 0 [.ref m, .int x, .int y, .int z] (g_tG E G m T) P := by
  subst hx hy hz
  have e8 : ∀ q : Nat, nI a + 8 * nI q = nI (a + 8 * q) := fun q => by rw [← nI_add, ← nI_mul]; rfl
  refine V_intro (plainFor_of_name plX5) (Nat.le_of_ble_eq_true rfl) ?_
  have loop2 : ∀ j, j ≤ 8 → V l E mX5_close 0 P 45 [(0, .ref m), (1, .int (nI a)), (2, .int (nI k)), (3, .int (nI n)), (4, .int (nI j))] [] (g_tG E G m (twA T 1 (zer (shf (T.1 1) (a + 8 * k) (a + 8 * n)) (a + 8 * n) j))) := by
    refine down 8 ?_ ?_
    · refine V_iload dX5_close_45 rfl ?_
      refine V_bipushv 8 dX5_close_47 (by decide) ?_
      refine V_icmp_ge 73 dX5_close_49 (by decide) (fun _ => ?_) (fun c49 => absurd (Int32.le_refl _) c49)
      refine V_return dX5_close_73 rfl ?_
      exact kk
    · intro j hj ih
      refine V_iload dX5_close_45 rfl ?_
      refine V_bipushv 8 dX5_close_47 (by decide) ?_
      refine V_icmp_ge 73 dX5_close_49 (by decide) (fun c49 => absurd c49 (nI_ge hj (by decide))) (fun _ => ?_)
      refine V_aload_n dX5_close_52 rfl (Or.inl ⟨_, rfl⟩) ?_
      refine V_get ckX5 tw0 0 (by decide) q2699 rfl rfl dX5_close_53 ?_
      refine V_iload_n dX5_close_56 rfl ?_
      refine V_bipushv 8 dX5_close_57 (by decide) ?_
      refine V_iload_n dX5_close_59 rfl ?_
      refine V_imul dX5_close_60 ?_
      refine V_iadd dX5_close_61 ?_
      refine V_iload dX5_close_62 rfl ?_
      refine V_iadd dX5_close_64 ?_
      refine V_iconstv 0 dX5_close_65 (by decide) ?_
      refine tw_st 1 (a + 8 * n + j) hm (by decide) (by decide) (by rw [e8, nI_add]) (show _ < 136 from by omega) (by decide) dX5_close_66 ?_
      rw [twA_at, twA_twA, zer_s]
      refine V_iinc dX5_close_67 rfl (by decide) ?_
      refine V_goto 45 dX5_close_70 (by decide) ?_
      refine V_sub (L' := [(0, .ref m), (1, .int (nI a)), (2, .int (nI k)), (3, .int (nI n)), (4, .int (nI j + Int32.ofInt 1))]) ⟨rfl, rfl, rfl, rfl, rfl, trivial⟩ ?_
      rw [show nI j + Int32.ofInt 1 = nI (j + 1) from nI_1 j]
      exact ih
  have loop : ∀ i, i ≤ a + 8 * n → a + 8 * k ≤ i → V l E mX5_close 0 P 8 [(0, .ref m), (1, .int (nI a)), (2, .int (nI k)), (3, .int (nI n)), (4, .int (nI i))] [] (g_tG E G m (twA T 1 (shf (T.1 1) (a + 8 * k) i))) := by
    refine down (a + 8 * n) ?_ ?_
    · intro _
      refine V_iload dX5_close_8 rfl ?_
      refine V_iload_n dX5_close_10 rfl ?_
      refine V_bipushv 8 dX5_close_11 (by decide) ?_
      refine V_iload_n dX5_close_13 rfl ?_
      refine V_imul dX5_close_14 ?_
      refine V_iadd dX5_close_15 ?_
      rw [e8]
      refine V_icmp_ge 42 dX5_close_16 (by decide) (fun _ => ?_) (fun c16 => absurd (Int32.le_refl _) c16)
      refine V_iconstv 0 dX5_close_42 (by decide) ?_
      refine V_istore dX5_close_43 (by decide) ?_
      refine V_sub (L' := [(0, .ref m), (1, .int (nI a)), (2, .int (nI k)), (3, .int (nI n)), (4, .int (nI 0))]) ⟨rfl, rfl, rfl, rfl, rfl, trivial⟩ ?_
      have := loop2 0 (by decide)
      rw [zer_0] at this
      exact this
    · intro i hi ih hlo
      refine V_iload dX5_close_8 rfl ?_
      refine V_iload_n dX5_close_10 rfl ?_
      refine V_bipushv 8 dX5_close_11 (by decide) ?_
      refine V_iload_n dX5_close_13 rfl ?_
      refine V_imul dX5_close_14 ?_
      refine V_iadd dX5_close_15 ?_
      rw [e8]
      refine V_icmp_ge 42 dX5_close_16 (by decide) (fun c16 => absurd c16 (nI_ge hi (by omega))) (fun _ => ?_)
      refine V_aload_n dX5_close_19 rfl (Or.inl ⟨_, rfl⟩) ?_
      refine V_get ckX5 tw0 0 (by decide) q2699 rfl rfl dX5_close_20 ?_
      refine V_iload dX5_close_23 rfl ?_
      refine V_aload_n dX5_close_25 rfl (Or.inl ⟨_, rfl⟩) ?_
      refine V_get ckX5 tw0 0 (by decide) q2699 rfl rfl dX5_close_26 ?_
      refine V_iload dX5_close_29 rfl ?_
      refine V_bipushv 8 dX5_close_31 (by decide) ?_
      refine V_iadd dX5_close_33 ?_
      refine tw_ld 1 (i + 8) (by decide) (by decide) (nI_add i 8) (show _ < 136 from by omega) (by decide) dX5_close_34 ?_
      refine tw_st 1 (i) hm (by decide) (by decide) rfl (show _ < 136 from by omega) (by decide) dX5_close_35 ?_
      rw [twA_at, twA_twA, shf_s hlo]
      refine V_iinc dX5_close_36 rfl (by decide) ?_
      refine V_goto 8 dX5_close_39 (by decide) ?_
      refine V_sub (L' := [(0, .ref m), (1, .int (nI a)), (2, .int (nI k)), (3, .int (nI n)), (4, .int (nI i + Int32.ofInt 1))]) ⟨rfl, rfl, rfl, rfl, rfl, trivial⟩ ?_
      rw [show nI i + Int32.ofInt 1 = nI (i + 1) from nI_1 i]
      exact ih (by omega)
  refine V_iload_n dX5_close_0 rfl ?_
  refine V_bipushv 8 dX5_close_1 (by decide) ?_
  refine V_iload_n dX5_close_3 rfl ?_
  refine V_imul dX5_close_4 ?_
  refine V_iadd dX5_close_5 ?_
  rw [e8]
  refine V_istore dX5_close_6 (by decide) ?_
  refine V_sub (L' := [(0, .ref m), (1, .int (nI a)), (2, .int (nI k)), (3, .int (nI n)), (4, .int (nI (a + 8 * k)))]) ⟨rfl, rfl, rfl, rfl, rfl, trivial⟩ ?_
  have := loop (a + 8 * k) (by omega) (Nat.le_refl _)
  rw [shf_0, twA_self] at this
  exact this
theorem tw_removeColour {x : Int32} {k : Nat} (hm : g_B E ≤ m) (h : TwO (T.1 1) o) (hx : x = nI k) (hk : k < o.1.length) (kk : ∀ f, TwO f (o.1.eraseIdx k, o.2) → P (.returned none) (g_tG E G m (twA T 1 f))) : g_Spc l E mX5_removeColour 1 [.ref m, .int x] (g_tG E G m T) P := by
  obtain ⟨h1, h2, h3, h4, h5, h6, h7⟩ := h
  obtain ⟨n, hn⟩ : ∃ n, o.1.length = n + 1 := ⟨o.1.length - 1, by omega⟩
  refine V_intro (plainFor_of_name plX5) (Nat.le_of_ble_eq_true rfl) ?_
  refine V_aload_n dX5_removeColour_0 rfl (Or.inl ⟨_, rfl⟩) ?_
  refine V_get ckX5 tw0 0 (by decide) q2699 rfl rfl dX5_removeColour_1 ?_
  refine V_iconstv 0 dX5_removeColour_4 (by decide) ?_
  refine V_dup2 dX5_removeColour_5 rfl rfl ?_
  refine tw_ld 1 (0) (by decide) (by decide) rfl (show _ < 136 from by omega) (by decide) dX5_removeColour_6 ?_
  refine V_iconstv 1 dX5_removeColour_7 (by decide) ?_
  refine V_isub dX5_removeColour_8 ?_
  rw [h3, hn, show nI (n + 1) - 1 = nI n from nI_pred n]
  refine tw_st 1 (0) hm (by decide) (by decide) rfl (show _ < 136 from by omega) (by decide) dX5_removeColour_9 ?_
  refine V_aload_n dX5_removeColour_10 rfl (Or.inl ⟨_, rfl⟩) ?_
  refine V_bipushv 8 dX5_removeColour_11 (by decide) ?_
  refine V_iload_n dX5_removeColour_13 rfl ?_
  refine V_aload_n dX5_removeColour_14 rfl (Or.inl ⟨_, rfl⟩) ?_
  refine V_get ckX5 tw0 0 (by decide) q2699 rfl rfl dX5_removeColour_15 ?_
  refine V_iconstv 0 dX5_removeColour_18 (by decide) ?_
  refine tw_ld 1 (0) (by decide) (by decide) rfl (show _ < 136 from by omega) (by decide) dX5_removeColour_19 ?_
  refine V_callV (q := (RX5, TX5, 23)) kX5_close q2848 q2850 qs59 tw0 rfl dX5_removeColour_20 ?_ (d' := 0) (as := [_, _, _]) (hst := rfl)
  refine (tw_close (a := 8) (k := k) (n := n) hm rfl hx (by rw [twA_at]; rfl) (by omega) (by omega) ?_)
  refine V_return dX5_removeColour_23 rfl ?_
  rw [twA_twA, twA_at]
  refine kk _ ⟨?_, h2, ?_, ?_, ?_, ?_, ?_⟩
  · show (o.1.eraseIdx k).length ≤ 10
    rw [List.length_eraseIdx_of_lt hk]; omega
  · show zer (shf (upd (T.1 1) 0 (nI n)) (8 + 8 * k) (8 + 8 * n)) (8 + 8 * n) 8 0 = nI (o.1.eraseIdx k).length
    rw [List.length_eraseIdx_of_lt hk, hn]
    unfold zer shf
    rw [if_neg (by omega), if_neg (by omega)]
    exact if_pos rfl
  · unfold zer shf
    rw [if_neg (by omega), if_neg (by omega)]
    exact (if_neg (by omega)).trans h4
  · intro j j2 j7
    unfold zer shf
    rw [if_neg (by omega), if_neg (by omega)]
    exact (if_neg (by omega)).trans (h5 j j2 j7)
  · intro q r hq j hj
    have hq9 : (o.1.eraseIdx k)[q]? = some r := hq
    have hql := lt_of_at hq9
    rw [List.length_eraseIdx_of_lt hk] at hql
    rw [List.getElem?_eraseIdx] at hq9
    unfold zer shf
    rw [if_neg (by omega)]
    by_cases e : q < k
    · rw [if_pos e] at hq9
      rw [if_neg (by omega)]
      exact (if_neg (by omega)).trans (h6 q r hq9 j hj)
    · rw [if_neg e] at hq9
      rw [if_pos (by omega)]
      refine (if_neg (by omega)).trans ?_
      rw [← h6 (q + 1) r hq9 j hj]
      exact congrArg (T.1 1) (by omega)
  · intro q r hq j hj
    unfold zer shf
    rw [if_neg (by omega), if_neg (by omega)]
    exact (if_neg (by omega)).trans (h7 q r hq j hj)
theorem tw_removeReport {x : Int32} {k : Nat} (hm : g_B E ≤ m) (h : TwO (T.1 1) o) (hx : x = nI k) (hk : k < o.2.1.length) (kk : ∀ f, TwO f (o.1, o.2.1.eraseIdx k, o.2.2) → P (.returned none) (g_tG E G m (twA T 1 f))) : g_Spc l E mX5_removeReport 1 [.ref m, .int x] (g_tG E G m T) P := by
  obtain ⟨h1, h2, h3, h4, h5, h6, h7⟩ := h
  obtain ⟨n, hn⟩ : ∃ n, o.2.1.length = n + 1 := ⟨o.2.1.length - 1, by omega⟩
  refine V_intro (plainFor_of_name plX5) (Nat.le_of_ble_eq_true rfl) ?_
  refine V_aload_n dX5_removeReport_0 rfl (Or.inl ⟨_, rfl⟩) ?_
  refine V_get ckX5 tw0 0 (by decide) q2699 rfl rfl dX5_removeReport_1 ?_
  refine V_iconstv 1 dX5_removeReport_4 (by decide) ?_
  refine V_dup2 dX5_removeReport_5 rfl rfl ?_
  refine tw_ld 1 (1) (by decide) (by decide) rfl (show _ < 136 from by omega) (by decide) dX5_removeReport_6 ?_
  refine V_iconstv 1 dX5_removeReport_7 (by decide) ?_
  refine V_isub dX5_removeReport_8 ?_
  rw [h4, hn, show nI (n + 1) - 1 = nI n from nI_pred n]
  refine tw_st 1 (1) hm (by decide) (by decide) rfl (show _ < 136 from by omega) (by decide) dX5_removeReport_9 ?_
  refine V_aload_n dX5_removeReport_10 rfl (Or.inl ⟨_, rfl⟩) ?_
  refine V_bipushv 88 dX5_removeReport_11 (by decide) ?_
  refine V_iload_n dX5_removeReport_13 rfl ?_
  refine V_aload_n dX5_removeReport_14 rfl (Or.inl ⟨_, rfl⟩) ?_
  refine V_get ckX5 tw0 0 (by decide) q2699 rfl rfl dX5_removeReport_15 ?_
  refine V_iconstv 1 dX5_removeReport_18 (by decide) ?_
  refine tw_ld 1 (1) (by decide) (by decide) rfl (show _ < 136 from by omega) (by decide) dX5_removeReport_19 ?_
  refine V_callV (q := (RX5, TX5, 23)) kX5_close q2848 q2850 qs59 tw0 rfl dX5_removeReport_20 ?_ (d' := 0) (as := [_, _, _]) (hst := rfl)
  refine (tw_close (a := 88) (k := k) (n := n) hm rfl hx (by rw [twA_at]; rfl) (by omega) (by omega) ?_)
  refine V_return dX5_removeReport_23 rfl ?_
  rw [twA_twA, twA_at]
  refine kk _ ⟨h1, ?_, ?_, ?_, ?_, ?_, ?_⟩
  · show (o.2.1.eraseIdx k).length ≤ 6
    rw [List.length_eraseIdx_of_lt hk]; omega
  · unfold zer shf
    rw [if_neg (by omega), if_neg (by omega)]
    exact (if_neg (by omega)).trans h3
  · show zer (shf (upd (T.1 1) 1 (nI n)) (88 + 8 * k) (88 + 8 * n)) (88 + 8 * n) 8 1 = nI (o.2.1.eraseIdx k).length
    rw [List.length_eraseIdx_of_lt hk, hn]
    unfold zer shf
    rw [if_neg (by omega), if_neg (by omega)]
    exact if_pos rfl
  · intro j j2 j7
    unfold zer shf
    rw [if_neg (by omega), if_neg (by omega)]
    exact (if_neg (by omega)).trans (h5 j j2 j7)
  · intro q r hq j hj
    have hql := lt_of_at hq
    have hq9 : q < o.1.length := hql
    unfold zer shf
    rw [if_neg (by omega), if_neg (by omega)]
    exact (if_neg (by omega)).trans (h6 q r hq j hj)
  · intro q r hq j hj
    have hq9 : (o.2.1.eraseIdx k)[q]? = some r := hq
    have hql := lt_of_at hq9
    rw [List.length_eraseIdx_of_lt hk] at hql
    rw [List.getElem?_eraseIdx] at hq9
    unfold zer shf
    rw [if_neg (by omega)]
    by_cases e : q < k
    · rw [if_pos e] at hq9
      rw [if_neg (by omega)]
      exact (if_neg (by omega)).trans (h7 q r hq9 j hj)
    · rw [if_neg e] at hq9
      rw [if_pos (by omega)]
      refine (if_neg (by omega)).trans ?_
      rw [← h7 (q + 1) r hq9 j hj]
      exact congrArg (T.1 1) (by omega)
def tnA (f : Nat → Int32) (a : Nat) : Tn := (f (a + 1), f (a + 2), f (a + 3))
theorem tw_most {x y z : Int32} : (if z < (if y < x then x else y) then (if y < x then x else y) else z) = i_max x (i_max y z) := by
  unfold i_max
  by_cases h : y < x
  · simp only [if_pos h]
    by_cases h2 : z < x
    · rw [if_pos h2]
      by_cases h3 : y < z
      · rw [if_pos h3, if_neg (Int32.not_lt.mpr (Int32.le_of_lt h2))]
      · rw [if_neg h3, if_neg (Int32.not_lt.mpr (Int32.le_of_lt h))]
    · rw [if_neg h2]
      have h4 : x ≤ z := Int32.not_lt.mp h2
      have h5 : y < z := Int32.lt_of_lt_of_le h h4
      rw [if_pos h5]
      by_cases h6 : x < z
      · rw [if_pos h6]
      · rw [if_neg h6]
        exact Int32.le_antisymm (Int32.not_lt.mp h6) h4
  · simp only [if_neg h]
    have h7 : x ≤ y := Int32.not_lt.mp h
    by_cases h2 : z < y
    · rw [if_pos h2, if_neg (Int32.not_lt.mpr (Int32.le_of_lt h2))]
      by_cases h3 : x < y
      · rw [if_pos h3]
      · rw [if_neg h3]
        exact Int32.le_antisymm (Int32.not_lt.mp h3) h7
    · rw [if_neg h2]
      have h4 : y ≤ z := Int32.not_lt.mp h2
      have e : (if y < z then z else y) = z := by
        by_cases h5 : y < z
        · rw [if_pos h5]
        · rw [if_neg h5]
          exact Int32.le_antisymm h4 (Int32.not_lt.mp h5)
      rw [e]
      by_cases h3 : x < z
      · rw [if_pos h3]
      · rw [if_neg h3]
        exact Int32.le_antisymm (Int32.not_lt.mp h3) (Int32.le_trans h7 h4)
theorem tw_apart {x y : Int32} {a b : Nat} (hx : x = nI a) (hy : y = nI b) (ha : a + 8 ≤ 136) (hb : b + 8 ≤ 136) (kk : P (.returned (some (.int (dst (mt_k (T.1 1 5)) (tnA (T.1 1) a) (tnA (T.1 1) b))))) (g_tG E G m T)) : g_Spc l E mX5_apart 1 [.ref m, .int x, .int y] (g_tG E G m T) P := by
  subst hx hy
  refine V_intro (plainFor_of_name plX5) (Nat.le_of_ble_eq_true rfl) ?_
  refine V_aload_n dX5_apart_0 rfl (Or.inl ⟨_, rfl⟩) ?_
  refine V_get ckX5 tw0 0 (by decide) q2699 rfl rfl dX5_apart_1 ?_
  refine V_iload_n dX5_apart_4 rfl ?_
  refine V_iconstv 1 dX5_apart_5 (by decide) ?_
  refine V_iadd dX5_apart_6 ?_
  refine tw_ld 1 (a + 1) (by decide) (by decide) (nI_add a 1) (show _ < 136 from by omega) (by decide) dX5_apart_7 ?_
  refine V_aload_n dX5_apart_8 rfl (Or.inl ⟨_, rfl⟩) ?_
  refine V_get ckX5 tw0 0 (by decide) q2699 rfl rfl dX5_apart_9 ?_
  refine V_iload_n dX5_apart_12 rfl ?_
  refine V_iconstv 1 dX5_apart_13 (by decide) ?_
  refine V_iadd dX5_apart_14 ?_
  refine tw_ld 1 (b + 1) (by decide) (by decide) (nI_add b 1) (show _ < 136 from by omega) (by decide) dX5_apart_15 ?_
  refine V_isub dX5_apart_16 ?_
  refine V_callS kX5_size q2899 q2900 dX5_apart_17 ?_ (d' := 0) (as := [_]) (hst := rfl)
  refine (tw_size ?_)
  refine V_istore_n dX5_apart_20 (by decide) ?_
  refine V_aload_n dX5_apart_21 rfl (Or.inl ⟨_, rfl⟩) ?_
  refine V_get ckX5 tw0 0 (by decide) q2699 rfl rfl dX5_apart_22 ?_
  refine V_iload_n dX5_apart_25 rfl ?_
  refine V_iconstv 2 dX5_apart_26 (by decide) ?_
  refine V_iadd dX5_apart_27 ?_
  refine tw_ld 1 (a + 2) (by decide) (by decide) (nI_add a 2) (show _ < 136 from by omega) (by decide) dX5_apart_28 ?_
  refine V_aload_n dX5_apart_29 rfl (Or.inl ⟨_, rfl⟩) ?_
  refine V_get ckX5 tw0 0 (by decide) q2699 rfl rfl dX5_apart_30 ?_
  refine V_iload_n dX5_apart_33 rfl ?_
  refine V_iconstv 2 dX5_apart_34 (by decide) ?_
  refine V_iadd dX5_apart_35 ?_
  refine tw_ld 1 (b + 2) (by decide) (by decide) (nI_add b 2) (show _ < 136 from by omega) (by decide) dX5_apart_36 ?_
  refine V_isub dX5_apart_37 ?_
  refine V_callS kX5_size q2899 q2900 dX5_apart_38 ?_ (d' := 0) (as := [_]) (hst := rfl)
  refine (tw_size ?_)
  refine V_istore dX5_apart_41 (by decide) ?_
  refine V_aload_n dX5_apart_43 rfl (Or.inl ⟨_, rfl⟩) ?_
  refine V_get ckX5 tw0 0 (by decide) q2699 rfl rfl dX5_apart_44 ?_
  refine V_iload_n dX5_apart_47 rfl ?_
  refine V_iconstv 3 dX5_apart_48 (by decide) ?_
  refine V_iadd dX5_apart_49 ?_
  refine tw_ld 1 (a + 3) (by decide) (by decide) (nI_add a 3) (show _ < 136 from by omega) (by decide) dX5_apart_50 ?_
  refine V_aload_n dX5_apart_51 rfl (Or.inl ⟨_, rfl⟩) ?_
  refine V_get ckX5 tw0 0 (by decide) q2699 rfl rfl dX5_apart_52 ?_
  refine V_iload_n dX5_apart_55 rfl ?_
  refine V_iconstv 3 dX5_apart_56 (by decide) ?_
  refine V_iadd dX5_apart_57 ?_
  refine tw_ld 1 (b + 3) (by decide) (by decide) (nI_add b 3) (show _ < 136 from by omega) (by decide) dX5_apart_58 ?_
  refine V_isub dX5_apart_59 ?_
  refine V_callS kX5_size q2899 q2900 dX5_apart_60 ?_ (d' := 0) (as := [_]) (hst := rfl)
  refine (tw_size ?_)
  refine V_istore dX5_apart_63 (by decide) ?_
  refine V_aload_n dX5_apart_65 rfl (Or.inl ⟨_, rfl⟩) ?_
  refine V_get ckX5 tw0 0 (by decide) q2699 rfl rfl dX5_apart_66 ?_
  refine V_iconstv 5 dX5_apart_69 (by decide) ?_
  refine tw_ld 1 (5) (by decide) (by decide) rfl (show _ < 136 from by omega) (by decide) dX5_apart_70 ?_
  refine V_bipushv 109 dX5_apart_71 (by decide) ?_
  unfold dst comb tnA mt_k at kk
  generalize i_abs (T.1 1 (a + 1) - T.1 1 (b + 1)) = u at kk ⊢
  generalize i_abs (T.1 1 (a + 2) - T.1 1 (b + 2)) = v at kk ⊢
  generalize i_abs (T.1 1 (a + 3) - T.1 1 (b + 3)) = w at kk ⊢
  refine V_icmp_ne 84 dX5_apart_73 (by decide) (fun c73 => ?_) (fun c73 => ?_)
  · refine V_aload_n dX5_apart_84 rfl (Or.inl ⟨_, rfl⟩) ?_
    refine V_get ckX5 tw0 0 (by decide) q2699 rfl rfl dX5_apart_85 ?_
    refine V_iconstv 5 dX5_apart_88 (by decide) ?_
    refine tw_ld 1 (5) (by decide) (by decide) rfl (show _ < 136 from by omega) (by decide) dX5_apart_89 ?_
    refine V_bipushv 115 dX5_apart_90 (by decide) ?_
    refine V_icmp_ne 111 dX5_apart_92 (by decide) (fun c92 => ?_) (fun c92 => ?_)
    · rw [if_neg c73, if_neg c92, if_neg (by decide), if_neg (by decide), ← tw_most] at kk
      refine V_iload_n dX5_apart_111 rfl ?_
      refine V_iload dX5_apart_112 rfl ?_
      refine V_icmp_le 121 dX5_apart_114 (by decide) (fun c114 => ?_) (fun c114 => ?_)
      · refine V_iload dX5_apart_121 rfl ?_
        refine V_istore dX5_apart_123 (by decide) ?_
        refine V_iload dX5_apart_125 rfl ?_
        refine V_iload dX5_apart_127 rfl ?_
        rw [if_neg (Int32.not_lt.mpr c114)] at kk
        refine V_icmp_le 137 dX5_apart_129 (by decide) (fun c129 => ?_) (fun c129 => ?_)
        · refine V_iload dX5_apart_137 rfl ?_
          refine V_ireturn dX5_apart_139 rfl ?_
          rw [if_neg (Int32.not_lt.mpr c129)] at kk
          exact kk
        · refine V_iload dX5_apart_132 rfl ?_
          refine V_goto 139 dX5_apart_134 (by decide) ?_
          refine V_ireturn dX5_apart_139 rfl ?_
          rw [if_pos (Int32.not_le.mp c129)] at kk
          exact kk
      · refine V_iload_n dX5_apart_117 rfl ?_
        refine V_goto 123 dX5_apart_118 (by decide) ?_
        refine V_istore dX5_apart_123 (by decide) ?_
        refine V_iload dX5_apart_125 rfl ?_
        refine V_iload dX5_apart_127 rfl ?_
        rw [if_pos (Int32.not_le.mp c114)] at kk
        refine V_icmp_le 137 dX5_apart_129 (by decide) (fun c129 => ?_) (fun c129 => ?_)
        · refine V_iload dX5_apart_137 rfl ?_
          refine V_ireturn dX5_apart_139 rfl ?_
          rw [if_neg (Int32.not_lt.mpr c129)] at kk
          exact kk
        · refine V_iload dX5_apart_132 rfl ?_
          refine V_goto 139 dX5_apart_134 (by decide) ?_
          refine V_ireturn dX5_apart_139 rfl ?_
          rw [if_pos (Int32.not_le.mp c129)] at kk
          exact kk
    · rw [if_neg c73, if_pos c92, if_neg (by decide), if_pos rfl] at kk
      refine V_iload_n dX5_apart_95 rfl ?_
      refine V_iload_n dX5_apart_96 rfl ?_
      refine V_imul dX5_apart_97 ?_
      refine V_iload dX5_apart_98 rfl ?_
      refine V_iload dX5_apart_100 rfl ?_
      refine V_imul dX5_apart_102 ?_
      refine V_iadd dX5_apart_103 ?_
      refine V_iload dX5_apart_104 rfl ?_
      refine V_iload dX5_apart_106 rfl ?_
      refine V_imul dX5_apart_108 ?_
      refine V_iadd dX5_apart_109 ?_
      refine V_ireturn dX5_apart_110 rfl ?_
      exact kk
  · rw [if_pos c73, if_pos rfl] at kk
    refine V_iload_n dX5_apart_76 rfl ?_
    refine V_iload dX5_apart_77 rfl ?_
    refine V_iadd dX5_apart_79 ?_
    refine V_iload dX5_apart_80 rfl ?_
    refine V_iadd dX5_apart_82 ?_
    refine V_ireturn dX5_apart_83 rfl ?_
    exact kk
end TW2
