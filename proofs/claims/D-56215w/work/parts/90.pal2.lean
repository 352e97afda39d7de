/-! MODULE Palettes: search, making -/
set_option maxRecDepth 100000
theorem g_up_same {G : g_G} {a : Nat} {x : va_E} (h : G.1 a = some x) : g_up G a x = G := by
  refine Prod.ext ?_ rfl
  funext q
  show va_up G.1 a (some x) q = G.1 q
  by_cases e : q = a
  · subst e; rw [va_up_self, h]
  · rw [va_up_ne _ _ e]
section PAL2
variable {l : Launch} {E : g_E} {P : Outcome → g_G → Prop} {G : g_G}
theorem pl_bound {p nx ch : Nat} {e : Int32} {o : Of} (h : PalAt E G p o e) (hC : o.1.length ≤ 10) (hnx : nx ≤ o.1.length) (hch : ch < 2 ^ o.1.length) (kk : P (.returned (some (.int (errC o (ch ||| (2 ^ o.1.length - 2 ^ nx)))))) G) : g_Spc l E mX17_bound 3 [.ref p, .int (nI nx), .int (nI ch)] G P := by
  have h0 := h
  obtain ⟨da, df, h1, h2, h3⟩ := h
  have p10 := sb_p10 hC
  have hp2 : 2 ^ nx ≤ 2 ^ o.1.length := Nat.pow_le_pow_right (by decide) hnx
  have hp1 : 0 < 2 ^ nx := Nat.pow_pos (by decide)
  have hlt : ch ||| (2 ^ o.1.length - 2 ^ nx) < 2 ^ o.1.length := Nat.or_lt_two_pow hch (by omega)
  refine V_intro (plainFor_of_name plX17) (Nat.le_of_ble_eq_true rfl) ?_
  refine V_iload_n dX17_bound_0 rfl ?_
  refine V_iconstv 1 dX17_bound_1 (by decide) ?_
  refine V_aload_n dX17_bound_2 rfl (Or.inl ⟨_, rfl⟩) ?_
  refine V_get ckX17 (by first | assumption | (repeat (first | exact g_up_at | exact g_new_at rfl | assumption | refine g_up_of (by first | assumption | (simp only [g_new, g_up]; omega) | omega) ?_ | refine g_new_of (by first | assumption | (simp only [g_new, g_up]; omega) | omega) ?_))) 0 (by decide) q1678 rfl (by rfl) dX17_bound_3 ?_
  refine V_ishl dX17_bound_6 ?_
  rw [sb_shl o.1.length (by omega)]
  refine V_iconstv 1 dX17_bound_7 (by decide) ?_
  refine V_iload_n dX17_bound_8 rfl ?_
  refine V_ishl dX17_bound_9 ?_
  rw [sb_shl nx (by omega)]
  refine V_isub dX17_bound_10 ?_
  rw [pk_sub hp2]
  refine V_ior dX17_bound_11 ?_
  rw [nx_or]
  refine V_istore_n dX17_bound_12 (by decide) ?_
  refine V_aload_n dX17_bound_13 rfl (Or.inl ⟨_, rfl⟩) ?_
  refine V_iload_n dX17_bound_14 rfl ?_
  refine V_callV (q := (RX17, TX17, 3)) kX17_error q1695 q1696 q1697 (by first | assumption | (repeat (first | exact g_up_at | exact g_new_at rfl | assumption | refine g_up_of (by first | assumption | (simp only [g_new, g_up]; omega) | omega) ?_ | refine g_new_of (by first | assumption | (simp only [g_new, g_up]; omega) | omega) ?_))) rfl dX17_bound_15 ?_ (d' := 2) (as := [_]) (hst := rfl)
  refine (pl_error h0 hC rfl (by omega) ?_)
  refine V_ireturn dX17_bound_18 rfl ?_
  exact kk
theorem pl_search {p da : Nat} {df : Nat → Int32} {o : Of} (hC : o.1.length ≤ 10) (hB : g_B E ≤ p) (hdf : ∀ (i j : Nat) (c x : Rw), o.1[i]? = some c → o.1[j]? = some x → df (o.1.length * i + j) = dO o c.2.1 x) : ∀ (f nx ch m : Nat) (e : Int32) (G : g_G) (P : Outcome → g_G → Prop), nx + f = o.1.length → ch < 2 ^ o.1.length → m ≤ 100 → G.1 p = some (g_ob 15 [.int (nI o.1.length), .ref da, .int e]) → G.1 da = some (g_ai E (o.1.length * o.1.length) df) → P (.returned none) (g_up G p (g_ob 15 [.int (nI o.1.length), .ref da, .int (srF o f nx ch m e)])) → g_Spc l E mX17_search (f + 4) [.ref p, .int (nI nx), .int (nI ch), .int (nI m)] G P := by
  have p10 := sb_p10 hC
  have zero : ∀ (f nx ch : Nat) (e : Int32) (G : g_G) (P : Outcome → g_G → Prop), ch < 2 ^ o.1.length → G.1 p = some (g_ob 15 [.int (nI o.1.length), .ref da, .int e]) → G.1 da = some (g_ai E (o.1.length * o.1.length) df) → P (.returned none) (g_up G p (g_ob 15 [.int (nI o.1.length), .ref da, .int (srF o f nx ch 0 e)])) → g_Spc l E mX17_search (f + 4) [.ref p, .int (nI nx), .int (nI ch), .int (nI 0)] G P := by
    intro f nx ch e G P hch hp hd kk
    rw [srF_0] at kk
    refine V_intro (plainFor_of_name plX17) (Nat.le_of_ble_eq_true rfl) ?_
    refine V_iload_n dX17_search_0 rfl ?_
    refine V_if_ne 23 dX17_search_1 (by decide) (fun c1 => absurd c1 (fun q => q rfl)) (fun _ => ?_)
    refine V_aload_n dX17_search_4 rfl (Or.inl ⟨_, rfl⟩) ?_
    refine V_aload_n dX17_search_5 rfl (Or.inl ⟨_, rfl⟩) ?_
    refine V_get ckX17 (by first | assumption | (repeat (first | exact g_up_at | exact g_new_at rfl | assumption | refine g_up_of (by first | assumption | (simp only [g_new, g_up]; omega) | omega) ?_ | refine g_new_of (by first | assumption | (simp only [g_new, g_up]; omega) | omega) ?_))) 2 (by decide) q1680 rfl (by rfl) dX17_search_6 ?_
    refine V_aload_n dX17_search_9 rfl (Or.inl ⟨_, rfl⟩) ?_
    refine V_iload_n dX17_search_10 rfl ?_
    refine V_callV (q := (RX17, TX17, 3)) kX17_error q1695 q1696 q1697 (by first | assumption | (repeat (first | exact g_up_at | exact g_new_at rfl | assumption | refine g_up_of (by first | assumption | (simp only [g_new, g_up]; omega) | omega) ?_ | refine g_new_of (by first | assumption | (simp only [g_new, g_up]; omega) | omega) ?_))) rfl dX17_search_11 ?_ (d' := 2) (as := [_]) (hst := rfl) (hdd := (by omega))
    refine (pl_error ⟨da, df, hp, hd, hdf⟩ hC rfl (by omega) ?_)
    refine V_callS kJ17_min q1703 q630 dX17_search_14 ?_ (d' := 0) (as := [_, _]) (hst := rfl) (hdd := (by omega))
    refine (math_min ?_)
    refine V_put ckX17 (by first | assumption | (repeat (first | exact g_up_at | exact g_new_at rfl | assumption | refine g_up_of (by first | assumption | (simp only [g_new, g_up]; omega) | omega) ?_ | refine g_new_of (by first | assumption | (simp only [g_new, g_up]; omega) | omega) ?_))) (by first | assumption | omega | (simp only [g_new, g_up]; omega) | (simp only [g_new, g_up, g_B] at *; omega)) 2 (by decide) q1680 rfl rfl rfl rfl (Nat.le_of_ble_eq_true rfl) dX17_search_17 ?_
    refine V_goto 70 dX17_search_20 (by decide) ?_
    refine V_return dX17_search_70 rfl ?_
    exact kk
  have out : ∀ (f nx ch m : Nat) (e : Int32) (G : g_G) (P : Outcome → g_G → Prop), G.1 p = some (g_ob 15 [.int (nI o.1.length), .ref da, .int e]) → srF o f nx ch m e = e → P (.returned none) (g_up G p (g_ob 15 [.int (nI o.1.length), .ref da, .int (srF o f nx ch m e)])) → P (.returned none) G := by
    intro f nx ch m e G P hp he kk
    rw [he, g_up_same hp] at kk
    exact kk
  intro f
  induction f with
  | zero =>
    intro nx ch m e G P hnx hch hm hp hd kk
    cases m with
    | zero => exact zero 0 nx ch e G P hch hp hd kk
    | succ m =>
      have kk := out 0 nx ch (m + 1) e G P hp rfl kk
      have hnx : nx = o.1.length := hnx
      refine V_intro (plainFor_of_name plX17) (Nat.le_of_ble_eq_true rfl) ?_
      refine V_iload_n dX17_search_0 rfl ?_
      refine V_if_ne 23 dX17_search_1 (by decide) (fun _ => ?_) (fun c1 => absurd c1 (nI_ne0 (Nat.succ_pos m) (by omega)))
      refine V_aload_n dX17_search_23 rfl (Or.inl ⟨_, rfl⟩) ?_
      refine V_get ckX17 (by first | assumption | (repeat (first | exact g_up_at | exact g_new_at rfl | assumption | refine g_up_of (by first | assumption | (simp only [g_new, g_up]; omega) | omega) ?_ | refine g_new_of (by first | assumption | (simp only [g_new, g_up]; omega) | omega) ?_))) 0 (by decide) q1678 rfl (by rfl) dX17_search_24 ?_
      refine V_iload_n dX17_search_27 rfl ?_
      refine V_isub dX17_search_28 ?_
      rw [hnx, pk_sub (Nat.le_refl _), Nat.sub_self]
      refine V_iload_n dX17_search_29 rfl ?_
      refine V_icmp_lt 70 dX17_search_30 (by decide) (fun _ => ?_) (fun c30 => absurd (nI_lt (Nat.succ_pos m) (by omega)) c30)
      refine V_return dX17_search_70 rfl ?_
      exact kk
  | succ f ih =>
    intro nx ch m e G P hnx hch hm hp hd kk
    cases m with
    | zero => exact zero (f + 1) nx ch e G P hch hp hd kk
    | succ m =>
      have es : srF o (f + 1) nx ch (m + 1) e = if m + 1 ≤ f + 1 ∧ errC o (ch ||| (2 ^ o.1.length - 2 ^ nx)) < e then srF o f (nx + 1) ch (m + 1) (srF o f (nx + 1) (ch ||| 2 ^ nx) m e) else e := rfl
      refine V_intro (plainFor_of_name plX17) (Nat.le_of_ble_eq_true rfl) ?_
      refine V_iload_n dX17_search_0 rfl ?_
      refine V_if_ne 23 dX17_search_1 (by decide) (fun _ => ?_) (fun c1 => absurd c1 (nI_ne0 (Nat.succ_pos m) (by omega)))
      refine V_aload_n dX17_search_23 rfl (Or.inl ⟨_, rfl⟩) ?_
      refine V_get ckX17 (by first | assumption | (repeat (first | exact g_up_at | exact g_new_at rfl | assumption | refine g_up_of (by first | assumption | (simp only [g_new, g_up]; omega) | omega) ?_ | refine g_new_of (by first | assumption | (simp only [g_new, g_up]; omega) | omega) ?_))) 0 (by decide) q1678 rfl (by rfl) dX17_search_24 ?_
      refine V_iload_n dX17_search_27 rfl ?_
      refine V_isub dX17_search_28 ?_
      rw [pk_sub (by omega), show o.1.length - nx = f + 1 from by omega]
      refine V_iload_n dX17_search_29 rfl ?_
      by_cases hmf : m + 1 ≤ f + 1
      · refine V_icmp_lt 70 dX17_search_30 (by decide) (fun c30 => absurd c30 (nI_nlt hmf (by omega))) (fun _ => ?_)
        refine V_aload_n dX17_search_33 rfl (Or.inl ⟨_, rfl⟩) ?_
        refine V_iload_n dX17_search_34 rfl ?_
        refine V_iload_n dX17_search_35 rfl ?_
        refine V_callV (q := (RX17, TX17, 3)) kX17_bound q1716 q1718 qs25 (by first | assumption | (repeat (first | exact g_up_at | exact g_new_at rfl | assumption | refine g_up_of (by first | assumption | (simp only [g_new, g_up]; omega) | omega) ?_ | refine g_new_of (by first | assumption | (simp only [g_new, g_up]; omega) | omega) ?_))) rfl dX17_search_36 ?_ (d' := 3) (as := [_, _]) (hst := rfl) (hdd := (by omega))
        refine (pl_bound ⟨da, df, hp, hd, hdf⟩ hC (by omega) hch ?_)
        refine V_aload_n dX17_search_39 rfl (Or.inl ⟨_, rfl⟩) ?_
        refine V_get ckX17 (by first | assumption | (repeat (first | exact g_up_at | exact g_new_at rfl | assumption | refine g_up_of (by first | assumption | (simp only [g_new, g_up]; omega) | omega) ?_ | refine g_new_of (by first | assumption | (simp only [g_new, g_up]; omega) | omega) ?_))) 2 (by decide) q1680 rfl (by rfl) dX17_search_40 ?_
        refine V_icmp_ge 70 dX17_search_43 (by decide) (fun c43 => ?_) (fun c43 => ?_)
        · refine V_return dX17_search_70 rfl ?_
          rw [if_neg (fun q => absurd q.2 (Int32.not_lt.mpr c43))] at es
          exact out _ _ _ _ e G P hp es kk
        · rw [if_pos ⟨hmf, Int32.not_le.mp c43⟩] at es
          have hnl : nx < o.1.length := by omega
          have hch2 : ch ||| 2 ^ nx < 2 ^ o.1.length := sb_set hch hnl
          have hdp : da ≠ p := g_apart hd hp (by intro e; cases e)
          refine V_aload_n dX17_search_46 rfl (Or.inl ⟨_, rfl⟩) ?_
          refine V_iload_n dX17_search_47 rfl ?_
          refine V_iconstv 1 dX17_search_48 (by decide) ?_
          refine V_iadd dX17_search_49 ?_
          rw [show nI nx + 1 = nI (nx + 1) from nI_1 nx]
          refine V_iload_n dX17_search_50 rfl ?_
          refine V_iconstv 1 dX17_search_51 (by decide) ?_
          refine V_iload_n dX17_search_52 rfl ?_
          refine V_ishl dX17_search_53 ?_
          rw [sb_shl nx (by omega)]
          refine V_ior dX17_search_54 ?_
          rw [nx_or]
          refine V_iload_n dX17_search_55 rfl ?_
          refine V_iconstv 1 dX17_search_56 (by decide) ?_
          refine V_isub dX17_search_57 ?_
          rw [nI_pred]
          refine V_callV (q := (RX17, TX17, 3)) kX17_search q1712 q1714 qs24 (by first | assumption | (repeat (first | exact g_up_at | exact g_new_at rfl | assumption | refine g_up_of (by first | assumption | (simp only [g_new, g_up]; omega) | omega) ?_ | refine g_new_of (by first | assumption | (simp only [g_new, g_up]; omega) | omega) ?_))) rfl dX17_search_58 ?_ (d' := (f + 4)) (as := [_, _, _]) (hst := rfl) (hdd := (by omega))
          refine (ih (nx + 1) (ch ||| 2 ^ nx) m e G _ (by omega) hch2 (by omega) hp hd ?_)
          refine V_aload_n dX17_search_61 rfl (Or.inl ⟨_, rfl⟩) ?_
          refine V_iload_n dX17_search_62 rfl ?_
          refine V_iconstv 1 dX17_search_63 (by decide) ?_
          refine V_iadd dX17_search_64 ?_
          rw [show nI nx + 1 = nI (nx + 1) from nI_1 nx]
          refine V_iload_n dX17_search_65 rfl ?_
          refine V_iload_n dX17_search_66 rfl ?_
          refine V_callV (q := (RX17, TX17, 3)) kX17_search q1712 q1714 qs24 g_up_at rfl dX17_search_67 ?_ (d' := (f + 4)) (as := [_, _, _]) (hst := rfl) (hdd := (by omega))
          refine (ih (nx + 1) ch (m + 1) _ _ _ (by omega) hch (by omega) g_up_at (g_up_of hdp hd) ?_)
          refine V_return dX17_search_70 rfl ?_
          rw [g_up_up]
          rw [es] at kk
          exact kk
      · rw [if_neg (fun q => hmf q.1)] at es
        have kk := out _ _ _ _ e G P hp es kk
        refine V_icmp_lt 70 dX17_search_30 (by decide) (fun _ => ?_) (fun c30 => absurd (nI_lt (by omega) (by omega)) c30)
        refine V_return dX17_search_70 rfl ?_
        exact kk
theorem pl_least {p m : Nat} {e : Int32} {o : Of} (h : PalAt E G p o e) (hC : o.1.length ≤ 10) (hB : g_B E ≤ p) (hm : m ≤ 100) (kk : ∀ G' e', G'.2 = G.2 → g_ke (fun q => q ≠ p) G G' → PalAt E G' p o e' → P (.returned (some (.int (srF o o.1.length 0 0 m 1000000)))) G') : g_Spc l E mX17_leastError 15 [.ref p, .int (nI m)] G P := by
  obtain ⟨da, df, h1, h2, h3⟩ := h
  have hdp : da ≠ p := g_apart h2 h1 (by intro e; cases e)
  have p0 : 0 < 2 ^ o.1.length := Nat.pow_pos (by decide)
  refine V_intro (plainFor_of_name plX17) (Nat.le_of_ble_eq_true rfl) ?_
  refine V_aload_n dX17_leastError_0 rfl (Or.inl ⟨_, rfl⟩) ?_
  refine V_ldc 1000000 q1692 dX17_leastError_1 ?_
  refine V_put ckX17 (by first | assumption | (repeat (first | exact g_up_at | exact g_new_at rfl | assumption | refine g_up_of (by first | assumption | (simp only [g_new, g_up]; omega) | omega) ?_ | refine g_new_of (by first | assumption | (simp only [g_new, g_up]; omega) | omega) ?_))) (by first | assumption | omega | (simp only [g_new, g_up]; omega) | (simp only [g_new, g_up, g_B] at *; omega)) 2 (by decide) q1680 rfl rfl rfl rfl (Nat.le_of_ble_eq_true rfl) dX17_leastError_3 ?_
  refine V_aload_n dX17_leastError_6 rfl (Or.inl ⟨_, rfl⟩) ?_
  refine V_iconstv 0 dX17_leastError_7 (by decide) ?_
  refine V_iconstv 0 dX17_leastError_8 (by decide) ?_
  refine V_iload_n dX17_leastError_9 rfl ?_
  refine V_callV (q := (RX17, TX17, 3)) kX17_search q1712 q1714 qs24 (by first | assumption | (repeat (first | exact g_up_at | exact g_new_at rfl | assumption | refine g_up_of (by first | assumption | (simp only [g_new, g_up]; omega) | omega) ?_ | refine g_new_of (by first | assumption | (simp only [g_new, g_up]; omega) | omega) ?_))) rfl dX17_leastError_10 ?_ (d' := (o.1.length + 4)) (as := [_, _, _]) (hst := rfl) (hdd := (by omega))
  refine (pl_search hC hB h3 o.1.length 0 0 m 1000000 _ _ (Nat.zero_add _) p0 hm g_up_at (g_up_of hdp h2) ?_)
  rw [g_up_up]
  refine V_aload_n dX17_leastError_13 rfl (Or.inl ⟨_, rfl⟩) ?_
  refine V_get ckX17 (by first | assumption | (repeat (first | exact g_up_at | exact g_new_at rfl | assumption | refine g_up_of (by first | assumption | (simp only [g_new, g_up]; omega) | omega) ?_ | refine g_new_of (by first | assumption | (simp only [g_new, g_up]; omega) | omega) ?_))) 2 (by decide) q1680 rfl (by rfl) dX17_leastError_14 ?_
  refine V_ireturn dX17_leastError_17 rfl ?_
  exact kk _ _ rfl (g_ke.up (fun q => q rfl) _) ⟨da, df, g_up_at, g_up_of hdp h2, h3⟩
theorem pl_init {A : Nat → Prop} {n a s pa al p : Nat} {fs rs : List Nat} {o : Of} {G0 : g_G} (h : OffC E A n G0 a o s pa fs al rs) (wf0 : g_wf G0) (hk0 : g_ke g_all G0 G) (hp0 : G0.2.1 ≤ p) (hp : G.1 p = some (g_ob 15 [.int 0, .null, .int 0])) (hB : g_B E ≤ p) (hf : g_fit E G 1 100) (kk : ∀ G', g_mod (fun q => q < G0.2.1) G G' 1 100 → PalAt E G' p o 0 → P (.returned none) G') : g_Spc l E mX17_init 4 [.ref p, .ref s, .ref (mt_ad E (mt_k (o.2.2 5)))] G P := by
  obtain ⟨hf1, hf2⟩ := hf
  have hl := h.len
  have hkeep : ∀ {G1 : g_G}, g_ke g_all G0 G1 → OffC E A n G1 a o s pa fs al rs := fun hk => h.keep (hk.mono fun _ _ => trivial)
  have hb : o.1.length * o.1.length ≤ 100 := Nat.mul_le_mul hl.2.2.1 hl.2.2.1
  refine V_intro (plainFor_of_name plX17) (Nat.le_of_ble_eq_true rfl) ?_
  refine V_wf (fun wf hBG => ?_)
  have hpl := wf _ _ hp
  have up0 : ∀ {G1 : g_G} {q : Nat} {y : va_E}, g_ke g_all G0 G1 → G0.2.1 ≤ q → g_ke g_all G0 (g_up G1 q y) := fun hk hq z x _ hx => g_up_of (by have := wf0 _ _ hx; omega) (hk z x trivial hx)
  have loop : ∀ i, i ≤ o.1.length * o.1.length → ∀ (G1 : g_G) (df : Nat → Int32), g_ke g_all G0 G1 → g_ke (fun q => q < G0.2.1) G G1 → G1.2.1 = G.2.1 + 1 → G1.2.2 = G.2.2 + o.1.length * o.1.length → G1.1 p = some (g_ob 15 [.int (nI o.1.length), .ref G.2.1, .int 0]) → G1.1 G.2.1 = some (g_ai E (o.1.length * o.1.length) df) → (∀ (k j : Nat) (c x : Rw), o.1.length * k + j < i → o.1[k]? = some c → o.1[j]? = some x → df (o.1.length * k + j) = dO o c.2.1 x) → V l E mX17_init 4 P 29 [(0, .ref p), (1, .ref s), (2, .ref (mt_ad E (mt_k (o.2.2 5)))), (3, .int (nI i))] [] G1 := by
    refine down _ ?_ ?_
    · intro G1 df e1 e2 e3 e4 e5 e6 e7
      refine V_iload_n dX17_init_29 rfl ?_
      refine V_aload_n dX17_init_30 rfl (Or.inl ⟨_, rfl⟩) ?_
      refine V_get ckX17 (by first | assumption | (repeat (first | exact g_up_at | exact g_new_at rfl | assumption | refine g_up_of (by first | assumption | (simp only [g_new, g_up]; omega) | omega) ?_ | refine g_new_of (by first | assumption | (simp only [g_new, g_up]; omega) | omega) ?_))) 1 (by decide) q1679 rfl (by rfl) dX17_init_31 ?_
      refine V_alen_i e6 q388 dX17_init_34 ?_
      refine V_icmp_ge 80 dX17_init_35 (by decide) (fun _ => ?_) (fun c35 => absurd (Int32.le_refl _) c35)
      refine V_return dX17_init_80 rfl ?_
      exact kk G1 ⟨e2, by omega, by omega, by omega, by omega⟩ ⟨G.2.1, df, e5, e6, fun k j c x hc hx => e7 k j c x (pl_lt (lt_of_at hc) (lt_of_at hx)) hc hx⟩
    · intro i hi ih G1 df e1 e2 e3 e4 e5 e6 e7
      have hC0 : 0 < o.1.length := by
        rcases Nat.eq_zero_or_pos o.1.length with h0 | h0
        · rw [h0, Nat.mul_zero] at hi
          exact absurd hi (Nat.not_lt_zero _)
        · exact h0
      have hC1 := hkeep e1
      have hks := hC1.2.2.2.2.1.2.2.2.2.1
      have hd : i / o.1.length < o.1.length := (Nat.div_lt_iff_lt_mul hC0).mpr hi
      have hm : i % o.1.length < o.1.length := Nat.mod_lt _ hC0
      have him : o.1.length * (i / o.1.length) + i % o.1.length = i := Nat.div_add_mod i _
      obtain ⟨c, hcc, -⟩ := drop_at hd
      obtain ⟨x, hxx, -⟩ := drop_at hm
      obtain ⟨q, hq, hFq⟩ := hC1.2.2.2.2.2.1.at (agL_at hcc)
      obtain ⟨ta, hqc, ht⟩ := TintAt.ag hFq
      obtain ⟨q2, hq2, hF2⟩ := hC1.2.2.2.2.2.1.at (agL_at hxx)
      obtain ⟨tb, hqc2, ht2⟩ := TintAt.ag hF2
      have hin : vp_in (nI i) (o.1.length * o.1.length) := vp_in_nI hi (by omega)
      have ed : nI i / nI o.1.length = nI (i / o.1.length) := pk_div (by omega) hC0 (by omega)
      have er : nI i - nI i / nI o.1.length * nI o.1.length = nI (i % o.1.length) := pk_rem (by omega) hC0 (by omega)
      have hne : ¬ nI o.1.length = 0 := nI_ne0 hC0 (by omega)
      refine V_iload_n dX17_init_29 rfl ?_
      refine V_aload_n dX17_init_30 rfl (Or.inl ⟨_, rfl⟩) ?_
      refine V_get ckX17 (by first | assumption | (repeat (first | exact g_up_at | exact g_new_at rfl | assumption | refine g_up_of (by first | assumption | (simp only [g_new, g_up]; omega) | omega) ?_ | refine g_new_of (by first | assumption | (simp only [g_new, g_up]; omega) | omega) ?_))) 1 (by decide) q1679 rfl (by rfl) dX17_init_31 ?_
      refine V_alen_i e6 q388 dX17_init_34 ?_
      refine V_icmp_ge 80 dX17_init_35 (by decide) (fun c35 => absurd c35 (nI_ge hi (by omega))) (fun _ => ?_)
      refine V_aload_n dX17_init_38 rfl (Or.inl ⟨_, rfl⟩) ?_
      refine V_get ckX17 (by first | assumption | (repeat (first | exact g_up_at | exact g_new_at rfl | assumption | refine g_up_of (by first | assumption | (simp only [g_new, g_up]; omega) | omega) ?_ | refine g_new_of (by first | assumption | (simp only [g_new, g_up]; omega) | omega) ?_))) 1 (by decide) q1679 rfl (by rfl) dX17_init_39 ?_
      refine V_iload_n dX17_init_42 rfl ?_
      refine V_aload_n dX17_init_43 rfl (Or.inl ⟨_, rfl⟩) ?_
      refine V_aload_n dX17_init_44 rfl (Or.inl ⟨_, rfl⟩) ?_
      refine V_iload_n dX17_init_45 rfl ?_
      refine V_aload_n dX17_init_46 rfl (Or.inl ⟨_, rfl⟩) ?_
      refine V_get ckX17 (by first | assumption | (repeat (first | exact g_up_at | exact g_new_at rfl | assumption | refine g_up_of (by first | assumption | (simp only [g_new, g_up]; omega) | omega) ?_ | refine g_new_of (by first | assumption | (simp only [g_new, g_up]; omega) | omega) ?_))) 0 (by decide) q1678 rfl (by rfl) dX17_init_47 ?_
      refine V_idiv dX17_init_50 hne ?_
      rw [ed]
      refine V_callV (q := (RX3, TX3, 2)) kX3_at q1676 q1401 q1402 hks rfl dX17_init_51 ?_ (d' := 0) (as := [_]) (hst := rfl)
      refine (shf_at (k := i / o.1.length) hC1.2.2.2.2.1 rfl hq ?_)
      refine V_getN ckX7 (by first | assumption | (repeat (first | exact g_up_at | exact g_new_at rfl | assumption | refine g_up_of (by first | assumption | (simp only [g_new, g_up]; omega) | omega) ?_ | refine g_new_of (by first | assumption | (simp only [g_new, g_up]; omega) | omega) ?_))) 2 (by decide) q503 rfl (by rfl) dX17_init_54 ?_
      refine V_aload_n dX17_init_57 rfl (Or.inl ⟨_, rfl⟩) ?_
      refine V_iload_n dX17_init_58 rfl ?_
      refine V_aload_n dX17_init_59 rfl (Or.inl ⟨_, rfl⟩) ?_
      refine V_get ckX17 (by first | assumption | (repeat (first | exact g_up_at | exact g_new_at rfl | assumption | refine g_up_of (by first | assumption | (simp only [g_new, g_up]; omega) | omega) ?_ | refine g_new_of (by first | assumption | (simp only [g_new, g_up]; omega) | omega) ?_))) 0 (by decide) q1678 rfl (by rfl) dX17_init_60 ?_
      refine V_irem dX17_init_63 hne ?_
      rw [er]
      refine V_callV (q := (RX3, TX3, 2)) kX3_at q1676 q1401 q1402 hks rfl dX17_init_64 ?_ (d' := 0) (as := [_]) (hst := rfl)
      refine (shf_at (k := i % o.1.length) hC1.2.2.2.2.1 rfl hq2 ?_)
      refine V_getN ckX7 (by first | assumption | (repeat (first | exact g_up_at | exact g_new_at rfl | assumption | refine g_up_of (by first | assumption | (simp only [g_new, g_up]; omega) | omega) ?_ | refine g_new_of (by first | assumption | (simp only [g_new, g_up]; omega) | omega) ?_))) 2 (by decide) q503 rfl (by rfl) dX17_init_67 ?_
      refine V_callSN kX1_distance q1677 q1340 dX17_init_70 ?_ (d' := 3) (as := [_, _, _]) (hst := rfl)
      refine (co_distance ht ht2 ?_)
      refine V_iastore e6 (by first | assumption | omega | (simp only [g_new, g_up]; omega) | (simp only [g_new, g_up, g_B] at *; omega)) (by first | assumption | exact g_in (by decide)) q388 dX17_init_73 ?_
      refine V_iinc dX17_init_74 rfl (by decide) ?_
      refine V_goto 29 dX17_init_77 (by decide) ?_
      rw [nI_clamp (by omega)]
      refine V_subk (ih _ (upd df i (dst (mt_k (o.2.2 5)) c.2.1 x.2.1)) (up0 e1 (by omega)) (e2.trans (g_ke.up (fun hq => absurd hq (by show ¬ G.2.1 < G0.2.1; omega)) _)) e3 e4 (g_up_of (by omega) e5) g_up_at (fun k j c' x' hkj hc' hx' => ?_)) ⟨rfl, rfl, rfl, ?_, trivial⟩
      · by_cases e : o.1.length * k + j = i
        · have hjl := lt_of_at hx'
          have hk : k = i / o.1.length := by
            rw [← e, Nat.mul_add_div hC0, Nat.div_eq_of_lt hjl, Nat.add_zero]
          have hj : j = i % o.1.length := by
            rw [← e, Nat.mul_add_mod, Nat.mod_eq_of_lt hjl]
          subst hk
          subst hj
          rw [hcc] at hc'
          rw [hxx] at hx'
          cases hc'
          cases hx'
          rw [e, pk_us]
          rfl
        · rw [pk_un e]
          exact e7 k j c' x' (by omega) hc' hx'
      · rw [← nI_1 i]; rfl
  have hC1 := hkeep hk0
  have hks := hC1.2.2.2.2.1.2.2.2.2.1
  refine V_aload_n dX17_init_0 rfl (Or.inl ⟨_, rfl⟩) ?_
  refine V_objInit q1674 q170 q171 dX17_init_1 (by decide) (by decide) ?_
  refine V_aload_n dX17_init_4 rfl (Or.inl ⟨_, rfl⟩) ?_
  refine V_aload_n dX17_init_5 rfl (Or.inl ⟨_, rfl⟩) ?_
  refine V_callV (q := (RX3, TX3, 2)) kX3_count q1675 q1074 q1075 hks rfl dX17_init_6 ?_ (d' := 0) (as := []) (hst := rfl)
  refine (shf_count hks ?_)
  rw [hl.1]
  refine V_putF ckX17 (by first | assumption | (repeat (first | exact g_up_at | exact g_new_at rfl | assumption | refine g_up_of (by first | assumption | (simp only [g_new, g_up]; omega) | omega) ?_ | refine g_new_of (by first | assumption | (simp only [g_new, g_up]; omega) | omega) ?_))) (by first | assumption | omega | (simp only [g_new, g_up]; omega) | (simp only [g_new, g_up, g_B] at *; omega)) 0 (by decide) q1678 rfl rfl rfl rfl rfl rfl (Nat.le_of_ble_eq_true rfl) dX17_init_9 ?_
  refine V_aload_n dX17_init_12 rfl (Or.inl ⟨_, rfl⟩) ?_
  refine V_aload_n dX17_init_13 rfl (Or.inl ⟨_, rfl⟩) ?_
  refine V_get ckX17 (by first | assumption | (repeat (first | exact g_up_at | exact g_new_at rfl | assumption | refine g_up_of (by first | assumption | (simp only [g_new, g_up]; omega) | omega) ?_ | refine g_new_of (by first | assumption | (simp only [g_new, g_up]; omega) | omega) ?_))) 0 (by decide) q1678 rfl (by rfl) dX17_init_14 ?_
  refine V_aload_n dX17_init_17 rfl (Or.inl ⟨_, rfl⟩) ?_
  refine V_get ckX17 (by first | assumption | (repeat (first | exact g_up_at | exact g_new_at rfl | assumption | refine g_up_of (by first | assumption | (simp only [g_new, g_up]; omega) | omega) ?_ | refine g_new_of (by first | assumption | (simp only [g_new, g_up]; omega) | omega) ?_))) 0 (by decide) q1678 rfl (by rfl) dX17_init_18 ?_
  refine V_imul dX17_init_21 ?_
  rw [nI_mul]
  refine V_newarray_int (o.1.length * o.1.length) rfl (by omega) q388 dX17_init_22 (by first | omega | (simp only [g_new, g_up]; omega)) (by first | omega | (simp only [g_new, g_up]; omega)) ?_
  refine V_putF ckX17 (g_new_of (by simp only [g_up]; omega) g_up_at) (by first | assumption | omega | (simp only [g_new, g_up]; omega) | (simp only [g_new, g_up, g_B] at *; omega)) 1 (by decide) q1679 rfl rfl rfl rfl rfl rfl (Nat.le_of_ble_eq_true rfl) dX17_init_24 ?_
  refine V_iconstv 0 dX17_init_27 (by decide) ?_
  refine V_istore_n dX17_init_28 (by decide) ?_
  refine V_subk (loop 0 (Nat.zero_le _) _ (fun _ => 0) (fun q x _ hx => ?_) (fun q x hq hx => ?_) rfl rfl g_up_at ?_ (fun k j c x hkj _ _ => absurd hkj (Nat.not_lt_zero _))) ⟨rfl, rfl, rfl, rfl, trivial⟩
  · have hq := wf0 _ _ hx
    have hx2 := hk0 q x trivial hx
    exact g_up_of (by omega) (g_new_of (by simp only [g_up]; omega) (g_up_of (by omega) hx2))
  · have hq : q < G0.2.1 := hq
    exact g_up_of (by omega) (g_new_of (by simp only [g_up]; omega) (g_up_of (by omega) hx))
  · exact g_up_of (by omega) (g_new_at rfl)
end PAL2
