/-! MODULE StringBuilder: numbers, toString -/
set_option maxRecDepth 100000
theorem nd_eq : ∀ (f n i : Nat), n < 10 ^ i → (i = 1 ∨ 10 ^ (i - 1) ≤ n) → 1 ≤ i → i ≤ f + 1 → ndF f n = i
  | 0, n, i, _, _, h3, h4 => by
    show 1 = i
    omega
  | f + 1, n, i, h1, h2, h3, h4 => by
    unfold ndF
    by_cases h9 : n ≤ 9
    · rw [if_pos h9]
      rcases h2 with h2 | h2
      · exact h2.symm
      · by_cases h5 : i = 1
        · exact h5.symm
        · have : 10 ^ 1 ≤ 10 ^ (i - 1) := Nat.pow_le_pow_right (by decide) (by omega)
          omega
    · rw [if_neg h9]
      obtain ⟨k, rfl⟩ : ∃ k, i = k + 2 := by
        refine ⟨i - 2, ?_⟩
        by_cases h5 : i = 1
        · subst h5
          have h1 : n < 10 := h1
          omega
        · omega
      have e1 : n / 10 < 10 ^ (k + 1) := by
        have : n < 10 ^ (k + 1) * 10 := h1
        omega
      have h2 : 10 ^ (k + 1) ≤ n := by
        rcases h2 with h2 | h2
        · omega
        · exact h2
      have e2 : k + 1 = 1 ∨ 10 ^ (k + 1 - 1) ≤ n / 10 := by
        right
        have : 10 ^ k * 10 ≤ n := h2
        show 10 ^ k ≤ n / 10
        omega
      rw [nd_eq f (n / 10) (k + 1) e1 e2 (by omega) (by omega)]
theorem nd_has : ∀ (f n : Nat), n < 10 ^ (f + 1) → n < 10 ^ ndF f n ∧ (ndF f n = 1 ∨ 10 ^ (ndF f n - 1) ≤ n) ∧ 1 ≤ ndF f n
  | 0, n, h => ⟨h, Or.inl rfl, Nat.le_refl _⟩
  | f + 1, n, h => by
    unfold ndF
    by_cases h9 : n ≤ 9
    · rw [if_pos h9]
      exact ⟨by omega, Or.inl rfl, Nat.le_refl _⟩
    · rw [if_neg h9]
      have e1 : n / 10 < 10 ^ (f + 1) := by
        have : n < 10 ^ (f + 1) * 10 := h
        omega
      obtain ⟨h1, h2, h3⟩ := nd_has f (n / 10) e1
      refine ⟨?_, Or.inr ?_, by omega⟩
      · show n < 10 ^ ndF f (n / 10) * 10
        omega
      · show 10 ^ ndF f (n / 10) ≤ n
        rcases h2 with h2 | h2
        · rw [h2]; omega
        · obtain ⟨k, hk⟩ : ∃ k, ndF f (n / 10) = k + 1 := ⟨ndF f (n / 10) - 1, by omega⟩
          rw [hk] at h2 ⊢
          have h2 : 10 ^ k ≤ n / 10 := h2
          show 10 ^ k * 10 ≤ n
          omega
theorem wrF_at : ∀ (k n j : Nat), j < k → (wrF k n)[j]? = some (nI (48 + n / 10 ^ (k - 1 - j) % 10))
  | 0, _, _, h => absurd h (Nat.not_lt_zero _)
  | k + 1, n, 0, _ => rfl
  | k + 1, n, j + 1, h => by
    show (wrF k n)[j]? = _
    rw [wrF_at k n j (by omega), show k + 1 - 1 - (j + 1) = k - 1 - j from by omega]
theorem dig_isC (n t : Nat) : isC (nI (48 + n / 10 ^ t % 10)) := ⟨_, by omega, rfl⟩
section SB2
variable {l : Launch} {E : g_E} {P : Outcome → g_G → Prop} {G : g_G}
theorem int_size {x : Int32} {n : Nat} (hx : x = nI n) (hn : n < 2 ^ 31) (k : P (.returned (some (.int (nI (ndF 9 n))))) G) : g_Spc l E mJ20_stringSize 0 [.int x] G P := by
  subst hx
  refine V_intro (plainFor_of_name plJ20) (Nat.le_of_ble_eq_true rfl) ?_
  have loop : ∀ j i, i + j = 10 → 1 ≤ i → (i = 1 ∨ 10 ^ (i - 1) ≤ n) → ∀ p : Int32, (i < 10 → p = -nI (10 ^ i)) → V l E mJ20_stringSize 0 P 16 [(0, .int (-nI n)), (1, .int 0), (2, .int p), (3, .int (nI i))] [] G := by
    intro j
    induction j with
    | zero =>
      intro i hij h1 h2 p hp
      have e : i = 10 := by omega
      subst e
      rw [nd_eq 9 n 10 (by omega) h2 (by omega) (by omega)] at k
      refine V_iload_n dJ20_stringSize_16 rfl ?_
      refine V_bipushv 10 dJ20_stringSize_17 (by decide) ?_
      refine V_icmp_ge 42 dJ20_stringSize_19 (by decide) (fun _ => ?_) (fun c19 => absurd (by decide) c19)
      refine V_bipushv 10 dJ20_stringSize_42 (by decide) ?_
      refine V_iload_n dJ20_stringSize_44 rfl ?_
      refine V_iadd dJ20_stringSize_45 ?_
      refine V_ireturn dJ20_stringSize_46 rfl ?_
      exact k
    | succ j ih =>
      intro i hij h1 h2 p hp
      have hp := hp (by omega)
      subst hp
      have h10 : 10 ^ i < 2 ^ 31 := Nat.lt_of_le_of_lt (Nat.pow_le_pow_right (by decide) (show i ≤ 9 by omega)) (by decide)
      have hlt : ¬ (10 : Int32) ≤ nI i := nI_ge (b := 10) (by omega) (by decide)
      by_cases hc : n < 10 ^ i
      · rw [nd_eq 9 n i hc h2 h1 (by omega)] at k
        have e : ¬ -nI n ≤ -nI (10 ^ i) := fun q => absurd ((sb_nle hn h10).mp q) (by omega)
        refine V_iload_n dJ20_stringSize_16 rfl ?_
        refine V_bipushv 10 dJ20_stringSize_17 (by decide) ?_
        refine V_icmp_ge 42 dJ20_stringSize_19 (by decide) (fun c19 => absurd c19 hlt) (fun _ => ?_)
        refine V_iload_n dJ20_stringSize_22 rfl ?_
        refine V_iload_n dJ20_stringSize_23 rfl ?_
        refine V_icmp_le 31 dJ20_stringSize_24 (by decide) (fun c24 => absurd c24 e) (fun _ => ?_)
        refine V_iload_n dJ20_stringSize_27 rfl ?_
        refine V_iload_n dJ20_stringSize_28 rfl ?_
        refine V_iadd dJ20_stringSize_29 ?_
        rw [Int32.add_zero]
        refine V_ireturn dJ20_stringSize_30 rfl ?_
        exact k
      · have e : -nI n ≤ -nI (10 ^ i) := (sb_nle hn h10).mpr (by omega)
        refine V_iload_n dJ20_stringSize_16 rfl ?_
        refine V_bipushv 10 dJ20_stringSize_17 (by decide) ?_
        refine V_icmp_ge 42 dJ20_stringSize_19 (by decide) (fun c19 => absurd c19 hlt) (fun _ => ?_)
        refine V_iload_n dJ20_stringSize_22 rfl ?_
        refine V_iload_n dJ20_stringSize_23 rfl ?_
        refine V_icmp_le 31 dJ20_stringSize_24 (by decide) (fun _ => ?_) (fun c24 => absurd e c24)
        refine V_bipushv 10 dJ20_stringSize_31 (by decide) ?_
        refine V_iload_n dJ20_stringSize_33 rfl ?_
        refine V_imul dJ20_stringSize_34 ?_
        refine V_istore_n dJ20_stringSize_35 (by decide) ?_
        refine V_iinc dJ20_stringSize_36 rfl (by decide) ?_
        refine V_goto 16 dJ20_stringSize_39 (by decide) ?_
        refine V_subk (ih (i + 1) (by omega) (by omega) (Or.inr (by show 10 ^ i ≤ n; omega)) _ (fun hi => ?_)) ⟨rfl, rfl, rfl, ?_, trivial⟩
        · rw [Int32.mul_neg, show (10 : Int32) = nI 10 from rfl, nI_mul, Nat.mul_comm, Nat.pow_succ]
        · rw [← nI_1 i]; rfl
  refine V_iconstv 1 dJ20_stringSize_0 (by decide) ?_
  refine V_istore_n dJ20_stringSize_1 (by decide) ?_
  refine V_iload_n dJ20_stringSize_2 rfl ?_
  refine V_if_lt 11 dJ20_stringSize_3 (by decide) (fun c3 => absurd c3 (nI_pos hn)) (fun _ => ?_)
  refine V_iconstv 0 dJ20_stringSize_6 (by decide) ?_
  refine V_istore_n dJ20_stringSize_7 (by decide) ?_
  refine V_iload_n dJ20_stringSize_8 rfl ?_
  refine V_ineg dJ20_stringSize_9 ?_
  refine V_istore_n dJ20_stringSize_10 (by decide) ?_
  refine V_bipushv (-10) dJ20_stringSize_11 (by decide) ?_
  refine V_istore_n dJ20_stringSize_13 (by decide) ?_
  refine V_iconstv 1 dJ20_stringSize_14 (by decide) ?_
  refine V_istore_n dJ20_stringSize_15 (by decide) ?_
  exact V_subk (loop 9 1 rfl (Nat.le_refl _) (Or.inl rfl) (-10) (fun _ => by decide)) ⟨rfl, rfl, rfl, rfl, trivial⟩
theorem int_getChars {x : Int32} {n base cap ar : Nat} {f : Nat → Int32} (hx : x = nI n) (hn : n < 2 ^ 31) (hG : G.1 ar = some (g_ab E cap f)) (hB : g_B E ≤ ar) (hc : base + ndF 9 n ≤ cap) (hcap : cap ≤ 310) (k : ∀ g : Nat → Int32, (∀ j, base ≤ j → j < base + ndF 9 n → g j = nI (48 + n / 10 ^ (base + ndF 9 n - 1 - j) % 10)) → (∀ j, j < base ∨ base + ndF 9 n ≤ j → g j = f j) → P (.returned (some (.int (nI base)))) (g_up G ar (g_ab E cap g))) : g_Spc l E mJ20_getChars 0 [.int x, .int (nI (base + ndF 9 n)), .ref ar] G P := by
  subst hx
  obtain ⟨d1, d2, d3⟩ := nd_has 9 n (by omega)
  generalize hD : ndF 9 n = D at *
  refine V_intro (plainFor_of_name plJ20) (Nat.le_of_ble_eq_true rfl) ?_
  refine V_okk fun ok => ?_
  have loop : ∀ (fu T m : Nat), m < 2 ^ 31 → m < fu → m = n / 10 ^ T → T < D → ∀ (g : Nat → Int32) (G1 : g_G), G1 = g_up G ar (g_ab E cap g) → (∀ j, base + D - T ≤ j → j < base + D → g j = nI (48 + n / 10 ^ (base + D - 1 - j) % 10)) → (∀ j, j < base + D - T ∨ base + D ≤ j → g j = f j) → ∀ (v3 v4 : Int32) L9, g_subL [(0, .int (-nI m)), (2, .ref ar), (5, .int (nI (base + D - T))), (6, .int 0)] L9 → V l E mJ20_getChars 0 P 22 L9 [] G1 := by
    intro fu
    induction fu with
    | zero => intro T m _ h; exact absurd h (Nat.not_lt_zero _)
    | succ fu ih =>
      intro T m hm hfu hmT hTD g G1 hG1 hg1 hg2 v3 v4 L9 hL9
      subst hG1
      refine V_subk ?_ hL9
      have hp0 : 0 < 10 ^ T := Nat.pow_pos (by decide)
      have hq1 : n / 10 ^ (T + 1) = m / 10 := by rw [hmT, Nat.div_div_eq_div_mul, Nat.pow_succ]
      have hq2 : n / 10 ^ (T + 2) = m / 100 := by rw [hmT, Nat.div_div_eq_div_mul, Nat.pow_succ, Nat.pow_succ, Nat.mul_assoc]
      by_cases h100 : 100 ≤ m
      · have hT2 : T + 2 < D := by
          refine Nat.lt_of_not_le fun hle => ?_
          have : n < 10 ^ (T + 2) := Nat.lt_of_lt_of_le d1 (Nat.pow_le_pow_right (by decide) hle)
          rw [(Nat.div_eq_zero_iff_lt (Nat.pow_pos (by decide))).mpr this] at hq2
          omega
        have e1 : ¬ -nI 100 < -nI m := fun q => absurd ((sb_nlt (a := 100) (by decide) hm).mp q) (by omega)
        have hin1 : vp_in (nI (base + D - T - 1)) cap := vp_in_nI (by omega) (by omega)
        have hin2 : vp_in (nI (base + D - T - 2)) cap := vp_in_nI (by omega) (by omega)
        have hinr : vp_in (nI (m % 100)) 100 := vp_in_nI (by omega) (by decide)
        have c1 : isC (nI (48 + m % 100 % 10)) := ⟨_, by omega, rfl⟩
        have c2 : isC (nI (48 + m % 100 / 10)) := ⟨_, by omega, rfl⟩
        refine V_iload_n dJ20_getChars_22 rfl ?_
        refine V_bipushv (-100) dJ20_getChars_23 (by decide) ?_
        refine V_icmp_gt 72 dJ20_getChars_25 (by decide) (fun c25 => absurd c25 e1) (fun _ => ?_)
        refine V_iload_n dJ20_getChars_28 rfl ?_
        refine V_bipushv 100 dJ20_getChars_29 (by decide) ?_
        refine V_idiv dJ20_getChars_31 (by decide) ?_
        rw [sb_ndiv hm]
        refine V_istore_n dJ20_getChars_32 (by decide) ?_
        refine V_iload_n dJ20_getChars_33 rfl ?_
        refine V_bipushv 100 dJ20_getChars_34 (by decide) ?_
        refine V_imul dJ20_getChars_36 ?_
        refine V_iload_n dJ20_getChars_37 rfl ?_
        refine V_isub dJ20_getChars_38 ?_
        rw [sb_nrem hm]
        refine V_istore dJ20_getChars_39 (by decide) ?_
        refine V_iload_n dJ20_getChars_41 rfl ?_
        refine V_istore_n dJ20_getChars_42 (by decide) ?_
        refine V_aload_n dJ20_getChars_43 rfl (Or.inl ⟨_, rfl⟩) ?_
        refine V_iinc dJ20_getChars_44 rfl (by decide) ?_
        rw [show nI (base + D - T) + Int32.ofInt (-1) = nI (base + D - T - 1) from sb_m1 (by omega)]
        refine V_iload dJ20_getChars_47 rfl ?_
        refine V_gets (do_Z ok) q722 rfl dJ20_getChars_49 ?_
        refine V_iload dJ20_getChars_52 rfl ?_
        refine V_baloadR (Or.inr (do_ev ok).2) hinr q322 dJ20_getChars_54 ?_
        rw [nI_clamp (by omega)]
        refine V_bastore g_up_at (by first | assumption | omega | (simp only [g_new, g_up]; omega) | (simp only [g_new, g_up, g_B] at *; omega)) hin1 q322 dJ20_getChars_55 ?_
        rw [nI_clamp (by omega), c1.narB, g_up_up]
        refine V_aload_n dJ20_getChars_56 rfl (Or.inl ⟨_, rfl⟩) ?_
        refine V_iinc dJ20_getChars_57 rfl (by decide) ?_
        rw [show nI (base + D - T - 1) + Int32.ofInt (-1) = nI (base + D - T - 2) from sb_m1 (by omega)]
        refine V_iload dJ20_getChars_60 rfl ?_
        refine V_gets (dt_Z ok) q724 rfl dJ20_getChars_62 ?_
        refine V_iload dJ20_getChars_65 rfl ?_
        refine V_baloadR (Or.inr (dt_ev ok).2) hinr q322 dJ20_getChars_67 ?_
        rw [nI_clamp (by omega)]
        refine V_bastore g_up_at (by first | assumption | omega | (simp only [g_new, g_up]; omega) | (simp only [g_new, g_up, g_B] at *; omega)) hin2 q322 dJ20_getChars_68 ?_
        rw [nI_clamp (by omega), c2.narB, g_up_up]
        refine V_goto 22 dJ20_getChars_69 (by decide) ?_
        refine ih (T + 2) (m / 100) (by omega) (by omega) hq2.symm hT2 _ _ rfl ?_ ?_ 0 0 _ ⟨rfl, rfl, ?_, rfl, trivial⟩
        · intro j hj1 hj2
          by_cases ej : j = base + D - T - 2
          · rw [ej, pk_us, show base + D - 1 - (base + D - T - 2) = T + 1 from by omega, hq1]
            congr 2
            omega
          · rw [pk_un ej]
            by_cases ej2 : j = base + D - T - 1
            · rw [ej2, pk_us, show base + D - 1 - (base + D - T - 1) = T from by omega, ← hmT]
              congr 2
              omega
            · rw [pk_un ej2]
              exact hg1 j (by omega) hj2
        · intro j hj
          rw [pk_un (by omega), pk_un (by omega)]
          exact hg2 j (by omega)
        · rfl
      · have e1 : -nI 100 < -nI m := (sb_nlt (a := 100) (by decide) hm).mpr (by omega)
        have hin1 : vp_in (nI (base + D - T - 1)) cap := vp_in_nI (by omega) (by omega)
        have hinr : vp_in (nI m) 100 := vp_in_nI (by omega) (by decide)
        have c1 : isC (nI (48 + m % 10)) := ⟨_, by omega, rfl⟩
        have c2 : isC (nI (48 + m / 10)) := ⟨_, by omega, rfl⟩
        refine V_iload_n dJ20_getChars_22 rfl ?_
        refine V_bipushv (-100) dJ20_getChars_23 (by decide) ?_
        refine V_icmp_gt 72 dJ20_getChars_25 (by decide) (fun _ => ?_) (fun c25 => absurd e1 c25)
        refine V_aload_n dJ20_getChars_72 rfl (Or.inl ⟨_, rfl⟩) ?_
        refine V_iinc dJ20_getChars_73 rfl (by decide) ?_
        rw [show nI (base + D - T) + Int32.ofInt (-1) = nI (base + D - T - 1) from sb_m1 (by omega)]
        refine V_iload dJ20_getChars_76 rfl ?_
        refine V_gets (do_Z ok) q722 rfl dJ20_getChars_78 ?_
        refine V_iload_n dJ20_getChars_81 rfl ?_
        refine V_ineg dJ20_getChars_82 ?_
        rw [Int32.neg_neg]
        refine V_baloadR (Or.inr (do_ev ok).2) hinr q322 dJ20_getChars_83 ?_
        rw [nI_clamp (by omega)]
        refine V_bastore g_up_at (by first | assumption | omega | (simp only [g_new, g_up]; omega) | (simp only [g_new, g_up, g_B] at *; omega)) hin1 q322 dJ20_getChars_84 ?_
        rw [nI_clamp (by omega), c1.narB, g_up_up]
        by_cases h9 : m ≤ 9
        · have hT1 : T + 1 = D := by
            rcases d2 with d2 | d2
            · omega
            · have h0 : n / 10 ^ (T + 1) = 0 := by rw [hq1]; omega
              have h1 : n < 10 ^ (T + 1) := (Nat.div_eq_zero_iff_lt (Nat.pow_pos (by decide))).mp h0
              have h2 : 10 ^ (D - 1) < 10 ^ (T + 1) := by omega
              have h3 := (Nat.pow_lt_pow_iff_right (by decide)).mp h2
              omega
          have e2 : -nI 9 ≤ -nI m := (sb_nle (a := 9) (by decide) hm).mpr h9
          refine V_iload_n dJ20_getChars_85 rfl ?_
          refine V_bipushv (-9) dJ20_getChars_86 (by decide) ?_
          refine V_icmp_ge 104 dJ20_getChars_88 (by decide) (fun _ => ?_) (fun c88 => absurd e2 c88)
          refine V_iload dJ20_getChars_104 rfl ?_
          refine V_if_eq 118 dJ20_getChars_106 (by decide) (fun _ => ?_) (fun c106 => absurd rfl c106)
          refine V_iload dJ20_getChars_118 rfl ?_
          refine V_ireturn dJ20_getChars_120 rfl ?_
          rw [show base + D - T - 1 = base from by omega]
          refine k _ (fun j hj1 hj2 => ?_) (fun j hj => ?_)
          · by_cases ej : j = base
            · rw [ej, pk_us, show base + D - 1 - base = T from by omega, ← hmT]
            · rw [pk_un ej]
              exact hg1 j (by omega) hj2
          · rw [pk_un (by omega)]
            exact hg2 j (by omega)
        · have hT2 : T + 2 = D := by
            have h1 : ¬ n < 10 ^ (T + 1) := fun q => by
              have h0 := (Nat.div_eq_zero_iff_lt (Nat.pow_pos (by decide) (n := T + 1))).mpr q
              rw [hq1] at h0
              omega
            have h2 : n < 10 ^ (T + 2) := by
              have h0 : n / 10 ^ (T + 2) = 0 := by rw [hq2]; omega
              exact (Nat.div_eq_zero_iff_lt (Nat.pow_pos (by decide))).mp h0
            have h3 : 10 ^ (T + 1) < 10 ^ D := by omega
            have h4 := (Nat.pow_lt_pow_iff_right (by decide)).mp h3
            rcases d2 with d2 | d2
            · omega
            · have h5 : 10 ^ (D - 1) < 10 ^ (T + 2) := by omega
              have h6 := (Nat.pow_lt_pow_iff_right (by decide)).mp h5
              omega
          have hin2 : vp_in (nI (base + D - T - 2)) cap := vp_in_nI (by omega) (by omega)
          have e2 : ¬ -nI 9 ≤ -nI m := fun q => absurd ((sb_nle (a := 9) (by decide) hm).mp q) (by omega)
          refine V_iload_n dJ20_getChars_85 rfl ?_
          refine V_bipushv (-9) dJ20_getChars_86 (by decide) ?_
          refine V_icmp_ge 104 dJ20_getChars_88 (by decide) (fun c88 => absurd c88 e2) (fun _ => ?_)
          refine V_aload_n dJ20_getChars_91 rfl (Or.inl ⟨_, rfl⟩) ?_
          refine V_iinc dJ20_getChars_92 rfl (by decide) ?_
          rw [show nI (base + D - T - 1) + Int32.ofInt (-1) = nI (base + D - T - 2) from sb_m1 (by omega)]
          refine V_iload dJ20_getChars_95 rfl ?_
          refine V_gets (dt_Z ok) q724 rfl dJ20_getChars_97 ?_
          refine V_iload_n dJ20_getChars_100 rfl ?_
          refine V_ineg dJ20_getChars_101 ?_
          rw [Int32.neg_neg]
          refine V_baloadR (Or.inr (dt_ev ok).2) hinr q322 dJ20_getChars_102 ?_
          rw [nI_clamp (by omega)]
          refine V_bastore g_up_at (by first | assumption | omega | (simp only [g_new, g_up]; omega) | (simp only [g_new, g_up, g_B] at *; omega)) hin2 q322 dJ20_getChars_103 ?_
          rw [nI_clamp (by omega), c2.narB, g_up_up]
          refine V_iload dJ20_getChars_104 rfl ?_
          refine V_if_eq 118 dJ20_getChars_106 (by decide) (fun _ => ?_) (fun c106 => absurd rfl c106)
          refine V_iload dJ20_getChars_118 rfl ?_
          refine V_ireturn dJ20_getChars_120 rfl ?_
          rw [show base + D - T - 2 = base from by omega]
          refine k _ (fun j hj1 hj2 => ?_) (fun j hj => ?_)
          · by_cases ej : j = base
            · rw [ej, pk_us, show base + D - 1 - base = T + 1 from by omega, hq1]
              congr 2
              omega
            · rw [pk_un ej]
              by_cases ej2 : j = base + D - T - 1
              · rw [ej2, pk_us, show base + D - 1 - (base + D - T - 1) = T from by omega, ← hmT]
              · rw [pk_un ej2]
                exact hg1 j (by omega) hj2
          · rw [pk_un (by omega), pk_un (by omega)]
            exact hg2 j (by omega)
  refine V_iload_n dJ20_getChars_0 rfl ?_
  refine V_istore dJ20_getChars_1 (by decide) ?_
  refine V_iload_n dJ20_getChars_3 rfl ?_
  refine V_if_ge 11 dJ20_getChars_4 (by decide) (fun _ => ?_) (fun c4 => absurd (nI_pos' hn) c4)
  refine V_iconstv 0 dJ20_getChars_11 (by decide) ?_
  refine V_istore dJ20_getChars_12 (by decide) ?_
  refine V_iload dJ20_getChars_14 rfl ?_
  refine V_if_ne 22 dJ20_getChars_16 (by decide) (fun c16 => absurd c16 (fun q => q rfl)) (fun _ => ?_)
  refine V_iload_n dJ20_getChars_19 rfl ?_
  refine V_ineg dJ20_getChars_20 ?_
  refine V_istore_n dJ20_getChars_21 (by decide) ?_
  refine loop (n + 1) 0 n hn (Nat.lt_succ_self _) (by rw [Nat.pow_zero, Nat.div_one]) (by omega) f G (g_up_same hG).symm (fun j h1 h2 => absurd h2 (by omega)) (fun j _ => rfl) 0 0 _ ⟨rfl, rfl, rfl, rfl, trivial⟩
theorem sb5_appendI {n a m : Nat} {w : List Int32} {x : Int32} (H : SbAt E n G a w) (hx : x = nI m) (hm : m < 2 ^ 31) (hB : g_B E ≤ n) (hn : n ≤ G.2.1) (hl : w.length ≤ 140) (hf : g_fit E G 1 310) (kk : ∀ G', g_mod (fun z => z ≠ a ∧ ¬ SbAr G a z) G G' 1 310 → (∀ z, SbAr G' a z → SbAr G a z ∨ G.2.1 ≤ z) → SbAt E n G' a (w ++ dgs x) → P (.returned (some (.ref a))) G') : g_Spc l E mJ5_append_2 4 [.ref a, .int x] G P := by
  have edg : dgs x = wrF (ndF 9 m) m := by
    unfold dgs
    rw [hx, nI_clamp hm]
  obtain ⟨ml, cap, f, HB, q2, q3⟩ := H
  obtain ⟨ar0, b3⟩ : ∃ ar, G.1 a = some (g_ob 21 [.ref ar, .int 0, .int ml, .int (nI w.length)]) := by
    obtain ⟨-, ar, -, b3, -⟩ := HB
    exact ⟨ar, b3⟩
  have hD := ndF_le (f := 9) (n := m)
  refine V_intro (plainFor_of_name plJ5) (Nat.le_of_ble_eq_true rfl) ?_
  refine V_wf (fun wf hBG => ?_)
  refine V_aload_n dJ5_append_2_0 rfl (Or.inl ⟨_, rfl⟩) ?_
  refine V_get ckJ6 (by first | assumption | (repeat (first | exact g_up_at | exact g_new_at rfl | assumption | refine g_up_of (by first | assumption | (simp only [g_new, g_up]; omega) | omega) ?_ | refine g_new_of (by first | assumption | (simp only [g_new, g_up]; omega) | omega) ?_))) 3 (by decide) q312 rfl (by rfl) dJ5_append_2_1 ?_
  refine V_istore_n dJ5_append_2_4 (by decide) ?_
  refine V_iload_n dJ5_append_2_5 rfl ?_
  refine V_iload_n dJ5_append_2_6 rfl ?_
  refine V_callS kJ20_stringSize q716 q717 dJ5_append_2_7 ?_ (d' := 0) (as := [_]) (hst := rfl)
  refine (int_size hx hm ?_)
  refine V_iadd dJ5_append_2_10 ?_
  rw [nI_add]
  refine V_istore_n dJ5_append_2_11 (by decide) ?_
  refine V_aload_n dJ5_append_2_12 rfl (Or.inl ⟨_, rfl⟩) ?_
  refine V_iload_n dJ5_append_2_13 rfl ?_
  refine V_callP (q := (RJ6, TJ6, 4)) kJ5_ensureCapacityInternal q600 q602 q601 q3295 (Or.inl (by first | assumption | (repeat (first | exact g_up_at | exact g_new_at rfl | assumption | refine g_up_of (by first | assumption | (simp only [g_new, g_up]; omega) | omega) ?_ | refine g_new_of (by first | assumption | (simp only [g_new, g_up]; omega) | omega) ?_)))) rfl dJ5_append_2_14 ?_ (d' := 3) (as := [_]) (hst := rfl)
  refine (sb_ensure HB hB hn (by omega) hf (fun G1 cap1 f1 mo HB1 r1 r2 r3 r4 => ?_))
  have HB10 := HB1
  obtain ⟨a1, ar, a2, a3, a4, a5, a6⟩ := HB1
  have hara : ar ≠ a := g_apart a4 a3 (by intro e; cases e)
  have hBa : g_B E ≤ a := Nat.le_trans hB a1
  have hBar : g_B E ≤ ar := Nat.le_trans hB a2
  refine V_aload_n dJ5_append_2_17 rfl (Or.inl ⟨_, rfl⟩) ?_
  refine V_callV (q := (RJ6, TJ6, 4)) kJ5_isLatin1 q635 q636 q638 (by first | assumption | (repeat (first | exact g_up_at | exact g_new_at rfl | assumption | refine g_up_of (by first | assumption | (simp only [g_new, g_up]; omega) | omega) ?_ | refine g_new_of (by first | assumption | (simp only [g_new, g_up]; omega) | omega) ?_))) rfl dJ5_append_2_18 ?_ (d' := 0) (as := []) (hst := rfl)
  refine (sb_isLatin1 HB10 ?_)
  refine V_if_eq 37 dJ5_append_2_21 (by decide) (fun c21 => absurd c21 (by decide)) (fun _ => ?_)
  refine V_iload_n dJ5_append_2_24 rfl ?_
  refine V_iload_n dJ5_append_2_25 rfl ?_
  refine V_aload_n dJ5_append_2_26 rfl (Or.inl ⟨_, rfl⟩) ?_
  refine V_get ckJ6 (by first | assumption | (repeat (first | exact g_up_at | exact g_new_at rfl | assumption | refine g_up_of (by first | assumption | (simp only [g_new, g_up]; omega) | omega) ?_ | refine g_new_of (by first | assumption | (simp only [g_new, g_up]; omega) | omega) ?_))) 0 (by decide) q308 rfl (by rfl) dJ5_append_2_27 ?_
  refine V_callS kJ20_getChars q719 q720 dJ5_append_2_30 ?_ (d' := 0) (as := [_, _, _]) (hst := rfl)
  refine (int_getChars hx hm a4 hBar r1 a5 (fun g g1 g2 => ?_))
  refine V_pop dJ5_append_2_33 rfl ?_
  refine V_goto 48 dJ5_append_2_34 (by decide) ?_
  refine V_aload_n dJ5_append_2_48 rfl (Or.inl ⟨_, rfl⟩) ?_
  refine V_iload_n dJ5_append_2_49 rfl ?_
  refine V_put ckJ6 (g_up_of (Ne.symm hara) a3) (by first | assumption | omega | (simp only [g_new, g_up]; omega) | (simp only [g_new, g_up, g_B] at *; omega)) 3 (by decide) q312 rfl rfl rfl rfl (Nat.le_of_ble_eq_true rfl) dJ5_append_2_50 ?_
  refine V_aload_n dJ5_append_2_53 rfl (Or.inl ⟨_, rfl⟩) ?_
  refine V_areturnO dJ5_append_2_54 rfl ?_
  have ewl : (wrF (ndF 9 m) m).length = ndF 9 m := wrF_len
  rw [edg] at kk
  refine kk _ ?_ ?_ ⟨ml, cap1, g, ⟨a1, ar, a2, (by rw [g_up_self, List.length_append, ewl]; rfl), g_up_of hara g_up_at, a5, fun j hj => ?_⟩, ?_, fun k x hk => ?_⟩
  · obtain ⟨m1, m2, m3, m4, m5⟩ := mo
    refine ⟨fun z x hz hx => ?_, m2, m3, m4, m5⟩
    have hx1 := m1 z x hz.1 hx
    have hzar : z ≠ ar := fun e => by
      rcases r4 ar ⟨_, _, _, a3⟩ with h9 | h9
      · exact hz.2 (e ▸ h9)
      · have := wf _ _ hx; omega
    exact g_up_of hz.1 (g_up_of hzar hx1)
  · intro z hz
    obtain ⟨c9, ml9, cnt9, hz⟩ := hz
    rw [g_up_self] at hz
    cases hz
    exact r4 _ ⟨_, _, _, a3⟩
  · by_cases e : w.length ≤ j ∧ j < w.length + ndF 9 m
    · rw [g1 j e.1 e.2]
      exact dig_isC _ _
    · rw [g2 j (by omega)]; exact a6 j hj
  · rw [List.length_append, ewl]
    exact r1
  · by_cases e : k < w.length
    · rw [List.getElem?_append_left e] at hk
      rw [g2 k (Or.inl e), r3 k (by omega)]
      exact q3 k x hk
    · rw [List.getElem?_append_right (by omega)] at hk
      have hkl := (List.getElem?_eq_some_iff.mp hk).1
      rw [ewl] at hkl
      rw [wrF_at _ _ _ hkl] at hk
      cases hk
      rw [g1 k (by omega) (by omega), show w.length + ndF 9 m - 1 - k = ndF 9 m - 1 - (k - w.length) from by omega]
theorem sb_appendI {n a m : Nat} {w : List Int32} {x : Int32} (H : SbAt E n G a w) (hx : x = nI m) (hm : m < 2 ^ 31) (hB : g_B E ≤ n) (hn : n ≤ G.2.1) (hl : w.length ≤ 140) (hf : g_fit E G 1 310) (kk : ∀ G', g_mod (fun z => z ≠ a ∧ ¬ SbAr G a z) G G' 1 310 → (∀ z, SbAr G' a z → SbAr G a z ∨ G.2.1 ≤ z) → SbAt E n G' a (w ++ dgs x) → P (.returned (some (.ref a))) G') : g_Spc l E mJ6_append_2 5 [.ref a, .int x] G P := by
  obtain ⟨ar, ml, hc⟩ := H.cell
  refine V_intro (plainFor_of_name plJ6) (Nat.le_of_ble_eq_true rfl) ?_
  refine V_aload_n dJ6_append_2_0 rfl (Or.inl ⟨_, rfl⟩) ?_
  refine V_iload_n dJ6_append_2_1 rfl ?_
  refine V_callSup (q := (RJ6, TJ6, 4)) kJ5_append_2 (by decide) q713 q3300 q321 q714 (by first | assumption | (repeat (first | exact g_up_at | exact g_new_at rfl | assumption | refine g_up_of (by first | assumption | (simp only [g_new, g_up]; omega) | omega) ?_ | refine g_new_of (by first | assumption | (simp only [g_new, g_up]; omega) | omega) ?_))) rfl dJ6_append_2_2 ?_ (d' := 4) (as := [_]) (hst := rfl)
  refine (sb5_appendI H hx hm hB hn hl hf (fun G1 m h1 h2 => ?_))
  refine V_pop dJ6_append_2_5 rfl ?_
  refine V_aload_n dJ6_append_2_6 rfl (Or.inl ⟨_, rfl⟩) ?_
  refine V_areturnO dJ6_append_2_7 rfl ?_
  exact kk G1 m h1 h2
/-- setLength(0) -/
theorem sb5_clear {n a : Nat} {w : List Int32} (H : SbAt E n G a w) (hB : g_B E ≤ n) (hn : n ≤ G.2.1) (hf : g_fit E G 1 310) (kk : ∀ G', g_mod (fun z => z ≠ a) G G' 1 310 → (∀ z, SbAr G' a z → SbAr G a z ∨ G.2.1 ≤ z) → SbAt E n G' a [] → P (.returned none) G') : g_Spc l E mJ5_setLength 4 [.ref a, .int 0] G P := by
  obtain ⟨ml, cap, f, HB, q2, q3⟩ := H
  obtain ⟨ar0, b3⟩ : ∃ ar, G.1 a = some (g_ob 21 [.ref ar, .int 0, .int ml, .int (nI w.length)]) := by
    obtain ⟨-, ar, -, b3, -⟩ := HB
    exact ⟨ar, b3⟩
  have hwl : w.length ≤ 310 := by
    obtain ⟨-, ar, -, -, -, q, -⟩ := HB
    omega
  refine V_intro (plainFor_of_name plJ5) (Nat.le_of_ble_eq_true rfl) ?_
  refine V_iload_n dJ5_setLength_0 rfl ?_
  refine V_if_ge 13 dJ5_setLength_1 (by decide) (fun _ => ?_) (fun c1 => absurd (by decide) c1)
  refine V_aload_n dJ5_setLength_13 rfl (Or.inl ⟨_, rfl⟩) ?_
  refine V_iload_n dJ5_setLength_14 rfl ?_
  refine V_callP (q := (RJ6, TJ6, 4)) kJ5_ensureCapacityInternal q600 q602 q601 q3295 (Or.inl (by first | assumption | (repeat (first | exact g_up_at | exact g_new_at rfl | assumption | refine g_up_of (by first | assumption | (simp only [g_new, g_up]; omega) | omega) ?_ | refine g_new_of (by first | assumption | (simp only [g_new, g_up]; omega) | omega) ?_)))) rfl dJ5_setLength_15 ?_ (d' := 3) (as := [_]) (hst := rfl)
  refine (sb_ensure (q := 0) HB hB hn (by omega) hf (fun G1 cap1 f1 mo HB1 r1 r2 r3 r4 => ?_))
  obtain ⟨a1, ar, a2, a3, a4, a5, a6⟩ := HB1
  have hara : ar ≠ a := g_apart a4 a3 (by intro e; cases e)
  have hBa : g_B E ≤ a := Nat.le_trans hB a1
  have fin : ∀ (G2 : g_G) (ml2 : Int32), G2.1 ar = some (g_ab E cap1 f1) → G2.2 = G1.2 → g_ke (fun z => z ≠ a) G1 G2 → G2.1 a = some (g_ob 21 [.ref ar, .int 0, .int ml2, .int (nI w.length)]) → V l E mJ5_setLength 4 P 76 [(0, .ref a), (1, .int 0)] [] G2 := by
    intro G2 ml2 h1 h2 h3 h4
    refine V_aload_n dJ5_setLength_76 rfl (Or.inl ⟨_, rfl⟩) ?_
    refine V_iload_n dJ5_setLength_77 rfl ?_
    refine V_put ckJ6 (by first | assumption | (repeat (first | exact g_up_at | exact g_new_at rfl | assumption | refine g_up_of (by first | assumption | (simp only [g_new, g_up]; omega) | omega) ?_ | refine g_new_of (by first | assumption | (simp only [g_new, g_up]; omega) | omega) ?_))) (by first | assumption | omega | (simp only [g_new, g_up]; omega) | (simp only [g_new, g_up, g_B] at *; omega)) 3 (by decide) q312 rfl rfl rfl rfl (Nat.le_of_ble_eq_true rfl) dJ5_setLength_78 ?_
    refine V_return dJ5_setLength_81 rfl ?_
    refine kk _ ?_ ?_ ⟨ml2, cap1, f1, ⟨a1, ar, a2, g_up_at, g_up_of hara h1, a5, a6⟩, Nat.zero_le _, fun k c hk => by cases hk⟩
    · obtain ⟨m1, m2, m3, m4, m5⟩ := mo
      refine ⟨fun z x hz hx => g_up_of hz (h3 z x hz (m1 z x hz hx)), ?_, ?_, ?_, ?_⟩
      · show G.2.1 ≤ G2.2.1; rw [h2]; exact m2
      · show G2.2.1 ≤ _; rw [h2]; exact m3
      · show G.2.2 ≤ G2.2.2; rw [h2]; exact m4
      · show G2.2.2 ≤ _; rw [h2]; exact m5
    · intro z hz
      obtain ⟨c9, ml9, cnt9, hz⟩ := hz
      rw [g_up_self] at hz
      cases hz
      exact r4 _ ⟨_, _, _, a3⟩
  by_cases h0 : w.length = 0
  · have e0 : nI w.length ≤ 0 := by rw [h0]; decide
    refine V_aload_n dJ5_setLength_18 rfl (Or.inl ⟨_, rfl⟩) ?_
    refine V_get ckJ6 (by first | assumption | (repeat (first | exact g_up_at | exact g_new_at rfl | assumption | refine g_up_of (by first | assumption | (simp only [g_new, g_up]; omega) | omega) ?_ | refine g_new_of (by first | assumption | (simp only [g_new, g_up]; omega) | omega) ?_))) 3 (by decide) q312 rfl (by rfl) dJ5_setLength_19 ?_
    refine V_iload_n dJ5_setLength_22 rfl ?_
    refine V_icmp_ge 63 dJ5_setLength_23 (by decide) (fun _ => ?_) (fun c23 => absurd (nI_pos' (by omega)) c23)
    refine V_aload_n dJ5_setLength_63 rfl (Or.inl ⟨_, rfl⟩) ?_
    refine V_get ckJ6 (by first | assumption | (repeat (first | exact g_up_at | exact g_new_at rfl | assumption | refine g_up_of (by first | assumption | (simp only [g_new, g_up]; omega) | omega) ?_ | refine g_new_of (by first | assumption | (simp only [g_new, g_up]; omega) | omega) ?_))) 3 (by decide) q312 rfl (by rfl) dJ5_setLength_64 ?_
    refine V_iload_n dJ5_setLength_67 rfl ?_
    refine V_icmp_le 76 dJ5_setLength_68 (by decide) (fun _ => ?_) (fun c68 => absurd e0 c68)
    exact V_subk (fin G1 ml a4 rfl g_ke.refl a3) ⟨rfl, rfl, trivial⟩
  · refine V_aload_n dJ5_setLength_18 rfl (Or.inl ⟨_, rfl⟩) ?_
    refine V_get ckJ6 (by first | assumption | (repeat (first | exact g_up_at | exact g_new_at rfl | assumption | refine g_up_of (by first | assumption | (simp only [g_new, g_up]; omega) | omega) ?_ | refine g_new_of (by first | assumption | (simp only [g_new, g_up]; omega) | omega) ?_))) 3 (by decide) q312 rfl (by rfl) dJ5_setLength_19 ?_
    refine V_iload_n dJ5_setLength_22 rfl ?_
    refine V_icmp_ge 63 dJ5_setLength_23 (by decide) (fun _ => ?_) (fun c23 => absurd (nI_pos' (by omega)) c23)
    refine V_aload_n dJ5_setLength_63 rfl (Or.inl ⟨_, rfl⟩) ?_
    refine V_get ckJ6 (by first | assumption | (repeat (first | exact g_up_at | exact g_new_at rfl | assumption | refine g_up_of (by first | assumption | (simp only [g_new, g_up]; omega) | omega) ?_ | refine g_new_of (by first | assumption | (simp only [g_new, g_up]; omega) | omega) ?_))) 3 (by decide) q312 rfl (by rfl) dJ5_setLength_64 ?_
    refine V_iload_n dJ5_setLength_67 rfl ?_
    refine V_icmp_le 76 dJ5_setLength_68 (by decide) (fun c68 => absurd c68 (nI_nle (by omega) (by omega))) (fun _ => ?_)
    refine V_aload_n dJ5_setLength_71 rfl (Or.inl ⟨_, rfl⟩) ?_
    refine V_iconstv 1 dJ5_setLength_72 (by decide) ?_
    refine V_put ckJ6 (by first | assumption | (repeat (first | exact g_up_at | exact g_new_at rfl | assumption | refine g_up_of (by first | assumption | (simp only [g_new, g_up]; omega) | omega) ?_ | refine g_new_of (by first | assumption | (simp only [g_new, g_up]; omega) | omega) ?_))) (by first | assumption | omega | (simp only [g_new, g_up]; omega) | (simp only [g_new, g_up, g_B] at *; omega)) 2 (by decide) q310 rfl rfl rfl rfl (Nat.le_of_ble_eq_true rfl) dJ5_setLength_73 ?_
    exact V_subk (fin _ 1 (g_up_of hara a4) rfl (g_ke.up (fun q => q rfl) _) g_up_at) ⟨rfl, rfl, trivial⟩
theorem sb_clear {n a : Nat} {w : List Int32} (H : SbAt E n G a w) (hB : g_B E ≤ n) (hn : n ≤ G.2.1) (hf : g_fit E G 1 310) (kk : ∀ G', g_mod (fun z => z ≠ a) G G' 1 310 → (∀ z, SbAr G' a z → SbAr G a z ∨ G.2.1 ≤ z) → SbAt E n G' a [] → P (.returned none) G') : g_Spc l E mJ6_setLength 5 [.ref a, .int 0] G P := by
  obtain ⟨ar, ml, hc⟩ := H.cell
  refine V_intro (plainFor_of_name plJ6) (Nat.le_of_ble_eq_true rfl) ?_
  refine V_aload_n dJ6_setLength_0 rfl (Or.inl ⟨_, rfl⟩) ?_
  refine V_iload_n dJ6_setLength_1 rfl ?_
  refine V_callSup (q := (RJ6, TJ6, 4)) kJ5_setLength (by decide) q2544 q3304 q321 q2545 (by first | assumption | (repeat (first | exact g_up_at | exact g_new_at rfl | assumption | refine g_up_of (by first | assumption | (simp only [g_new, g_up]; omega) | omega) ?_ | refine g_new_of (by first | assumption | (simp only [g_new, g_up]; omega) | omega) ?_))) rfl dJ6_setLength_2 ?_ (d' := 4) (as := [_]) (hst := rfl)
  refine (sb5_clear H hB hn hf (fun G1 m h1 h2 => ?_))
  refine V_return dJ6_setLength_5 rfl ?_
  exact kk G1 m h1 h2
/-! toString -/
theorem arr_rangeB {a n m : Nat} {f : Nat → Int32} (h : G.1 a = some (g_ab E n f)) (hfit : ∀ j, j < n → isC (f j)) (hn : m ≤ n) (hm : n ≤ 310) (hf : g_fit E G 1 310) (kk : ∀ g : Nat → Int32, (∀ j, j < m → g j = f j) → P (.returned (some (.ref G.2.1))) (g_new G (g_ab E m g) m)) : g_Spc l E mJ18_copyOfRange 2 [.ref a, .int 0, .int (nI m)] G P := by
  obtain ⟨hf1, hf2⟩ := hf
  have part : ∀ (P' : Outcome → g_G → Prop), (∀ g : Nat → Int32, (∀ j, j < m → g j = f j) → P' (.returned (some (.ref G.2.1))) (g_new G (g_ab E m g) m)) → g_Spc l E mJ18_copyOfRangeByte 1 [.ref a, .int 0, .int (nI m)] G P' := by
    intro P' kP
    have chk : ∀ (P'' : Outcome → g_G → Prop), P'' (.returned none) G → g_Spc l E mJ18_checkLength 0 [.int 0, .int (nI m)] G P'' := by
      intro P'' k9
      refine V_intro (plainFor_of_name plJ18) (Nat.le_of_ble_eq_true rfl) ?_
      refine V_iload_n dJ18_checkLength_0 rfl ?_
      refine V_iload_n dJ18_checkLength_1 rfl ?_
      refine V_icmp_ge 37 dJ18_checkLength_2 (by decide) (fun _ => ?_) (fun c2 => absurd (nI_pos' (by omega)) c2)
      refine V_return dJ18_checkLength_37 rfl ?_
      exact k9
    refine V_intro (plainFor_of_name plJ18) (Nat.le_of_ble_eq_true rfl) ?_
    refine V_wf (fun wf hBG => ?_)
    have ha := wf.ne h
    refine V_iload_n dJ18_copyOfRangeByte_0 rfl ?_
    refine V_iload_n dJ18_copyOfRangeByte_1 rfl ?_
    refine V_callS kJ18_checkLength q768 q769 dJ18_copyOfRangeByte_2 ?_ (d' := 0) (as := [_, _]) (hst := rfl)
    refine (chk _ ?_)
    refine V_iload_n dJ18_copyOfRangeByte_5 rfl ?_
    refine V_iload_n dJ18_copyOfRangeByte_6 rfl ?_
    refine V_isub dJ18_copyOfRangeByte_7 ?_
    rw [Int32.sub_zero]
    refine V_istore_n dJ18_copyOfRangeByte_8 (by decide) ?_
    refine V_iload_n dJ18_copyOfRangeByte_9 rfl ?_
    refine V_newarray_byte m rfl (by omega) q322 dJ18_copyOfRangeByte_10 (by first | omega | (simp only [g_new, g_up]; omega)) (by first | omega | (simp only [g_new, g_up]; omega)) ?_
    refine V_astore dJ18_copyOfRangeByte_12 (Or.inl ⟨_, rfl⟩) (by decide) ?_
    refine V_aload_n dJ18_copyOfRangeByte_14 rfl (Or.inl ⟨_, rfl⟩) ?_
    refine V_iload_n dJ18_copyOfRangeByte_15 rfl ?_
    refine V_aload dJ18_copyOfRangeByte_16 rfl (Or.inl ⟨_, rfl⟩) ?_
    refine V_iconstv 0 dJ18_copyOfRangeByte_18 (by decide) ?_
    refine V_aload_n dJ18_copyOfRangeByte_19 rfl (Or.inl ⟨_, rfl⟩) ?_
    refine V_alen_b (g_new_of ha h) q322 dJ18_copyOfRangeByte_20 ?_
    refine V_iload_n dJ18_copyOfRangeByte_21 rfl ?_
    refine V_isub dJ18_copyOfRangeByte_22 ?_
    rw [Int32.sub_zero]
    refine V_iload_n dJ18_copyOfRangeByte_23 rfl ?_
    refine V_callS kJ17_min q629 q630 dJ18_copyOfRangeByte_24 ?_ (d' := 0) (as := [_, _]) (hst := rfl)
    refine (math_min ?_)
    rw [show i_min (nI n) (nI m) = nI m from by
      unfold i_min
      split
      · rfl
      · rename_i hh
        by_cases e : m = n
        · rw [e]
        · exact absurd (nI_lt (by omega) (by omega)) hh]
    refine V_copyB q632 q634 q633 q137 q322 (Or.inl (g_new_of ha h)) (g_new_at rfl) hBG (by decide) (by decide) (nI_pos (by omega)) (by rw [nI_clamp (by omega), sb_cl0]; omega) (by rw [nI_clamp (by omega), sb_cl0]; omega) ?_ (Nat.le_of_ble_eq_true rfl) (by decide) dJ18_copyOfRangeByte_27 ?_
    · intro i hi
      rw [nI_clamp (by omega)] at hi
      rw [sb_cl0, Nat.zero_add]
      exact (hfit i (by omega)).fitB
    · rw [nI_clamp (by omega), sb_cl0, g_new_up rfl]
      refine V_aload dJ18_copyOfRangeByte_30 rfl (Or.inl ⟨_, rfl⟩) ?_
      refine V_areturnA dJ18_copyOfRangeByte_32 rfl ?_
      exact kP _ (fun j hj => sb_cpy0 hj)
  refine V_intro (plainFor_of_name plJ18) (Nat.le_of_ble_eq_true rfl) ?_
  refine V_wf (fun wf hBG => ?_)
  by_cases e : m = n
  · subst e
    refine V_iload_n dJ18_copyOfRange_0 rfl ?_
    refine V_if_ne 10 dJ18_copyOfRange_1 (by decide) (fun c1 => absurd c1 (fun q => q rfl)) (fun _ => ?_)
    refine V_iload_n dJ18_copyOfRange_4 rfl ?_
    refine V_aload_n dJ18_copyOfRange_5 rfl (Or.inl ⟨_, rfl⟩) ?_
    refine V_alen_b (by first | assumption | (repeat (first | exact g_up_at | exact g_new_at rfl | assumption | refine g_up_of (by first | assumption | (simp only [g_new, g_up]; omega) | omega) ?_ | refine g_new_of (by first | assumption | (simp only [g_new, g_up]; omega) | omega) ?_))) q322 dJ18_copyOfRange_6 ?_
    refine V_icmp_eq 17 dJ18_copyOfRange_7 (by decide) (fun _ => ?_) (fun c7 => absurd rfl c7)
    refine V_aload_n dJ18_copyOfRange_17 rfl (Or.inl ⟨_, rfl⟩) ?_
    refine V_cloneB q622 q623 q624 q625 q626 q627 q322 h (fun i hi => (hfit i hi).fitB) (by first | omega | (simp only [g_new, g_up]; omega)) (by first | omega | (simp only [g_new, g_up]; omega)) (Nat.le_of_ble_eq_true rfl) (by decide) dJ18_copyOfRange_18 ?_
    refine V_castAB q628 q322 (g_new_at rfl) dJ18_copyOfRange_21 ?_
    refine V_areturnA dJ18_copyOfRange_24 rfl ?_
    exact kk f (fun _ _ => rfl)
  · refine V_iload_n dJ18_copyOfRange_0 rfl ?_
    refine V_if_ne 10 dJ18_copyOfRange_1 (by decide) (fun c1 => absurd c1 (fun q => q rfl)) (fun _ => ?_)
    refine V_iload_n dJ18_copyOfRange_4 rfl ?_
    refine V_aload_n dJ18_copyOfRange_5 rfl (Or.inl ⟨_, rfl⟩) ?_
    refine V_alen_b (by first | assumption | (repeat (first | exact g_up_at | exact g_new_at rfl | assumption | refine g_up_of (by first | assumption | (simp only [g_new, g_up]; omega) | omega) ?_ | refine g_new_of (by first | assumption | (simp only [g_new, g_up]; omega) | omega) ?_))) q322 dJ18_copyOfRange_6 ?_
    refine V_icmp_eq 17 dJ18_copyOfRange_7 (by decide) (fun c7 => absurd c7 (fun q => e ((nI_eq (by omega) (by omega)).mp q))) (fun _ => ?_)
    refine V_aload_n dJ18_copyOfRange_10 rfl (Or.inl ⟨_, rfl⟩) ?_
    refine V_iload_n dJ18_copyOfRange_11 rfl ?_
    refine V_iload_n dJ18_copyOfRange_12 rfl ?_
    refine V_callS kJ18_copyOfRangeByte q765 q766 dJ18_copyOfRange_13 ?_ (d' := 1) (as := [_, _, _]) (hst := rfl)
    refine (part _ (fun g hg => ?_))
    refine V_areturnA dJ18_copyOfRange_16 rfl ?_
    exact kk g hg
theorem sb_toString {n a : Nat} {w : List Int32} (H : SbAt E n G a w) (hf : g_fit E G 2 314) (kk : ∀ G', g_mod g_all G G' 2 314 → StrN E G' G.2.1 w → P (.returned (some (.ref G.2.1))) G') : g_Spc l E mJ6_toString 5 [.ref a] G P := by
  obtain ⟨ml, cap, f, HB, q2, q3⟩ := H
  obtain ⟨hf1, hf2⟩ := hf
  have HB0 := HB
  obtain ⟨a1, ar, a2, a3, a4, a5, a6⟩ := HB
  have getv : ∀ (G1 : g_G) (P' : Outcome → g_G → Prop), SbB E n G1 a ml w.length cap f → (∀ ar1, G1.1 ar1 = some (g_ab E cap f) → P' (.returned (some (.ref ar1))) G1) → g_Spc l E mJ5_getValue 0 [.ref a] G1 P' := by
    intro G1 P' HB1 kP
    obtain ⟨a1, ar, a2, a3, a4, a5, a6⟩ := HB1
    refine V_intro (plainFor_of_name plJ5) (Nat.le_of_ble_eq_true rfl) ?_
    refine V_aload_n dJ5_getValue_0 rfl (Or.inl ⟨_, rfl⟩) ?_
    refine V_get ckJ6 (by first | assumption | (repeat (first | exact g_up_at | exact g_new_at rfl | assumption | refine g_up_of (by first | assumption | (simp only [g_new, g_up]; omega) | omega) ?_ | refine g_new_of (by first | assumption | (simp only [g_new, g_up]; omega) | omega) ?_))) 0 (by decide) q308 rfl (by rfl) dJ5_getValue_1 ?_
    refine V_areturnA dJ5_getValue_4 rfl ?_
    exact kP ar a4
  refine V_intro (plainFor_of_name plJ6) (Nat.le_of_ble_eq_true rfl) ?_
  refine V_wf (fun wf hBG => ?_)
  have ha := wf.ne a3
  have har := wf.ne a4
  have init2 : ∀ (G0 : g_G) (P' : Outcome → g_G → Prop), G0 = g_new G (g_ob 22 [.null, .int 0, .int 0, .int 0]) 4 → (∀ g : Nat → Int32, (∀ j, j < w.length → g j = f j) → P' (.returned none) (g_up (g_new G0 (g_ab E w.length g) w.length) G.2.1 (g_ob 22 [.ref G0.2.1, .int 0, .int 0, .int 0]))) → g_Spc l E mJ7_init_2 3 [.ref G.2.1, .ref a, .null] G0 P' := by
    intro G0 P' hG0 kP
    subst hG0
    have HB1 : SbB E n (g_new G (g_ob 22 [.null, .int 0, .int 0, .int 0]) 4) a ml w.length cap f := HB0.ke2 (B := fun q => q ≠ G.2.1) (fun q x hq hx => g_new_of hq hx) ha (fun z hz => by
      obtain ⟨_, _, _, hz⟩ := hz
      rw [a3] at hz
      cases hz
      exact har)
    have b3 : (g_new G (g_ob 22 [.null, .int 0, .int 0, .int 0]) 4).1 a = some (g_ob 21 [.ref ar, .int 0, .int ml, .int (nI w.length)]) := g_new_of ha a3
    have b4 : (g_new G (g_ob 22 [.null, .int 0, .int 0, .int 0]) 4).1 ar = some (g_ab E cap f) := g_new_of har a4
    have blen : ∀ (P'' : Outcome → g_G → Prop), P'' (.returned (some (.int (nI w.length)))) (g_new G (g_ob 22 [.null, .int 0, .int 0, .int 0]) 4) → g_Spc l E mJ6_length 1 [.ref a] (g_new G (g_ob 22 [.null, .int 0, .int 0, .int 0]) 4) P'' := fun P'' k9 => sb_length (w := w) ⟨ml, cap, f, HB1, q2, q3⟩ k9
    refine V_intro (plainFor_of_name plJ7) (Nat.le_of_ble_eq_true rfl) ?_
    refine V_aload_n dJ7_init_2_0 rfl (Or.inl ⟨_, rfl⟩) ?_
    refine V_objInit q747 q170 q171 dJ7_init_2_1 (by decide) (by decide) ?_
    refine V_aload_n dJ7_init_2_4 rfl (Or.inl ⟨_, rfl⟩) ?_
    refine V_callV (q := (RJ6, TJ6, 4)) kJ5_getValue q748 q749 q751 b3 rfl dJ7_init_2_5 ?_ (d' := 0) (as := []) (hst := rfl)
    refine (getv _ _ HB1 (fun ar1 har1 => ?_))
    refine V_astore_n dJ7_init_2_8 (Or.inl ⟨_, rfl⟩) (by decide) ?_
    refine V_aload_n dJ7_init_2_9 rfl (Or.inl ⟨_, rfl⟩) ?_
    refine V_callU (q := (RJ6, TJ6, 4)) (x := ⟨"java/lang/AbstractStringBuilder", "length", "()I"⟩) (owner := "java/lang/AbstractStringBuilder") kJ6_length q753 q755 (Or.inr ⟨mJ5_length, kJ5_length.1, q754, rfl⟩) ⟨by decide +kernel, by decide +kernel⟩ (by decide +kernel) q757 q756 b3 rfl dJ7_init_2_10 ?_ (d' := 1) (as := []) (hst := rfl)
    refine (blen _ ?_)
    refine V_istore dJ7_init_2_13 (by decide) ?_
    refine V_aload_n dJ7_init_2_15 rfl (Or.inl ⟨_, rfl⟩) ?_
    refine V_callV (q := (RJ6, TJ6, 4)) kJ5_isLatin1 q761 q636 q638 b3 rfl dJ7_init_2_16 ?_ (d' := 0) (as := []) (hst := rfl)
    refine (sb_isLatin1 HB1 ?_)
    refine V_if_eq 41 dJ7_init_2_19 (by decide) (fun c19 => absurd c19 (by decide)) (fun _ => ?_)
    refine V_aload_n dJ7_init_2_22 rfl (Or.inl ⟨_, rfl⟩) ?_
    refine V_iconstv 0 dJ7_init_2_23 (by decide) ?_
    refine V_putF ckJ7 (g_new_at rfl) hBG 1 (by decide) q814 rfl rfl rfl rfl rfl rfl (Nat.le_of_ble_eq_true rfl) dJ7_init_2_24 ?_
    refine V_aload_n dJ7_init_2_27 rfl (Or.inl ⟨_, rfl⟩) ?_
    refine V_aload_n dJ7_init_2_28 rfl (Or.inl ⟨_, rfl⟩) ?_
    refine V_iconstv 0 dJ7_init_2_29 (by decide) ?_
    refine V_iload dJ7_init_2_30 rfl ?_
    rw [g_new_up rfl]
    have har1' : ar1 ≠ G.2.1 := g_apart har1 (g_new_at rfl) (by intro e; cases e)
    have hx1 : (g_new G (g_ob 22 [.null, .int 0, .int 0, .int 0]) 4).1 ar1 = some (g_ab E cap f) := har1
    refine V_callS kJ18_copyOfRange q762 q763 dJ7_init_2_32 ?_ (d' := 2) (as := [_, _, _]) (hst := rfl)
    refine (arr_rangeB hx1 a6 q2 a5 ⟨by simp only [g_new]; omega, by simp only [g_new]; omega⟩ (fun g hg => ?_))
    refine V_putF ckJ7 (g_new_of (by simp only [g_new]; omega) (g_new_at rfl)) hBG 0 (by decide) q813 rfl rfl rfl rfl rfl rfl (Nat.le_of_ble_eq_true rfl) dJ7_init_2_35 ?_
    refine V_goto 97 dJ7_init_2_38 (by decide) ?_
    refine V_return dJ7_init_2_97 rfl ?_
    exact kP g hg
  have init1 : ∀ (G0 : g_G) (P' : Outcome → g_G → Prop), G0 = g_new G (g_ob 22 [.null, .int 0, .int 0, .int 0]) 4 → (∀ g : Nat → Int32, (∀ j, j < w.length → g j = f j) → P' (.returned none) (g_up (g_new G0 (g_ab E w.length g) w.length) G.2.1 (g_ob 22 [.ref G0.2.1, .int 0, .int 0, .int 0]))) → g_Spc l E mJ7_init 4 [.ref G.2.1, .ref a] G0 P' := by
    intro G0 P' hG0 kP
    refine V_intro (plainFor_of_name plJ7) (Nat.le_of_ble_eq_true rfl) ?_
    refine V_aload_n dJ7_init_0 rfl (Or.inl ⟨_, rfl⟩) ?_
    refine V_aload_n dJ7_init_1 rfl (Or.inl ⟨_, rfl⟩) ?_
    refine V_null dJ7_init_2 ?_
    refine V_callI kJ7_init_2 rfl rfl q744 q745 dJ7_init_3 ?_ (d' := 3) (as := [_, _]) (hst := rfl)
    refine (init2 _ _ hG0 (fun g hg => ?_))
    refine V_return dJ7_init_6 rfl ?_
    exact kP g hg
  refine V_new ckJ7 q739 dJ6_toString_0 (by first | omega | (simp only [g_new, g_up]; omega)) (by first | omega | (simp only [g_new, g_up]; omega)) ?_
  refine V_dup dJ6_toString_3 rfl ?_
  refine V_aload_n dJ6_toString_4 rfl (Or.inl ⟨_, rfl⟩) ?_
  refine V_callI kJ7_init rfl rfl q741 q742 dJ6_toString_5 ?_ (d' := 4) (as := [_]) (hst := rfl)
  refine (init1 _ _ rfl (fun g hg => ?_))
  refine V_areturnO dJ6_toString_8 rfl ?_
  refine kk _ ⟨?_, ?_, ?_, ?_, ?_⟩ ⟨G.2.1 + 1, g_up_at, g, g_up_of (by omega) (g_new_at rfl), fun k c hk => ?_, by omega⟩
  · intro q x _ hx
    have hq := wf _ _ hx
    exact g_up_of (by omega) (g_new_of (by simp only [g_new]; omega) (g_new_of (by omega) hx))
  · simp only [g_new, g_up]; omega
  · simp only [g_new, g_up]; omega
  · simp only [g_new, g_up]; omega
  · simp only [g_new, g_up]; omega
  · rw [hg k (List.getElem?_eq_some_iff.mp hk).1]
    exact q3 k c hk
end SB2
