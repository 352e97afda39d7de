/-! MODULE String: contains -/
set_option maxRecDepth 100000
def hasS (u : List Int32) : List Int32 → Bool
  | [] => u.isPrefixOf []
  | x :: t => u.isPrefixOf (x :: t) || hasS u t
theorem hasS_step {u w : List Int32} {i : Nat} (hi : i < w.length) : hasS u (w.drop i) = (u.isPrefixOf (w.drop i) || hasS u (w.drop (i + 1))) := by
  obtain ⟨x, hx, e⟩ := drop_at hi
  rw [e]
  rfl
theorem hasS_short {u : List Int32} : ∀ L : List Int32, L.length < u.length → hasS u L = false
  | [], h => by
    cases u with
    | nil => exact absurd h (Nat.not_lt_zero _)
    | cons a t => rfl
  | x :: t, h => by
    have h : t.length + 1 < u.length := h
    have e : u.isPrefixOf (x :: t) = false := by
      cases hb : u.isPrefixOf (x :: t) with
      | false => rfl
      | true =>
        have := (List.isPrefixOf_iff_prefix.mp hb).length_le
        have : u.length ≤ t.length + 1 := this
        omega
    show (u.isPrefixOf (x :: t) || hasS u t) = false
    rw [e, hasS_short t (by omega)]
    rfl
theorem pfx_of {u w : List Int32} {i : Nat} (h : ∀ j, j < u.length → w[i + j]? = u[j]?) : u.isPrefixOf (w.drop i) = true := by
  refine List.isPrefixOf_iff_prefix.mpr (List.prefix_iff_getElem?.mpr fun j hj => ?_)
  rw [List.getElem?_drop, h j hj, List.getElem?_eq_getElem hj]
theorem pfx_no {u w : List Int32} {i j : Nat} (hj : j < u.length) (h : w[i + j]? ≠ u[j]?) : u.isPrefixOf (w.drop i) = false := by
  cases hb : u.isPrefixOf (w.drop i) with
  | false => rfl
  | true =>
    have q := List.prefix_iff_getElem?.mp (List.isPrefixOf_iff_prefix.mp hb) j hj
    rw [List.getElem?_drop] at q
    rw [q, List.getElem?_eq_getElem hj] at h
    exact absurd rfl h
section SEARCH
variable {l : Launch} {E : g_E} {P : Outcome → g_G → Prop} {G : g_G}
theorem la_search {va vb : Nat} {w u : List Int32} {f g : Nat → Int32} (hA : g_rdA E G va .byte (w.length, .inl f)) (hf : ∀ k x, w[k]? = some x → f k = x) (hA2 : g_rdA E G vb .byte (u.length, .inl g)) (hg : ∀ k x, u[k]? = some x → g k = x) (hl : w.length < 2 ^ 20) (hu : 0 < u.length) (huw : u.length ≤ w.length) (kk : ∀ r : Int32, (hasS u w = true → ∃ j, j < 2 ^ 20 ∧ r = nI j) → (hasS u w = false → r = -1) → P (.returned (some (.int r))) G) : g_Spc l E mJ19_indexOf_3 0 [.ref va, .int (nI w.length), .ref vb, .int (nI u.length), .int 0] G P := by
  obtain ⟨u0, hu0, -⟩ := drop_at hu
  have hin0 : vp_in (nI 0) u.length := vp_in_nI hu (by omega)
  refine V_intro (plainFor_of_name plJ19) (Nat.le_of_ble_eq_true rfl) ?_
  generalize hm : w.length - u.length = m
  have end14 : ∀ i, m < i → i ≤ w.length + 1 → hasS u w = hasS u (w.drop i) → V l E mJ19_indexOf_3 0 P 14 [(0, .ref va), (1, .int (nI w.length)), (2, .ref vb), (3, .int (nI u.length)), (4, .int 0), (5, .int u0), (6, .int (nI m)), (7, .int (nI i))] [] G := by
    intro i h1 h2 h3
    have e : hasS u w = false := by
      rw [h3]
      refine hasS_short _ ?_
      rw [List.length_drop]
      omega
    refine V_iload dJ19_indexOf_3_14 rfl ?_
    refine V_iload dJ19_indexOf_3_16 rfl ?_
    refine V_icmp_gt 119 dJ19_indexOf_3_18 (by decide) (fun _ => ?_) (fun c18 => absurd (nI_lt h1 (by omega)) c18)
    refine V_iconstv (-1) dJ19_indexOf_3_119 (by decide) ?_
    refine V_ireturn dJ19_indexOf_3_120 rfl ?_
    exact kk _ (fun q => by rw [e] at q; cases q) (fun _ => rfl)
  have main : ∀ i, i ≤ m + 1 → (hasS u w = hasS u (w.drop i) → V l E mJ19_indexOf_3 0 P 14 [(0, .ref va), (1, .int (nI w.length)), (2, .ref vb), (3, .int (nI u.length)), (4, .int 0), (5, .int u0), (6, .int (nI m)), (7, .int (nI i))] [] G) ∧ (hasS u w = hasS u (w.drop i) → i ≤ m → w[i]? ≠ some u0 → V l E mJ19_indexOf_3 0 P 30 [(0, .ref va), (1, .int (nI w.length)), (2, .ref vb), (3, .int (nI u.length)), (4, .int 0), (5, .int u0), (6, .int (nI m)), (7, .int (nI i))] [] G) ∧ (hasS u w = hasS u (w.drop i) → (m < i ∨ w[i]? = some u0) → V l E mJ19_indexOf_3 0 P 52 [(0, .ref va), (1, .int (nI w.length)), (2, .ref vb), (3, .int (nI u.length)), (4, .int 0), (5, .int u0), (6, .int (nI m)), (7, .int (nI i))] [] G) := by
    refine down _ ?_ ?_
    · refine ⟨end14 (m + 1) (by omega) (by omega), fun _ h => absurd h (by omega), fun h3 _ => ?_⟩
      have e : hasS u w = hasS u (w.drop (m + 1 + 1)) := by
        have e1 : hasS u (w.drop (m + 1)) = false := hasS_short _ (by rw [List.length_drop]; omega)
        have e2 : hasS u (w.drop (m + 1 + 1)) = false := hasS_short _ (by rw [List.length_drop]; omega)
        rw [h3, e1, e2]
      refine V_iload dJ19_indexOf_3_52 rfl ?_
      refine V_iload dJ19_indexOf_3_54 rfl ?_
      refine V_icmp_gt 113 dJ19_indexOf_3_56 (by decide) (fun _ => ?_) (fun c56 => absurd (nI_lt (by omega) (by omega)) c56)
      refine V_iinc dJ19_indexOf_3_113 rfl (by decide) ?_
      refine V_goto 14 dJ19_indexOf_3_116 (by decide) ?_
      refine V_subk (end14 (m + 1 + 1) (by omega) (by omega) e) ⟨rfl, rfl, rfl, rfl, rfl, rfl, rfl, ?_, trivial⟩
      rw [← nI_1 (m + 1)]; rfl
    · intro i hi ih
      obtain ⟨ih1, ih2, ih3⟩ := ih
      have hiw : i < w.length := by omega
      obtain ⟨x, hx, -⟩ := drop_at hiw
      have hin : vp_in (nI i) w.length := vp_in_nI hiw (by omega)
      have s30 : hasS u w = hasS u (w.drop i) → i ≤ m → w[i]? ≠ some u0 → V l E mJ19_indexOf_3 0 P 30 [(0, .ref va), (1, .int (nI w.length)), (2, .ref vb), (3, .int (nI u.length)), (4, .int 0), (5, .int u0), (6, .int (nI m)), (7, .int (nI i))] [] G := by
        intro h3 _ hne
        have e : hasS u w = hasS u (w.drop (i + 1)) := by
          rw [h3, hasS_step hiw, pfx_no (j := 0) hu (by rw [Nat.add_zero, hu0]; exact hne), Bool.false_or]
        refine V_iinc dJ19_indexOf_3_30 rfl (by decide) ?_
        refine V_sub (L' := [(0, .ref va), (1, .int (nI w.length)), (2, .ref vb), (3, .int (nI u.length)), (4, .int 0), (5, .int u0), (6, .int (nI m)), (7, .int (nI (i + 1)))]) ⟨rfl, rfl, rfl, rfl, rfl, rfl, rfl, (by rw [← nI_1 i]; rfl), trivial⟩ ?_
        by_cases hlast : i + 1 ≤ m
        · have hin1 : vp_in (nI (i + 1)) w.length := vp_in_nI (by omega) (by omega)
          obtain ⟨y, hy, -⟩ := drop_at (show i + 1 < w.length by omega)
          refine V_iload dJ19_indexOf_3_33 rfl ?_
          refine V_iload dJ19_indexOf_3_35 rfl ?_
          refine V_icmp_gt 52 dJ19_indexOf_3_37 (by decide) (fun c37 => absurd c37 (nI_nlt hlast (by omega))) (fun _ => ?_)
          refine V_aload_n dJ19_indexOf_3_40 rfl (Or.inl ⟨_, rfl⟩) ?_
          refine V_iload dJ19_indexOf_3_41 rfl ?_
          refine V_baloadR hA hin1 q322 dJ19_indexOf_3_43 ?_
          rw [nI_clamp (by omega), hf _ y hy]
          refine V_iload dJ19_indexOf_3_44 rfl ?_
          refine V_icmp_eq 52 dJ19_indexOf_3_46 (by decide) (fun c46 => ?_) (fun c46 => ?_)
          · exact V_subk (ih3 e (Or.inr (by rw [hy, c46]))) ⟨rfl, rfl, rfl, rfl, rfl, rfl, rfl, rfl, trivial⟩
          · refine V_goto 30 dJ19_indexOf_3_49 (by decide) ?_
            exact V_subk (ih2 e hlast (by rw [hy]; exact fun q => c46 (Option.some.inj q))) ⟨rfl, rfl, rfl, rfl, rfl, rfl, rfl, rfl, trivial⟩
        · refine V_iload dJ19_indexOf_3_33 rfl ?_
          refine V_iload dJ19_indexOf_3_35 rfl ?_
          refine V_icmp_gt 52 dJ19_indexOf_3_37 (by decide) (fun _ => ?_) (fun c37 => absurd (nI_lt (by omega) (by omega)) c37)
          exact V_subk (ih3 e (Or.inl (by omega))) ⟨rfl, rfl, rfl, rfl, rfl, rfl, rfl, rfl, trivial⟩
      have s52 : hasS u w = hasS u (w.drop i) → (m < i ∨ w[i]? = some u0) → V l E mJ19_indexOf_3 0 P 52 [(0, .ref va), (1, .int (nI w.length)), (2, .ref vb), (3, .int (nI u.length)), (4, .int 0), (5, .int u0), (6, .int (nI m)), (7, .int (nI i))] [] G := by
        intro h3 h4
        have h4 : w[i]? = some u0 := h4.resolve_left (by omega)
        have next : u.isPrefixOf (w.drop i) = false → ∀ L', g_subL [(0, .ref va), (1, .int (nI w.length)), (2, .ref vb), (3, .int (nI u.length)), (4, .int 0), (5, .int u0), (6, .int (nI m)), (7, .int (nI (i + 1)))] L' → V l E mJ19_indexOf_3 0 P 14 L' [] G := by
          intro hp L' hL
          exact V_subk (ih1 (by rw [h3, hasS_step hiw, hp, Bool.false_or])) hL
        have inner : ∀ k, k ≤ u.length → 1 ≤ k → (∀ j, j < k → w[i + j]? = u[j]?) → V l E mJ19_indexOf_3 0 P 76 [(0, .ref va), (1, .int (nI w.length)), (2, .ref vb), (3, .int (nI u.length)), (4, .int 0), (5, .int u0), (6, .int (nI m)), (7, .int (nI i)), (8, .int (nI (i + k))), (9, .int (nI (i + u.length))), (10, .int (nI k))] [] G := by
          refine down _ ?_ ?_
          · intro _ hk
            have e : hasS u w = true := by
              rw [h3, hasS_step hiw, pfx_of hk, Bool.true_or]
            refine V_iload dJ19_indexOf_3_76 rfl ?_
            refine V_iload dJ19_indexOf_3_78 rfl ?_
            refine V_icmp_ge 103 dJ19_indexOf_3_80 (by decide) (fun _ => ?_) (fun c80 => absurd (Int32.le_refl _) c80)
            refine V_iload dJ19_indexOf_3_103 rfl ?_
            refine V_iload dJ19_indexOf_3_105 rfl ?_
            refine V_icmp_ne 113 dJ19_indexOf_3_107 (by decide) (fun c107 => absurd c107 (fun q => q rfl)) (fun _ => ?_)
            refine V_iload dJ19_indexOf_3_110 rfl ?_
            refine V_ireturn dJ19_indexOf_3_112 rfl ?_
            exact kk _ (fun _ => ⟨i, by omega, rfl⟩) (fun q => by rw [e] at q; cases q)
          · intro k hk ihk h1k hpre
            have hiku : i + k < w.length := by omega
            obtain ⟨y, hy, -⟩ := drop_at hiku
            obtain ⟨z, hz, -⟩ := drop_at hk
            have hin1 : vp_in (nI (i + k)) w.length := vp_in_nI hiku (by omega)
            have hin2 : vp_in (nI k) u.length := vp_in_nI hk (by omega)
            refine V_iload dJ19_indexOf_3_76 rfl ?_
            refine V_iload dJ19_indexOf_3_78 rfl ?_
            refine V_icmp_ge 103 dJ19_indexOf_3_80 (by decide) (fun c80 => absurd c80 (nI_ge (by omega) (by omega))) (fun _ => ?_)
            refine V_aload_n dJ19_indexOf_3_83 rfl (Or.inl ⟨_, rfl⟩) ?_
            refine V_iload dJ19_indexOf_3_84 rfl ?_
            refine V_baloadR hA hin1 q322 dJ19_indexOf_3_86 ?_
            rw [nI_clamp (by omega), hf _ y hy]
            refine V_aload_n dJ19_indexOf_3_87 rfl (Or.inl ⟨_, rfl⟩) ?_
            refine V_iload dJ19_indexOf_3_88 rfl ?_
            refine V_baloadR hA2 hin2 q322 dJ19_indexOf_3_90 ?_
            rw [nI_clamp (by omega), hg _ z hz]
            refine V_icmp_ne 103 dJ19_indexOf_3_91 (by decide) (fun c91 => ?_) (fun c91 => ?_)
            · refine V_iload dJ19_indexOf_3_103 rfl ?_
              refine V_iload dJ19_indexOf_3_105 rfl ?_
              refine V_icmp_ne 113 dJ19_indexOf_3_107 (by decide) (fun _ => ?_) (fun c107 => absurd c107 (fun q => absurd ((nI_eq (by omega) (by omega)).mp q) (by omega)))
              refine V_iinc dJ19_indexOf_3_113 rfl (by decide) ?_
              refine V_goto 14 dJ19_indexOf_3_116 (by decide) ?_
              refine next (pfx_no hk (by rw [hy, hz]; exact fun q => c91 (Option.some.inj q))) _ ⟨rfl, rfl, rfl, rfl, rfl, rfl, rfl, ?_, trivial⟩
              rw [← nI_1 i]; rfl
            · refine V_iinc dJ19_indexOf_3_94 rfl (by decide) ?_
              refine V_iinc dJ19_indexOf_3_97 rfl (by decide) ?_
              refine V_goto 76 dJ19_indexOf_3_100 (by decide) ?_
              refine V_subk (ihk (by omega) (fun j hj => ?_)) ⟨rfl, rfl, rfl, rfl, rfl, rfl, rfl, rfl, ?_, rfl, ?_, trivial⟩
              · by_cases ej : j = k
                · subst ej
                  rw [hy, hz, c91]
                · exact hpre j (by omega)
              · rw [show i + (k + 1) = (i + k) + 1 from rfl, ← nI_1 (i + k)]; rfl
              · rw [← nI_1 k]; rfl
        refine V_iload dJ19_indexOf_3_52 rfl ?_
        refine V_iload dJ19_indexOf_3_54 rfl ?_
        refine V_icmp_gt 113 dJ19_indexOf_3_56 (by decide) (fun c56 => absurd c56 (nI_nlt (by omega) (by omega))) (fun _ => ?_)
        refine V_iload dJ19_indexOf_3_59 rfl ?_
        refine V_iconstv 1 dJ19_indexOf_3_61 (by decide) ?_
        refine V_iadd dJ19_indexOf_3_62 ?_
        rw [show nI i + 1 = nI (i + 1) from nI_1 i]
        refine V_istore dJ19_indexOf_3_63 (by decide) ?_
        refine V_iload dJ19_indexOf_3_65 rfl ?_
        refine V_iload_n dJ19_indexOf_3_67 rfl ?_
        refine V_iadd dJ19_indexOf_3_68 ?_
        rw [show nI (i + 1) + nI u.length = nI (i + 1 + u.length) from nI_add _ _]
        refine V_iconstv 1 dJ19_indexOf_3_69 (by decide) ?_
        refine V_isub dJ19_indexOf_3_70 ?_
        rw [show nI (i + 1 + u.length) - 1 = nI (i + u.length) from by rw [show i + 1 + u.length = (i + u.length) + 1 from by omega]; exact nI_pred _]
        refine V_istore dJ19_indexOf_3_71 (by decide) ?_
        refine V_iconstv 1 dJ19_indexOf_3_73 (by decide) ?_
        refine V_istore dJ19_indexOf_3_74 (by decide) ?_
        exact V_subk (inner 1 (by omega) (Nat.le_refl _) (fun j hj => by
          have : j = 0 := by omega
          subst this
          rw [Nat.add_zero, h4, hu0])) ⟨rfl, rfl, rfl, rfl, rfl, rfl, rfl, rfl, rfl, rfl, rfl, trivial⟩
      refine ⟨fun h3 => ?_, s30, s52⟩
      refine V_iload dJ19_indexOf_3_14 rfl ?_
      refine V_iload dJ19_indexOf_3_16 rfl ?_
      refine V_icmp_gt 119 dJ19_indexOf_3_18 (by decide) (fun c18 => absurd c18 (nI_nlt (by omega) (by omega))) (fun _ => ?_)
      refine V_aload_n dJ19_indexOf_3_21 rfl (Or.inl ⟨_, rfl⟩) ?_
      refine V_iload dJ19_indexOf_3_22 rfl ?_
      refine V_baloadR hA hin q322 dJ19_indexOf_3_24 ?_
      rw [nI_clamp (by omega), hf _ x hx]
      refine V_iload dJ19_indexOf_3_25 rfl ?_
      refine V_icmp_eq 52 dJ19_indexOf_3_27 (by decide) (fun c27 => ?_) (fun c27 => ?_)
      · exact V_subk (s52 h3 (Or.inr (by rw [hx, c27]))) ⟨rfl, rfl, rfl, rfl, rfl, rfl, rfl, rfl, trivial⟩
      · exact V_subk (s30 h3 (by omega) (by rw [hx]; exact fun q => c27 (Option.some.inj q))) ⟨rfl, rfl, rfl, rfl, rfl, rfl, rfl, rfl, trivial⟩
  refine V_aload_n dJ19_indexOf_3_0 rfl (Or.inl ⟨_, rfl⟩) ?_
  refine V_iconstv 0 dJ19_indexOf_3_1 (by decide) ?_
  refine V_baloadR hA2 hin0 q322 dJ19_indexOf_3_2 ?_
  rw [sb_cl0, hg 0 u0 hu0]
  refine V_istore dJ19_indexOf_3_3 (by decide) ?_
  refine V_iload_n dJ19_indexOf_3_5 rfl ?_
  refine V_iload_n dJ19_indexOf_3_6 rfl ?_
  refine V_isub dJ19_indexOf_3_7 ?_
  rw [pk_sub huw, hm]
  refine V_istore dJ19_indexOf_3_8 (by decide) ?_
  refine V_iload dJ19_indexOf_3_10 rfl ?_
  refine V_istore dJ19_indexOf_3_12 (by decide) ?_
  exact V_subk ((main 0 (Nat.zero_le _)).1 rfl) ⟨rfl, rfl, rfl, rfl, rfl, rfl, rfl, rfl, trivial⟩
theorem la_search2 {va vb : Nat} {w u : List Int32} {f g : Nat → Int32} (hA : g_rdA E G va .byte (w.length, .inl f)) (hf : ∀ k x, w[k]? = some x → f k = x) (hA2 : g_rdA E G vb .byte (u.length, .inl g)) (hg : ∀ k x, u[k]? = some x → g k = x) (hl : w.length < 2 ^ 20) (hu : 0 < u.length) (huw : u.length ≤ w.length) (kk : ∀ r : Int32, (hasS u w = true → ∃ j, j < 2 ^ 20 ∧ r = nI j) → (hasS u w = false → r = -1) → P (.returned (some (.int r))) G) : g_Spc l E mJ19_indexOf_2 1 [.ref va, .ref vb] G P := by
  refine V_intro (plainFor_of_name plJ19) (Nat.le_of_ble_eq_true rfl) ?_
  refine V_aload_n dJ19_indexOf_2_0 rfl (Or.inl ⟨_, rfl⟩) ?_
  refine V_alenR_b hA2 q322 dJ19_indexOf_2_1 ?_
  refine V_if_ne 7 dJ19_indexOf_2_2 (by decide) (fun _ => ?_) (fun c2 => absurd c2 (nI_ne0 hu (by omega)))
  refine V_aload_n dJ19_indexOf_2_7 rfl (Or.inl ⟨_, rfl⟩) ?_
  refine V_alenR_b hA q322 dJ19_indexOf_2_8 ?_
  refine V_if_ne 14 dJ19_indexOf_2_9 (by decide) (fun _ => ?_) (fun c9 => absurd c9 (nI_ne0 (by omega) (by omega)))
  refine V_aload_n dJ19_indexOf_2_14 rfl (Or.inl ⟨_, rfl⟩) ?_
  refine V_aload_n dJ19_indexOf_2_15 rfl (Or.inl ⟨_, rfl⟩) ?_
  refine V_alenR_b hA q322 dJ19_indexOf_2_16 ?_
  refine V_aload_n dJ19_indexOf_2_17 rfl (Or.inl ⟨_, rfl⟩) ?_
  refine V_aload_n dJ19_indexOf_2_18 rfl (Or.inl ⟨_, rfl⟩) ?_
  refine V_alenR_b hA2 q322 dJ19_indexOf_2_19 ?_
  refine V_iconstv 0 dJ19_indexOf_2_20 (by decide) ?_
  refine V_callS kJ19_indexOf_3 q2450 q2451 dJ19_indexOf_2_21 ?_ (d' := 0) (as := [_, _, _, _, _]) (hst := rfl)
  refine (la_search hA hf hA2 hg hl hu huw (fun r h1 h2 => ?_))
  refine V_ireturn dJ19_indexOf_2_24 rfl ?_
  exact kk r h1 h2
theorem str_search {a b : Nat} {w u : List Int32} {h z h' z' : Int32} (H : StrR E G a w h z) (K : StrR E G b u h' z') (hl : w.length < 2 ^ 20) (hu : 0 < u.length) (huw : u.length ≤ w.length) (kk : ∀ r : Int32, (hasS u w = true → ∃ j, j < 2 ^ 20 ∧ r = nI j) → (hasS u w = false → r = -1) → P (.returned (some (.int r))) G) : g_Spc l E mJ7_indexOf_3 2 [.ref a, .ref b] G P := by
  have H0 := H
  have K0 := K
  obtain ⟨va, h1, f, h2, h3⟩ := H
  obtain ⟨vb, g1, g, g2, g3⟩ := K
  refine V_intro (plainFor_of_name plJ7) (Nat.le_of_ble_eq_true rfl) ?_
  refine V_aload_n dJ7_indexOf_3_0 rfl (Or.inl ⟨_, rfl⟩) ?_
  refine V_callVR (q := (RJ7, TJ7, 4)) kJ7_coder q670 q671 q672 h1 rfl dJ7_indexOf_3_1 ?_ (d' := 0) (as := []) (hst := rfl)
  refine (str_coder H0 ?_)
  refine V_istore_n dJ7_indexOf_3_4 (by decide) ?_
  refine V_iload_n dJ7_indexOf_3_5 rfl ?_
  refine V_aload_n dJ7_indexOf_3_6 rfl (Or.inl ⟨_, rfl⟩) ?_
  refine V_callVR (q := (RJ7, TJ7, 4)) kJ7_coder q670 q671 q672 g1 rfl dJ7_indexOf_3_7 ?_ (d' := 0) (as := []) (hst := rfl)
  refine (str_coder K0 ?_)
  refine V_icmp_ne 46 dJ7_indexOf_3_10 (by decide) (fun c10 => absurd c10 (fun q => q rfl)) (fun _ => ?_)
  refine V_aload_n dJ7_indexOf_3_13 rfl (Or.inl ⟨_, rfl⟩) ?_
  refine V_callVR (q := (RJ7, TJ7, 4)) kJ7_isLatin1 q957 q958 q959 h1 rfl dJ7_indexOf_3_14 ?_ (d' := 0) (as := []) (hst := rfl)
  refine (str_isLatin1 H0 ?_)
  refine V_if_eq 34 dJ7_indexOf_3_17 (by decide) (fun c17 => absurd c17 (by decide)) (fun _ => ?_)
  refine V_aload_n dJ7_indexOf_3_20 rfl (Or.inl ⟨_, rfl⟩) ?_
  refine V_getR ckJ7 h1 0 (by decide) q813 rfl (by rfl) dJ7_indexOf_3_21 ?_
  refine V_aload_n dJ7_indexOf_3_24 rfl (Or.inl ⟨_, rfl⟩) ?_
  refine V_getR ckJ7 g1 0 (by decide) q813 rfl (by rfl) dJ7_indexOf_3_25 ?_
  refine V_callS kJ19_indexOf_2 q2447 q2448 dJ7_indexOf_3_28 ?_ (d' := 1) (as := [_, _]) (hst := rfl)
  refine (la_search2 h2 h3 g2 g3 hl hu huw (fun r q1 q2 => ?_))
  refine V_goto 45 dJ7_indexOf_3_31 (by decide) ?_
  refine V_ireturn dJ7_indexOf_3_45 rfl ?_
  exact kk r q1 q2
theorem str_contains {a b : Nat} {w u : List Int32} {h z : Int32} (H : StrR E G a w h z) (K : StrN E G b u) (hl : w.length < 2 ^ 20) (hu : 0 < u.length) (huw : u.length ≤ w.length) (k : P (.returned (some (.int (b2i (hasS u w))))) G) : g_Spc l E mJ7_contains 3 [.ref a, .ref b] G P := by
  have H0 := H
  have K0 := K
  obtain ⟨va, h1, f, h2, h3⟩ := H
  obtain ⟨vb, g1, g, g2, g3, -⟩ := K
  refine V_intro (plainFor_of_name plJ7) (Nat.le_of_ble_eq_true rfl) ?_
  refine V_aload_n dJ7_contains_0 rfl (Or.inl ⟨_, rfl⟩) ?_
  refine V_aload_n dJ7_contains_1 rfl (Or.inl ⟨_, rfl⟩) ?_
  refine V_callF (q := (RJ7, TJ7, 4)) (x := ⟨"java/lang/CharSequence", "toString", "()Ljava/lang/String;"⟩) kJ7_toString q2432 ⟨by decide +kernel, by decide +kernel⟩ q2434 q2433 q2438 q2437 q2435 (by decide +kernel) q2418 q2436 g1 rfl dJ7_contains_2 ?_ (d' := 0) (as := []) (hst := rfl)
  refine (str_toString ?_)
  refine V_callVR (q := (RJ7, TJ7, 4)) kJ7_indexOf_3 q2443 q2444 q2445 h1 rfl dJ7_contains_7 ?_ (d' := 2) (as := [_]) (hst := rfl)
  refine (str_search H0 K0.R hl hu huw (fun r q1 q2 => ?_))
  cases hb : hasS u w with
  | true =>
    obtain ⟨j, hj, rfl⟩ := q1 hb
    rw [hb] at k
    refine V_if_lt 17 dJ7_contains_10 (by decide) (fun c10 => absurd c10 (nI_pos (by omega))) (fun _ => ?_)
    refine V_iconstv 1 dJ7_contains_13 (by decide) ?_
    refine V_goto 18 dJ7_contains_14 (by decide) ?_
    refine V_zreturn dJ7_contains_18 rfl rfl ?_
    exact k
  | false =>
    have := q2 hb
    subst this
    rw [hb] at k
    refine V_if_lt 17 dJ7_contains_10 (by decide) (fun _ => ?_) (fun c10 => absurd (by decide) c10)
    refine V_iconstv 0 dJ7_contains_17 (by decide) ?_
    refine V_zreturn dJ7_contains_18 rfl rfl ?_
    exact k
end SEARCH
