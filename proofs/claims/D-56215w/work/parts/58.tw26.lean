/-! REFERENCE 24: colourByBrightness -/
set_option maxRecDepth 100000
theorem rkF_c {L : List Rw} {x : Int32} {k : Nat} {c : Rw} {t : List Rw} : rkF L x k (c :: t) = if nI (ahF (brt c) k 0 L) = x then some c else rkF L x (k + 1) t := rfl
theorem ahF_c {b : Int32} {k i : Nat} {c : Rw} {t : List Rw} : ahF b k i (c :: t) = (if b < brt c ∨ (brt c = b ∧ i < k) then 1 else 0) + ahF b k (i + 1) t := rfl
section TW26
variable {l : Launch} {E : g_E} {P : Outcome → g_G → Prop} {G : g_G} {m : Nat} {T : Tw} {S : St}
theorem tw_colourByBrightness {x : Int32} (hm : g_B E ≤ m) (h : TwS T S) (kk : ∀ T', TwS T' S → T'.2 5 = (qRank S x).1 → P (.returned (some (.int (qRank S x).2))) (g_tG E G m T')) : g_Spc l E mX5_colourByBrightness 3 [.ref m, .int x] (g_tG E G m T) P := by
  have b1 := h.1.1
  have e0 : T.1 1 0 = nI S.1.1.length := h.1.2.2.1
  have h1 : ∀ c, TwO ((twI T 5 c).1 1) S.1 := fun _ => h.1
  unfold qRank at kk
  refine V_intro (plainFor_of_name plX5) (Nat.le_of_ble_eq_true rfl) ?_
  have outer : ∀ k, k ≤ S.1.1.length → rkF S.1.1 x k (S.1.1.drop k) = rkF S.1.1 x 0 S.1.1 → V l E mX5_colourByBrightness 3 P 7 [(0, .ref m), (1, .int x), (2, .int (nI k))] [] (g_tG E G m (twI T 5 0)) := by
    refine down S.1.1.length ?_ ?_
    · intro hk
      rw [List.drop_length] at hk
      have hk : none = rkF S.1.1 x 0 S.1.1 := hk
      rw [← hk] at kk
      refine V_iload_n dX5_colourByBrightness_7 rfl ?_
      refine V_aload_n dX5_colourByBrightness_8 rfl (Or.inl ⟨_, rfl⟩) ?_
      refine V_get ckX5 tw0 0 (by decide) q2699 rfl rfl dX5_colourByBrightness_9 ?_
      refine V_iconstv 0 dX5_colourByBrightness_12 (by decide) ?_
      refine tw_ld 1 (0) (by decide) (by decide) rfl (show _ < 136 from by omega) (by decide) dX5_colourByBrightness_13 ?_
      rw [show (twI T 5 0).1 1 0 = nI S.1.1.length from e0]
      refine V_icmp_ge 99 dX5_colourByBrightness_14 (by decide) (fun _ => ?_) (fun c14 => absurd (Int32.le_refl _) c14)
      refine V_aload_n dX5_colourByBrightness_99 rfl (Or.inl ⟨_, rfl⟩) ?_
      refine V_iconstv 1 dX5_colourByBrightness_100 (by decide) ?_
      refine V_callV (q := (RX5, TX5, 23)) kX5_fail q2794 q2796 qs49 tw0 rfl dX5_colourByBrightness_101 ?_ (d' := 0) (as := [_]) (hst := rfl)
      refine (tw_fail hm ?_)
      refine V_ireturn dX5_colourByBrightness_104 rfl ?_
      rw [twI_twI]
      exact kk _ (h.q _) rfl
    · intro k hk ih hr
      obtain ⟨c, hc, hd⟩ := drop_at hk
      rw [hd, rkF_c] at hr
      have inner : ∀ o, o ≤ S.1.1.length → ∀ a, a + ahF (brt c) k o (S.1.1.drop o) = ahF (brt c) k 0 S.1.1 → V l E mX5_colourByBrightness 3 P 22 [(0, .ref m), (1, .int x), (2, .int (nI k)), (3, .int (nI a)), (4, .int (nI o))] [] (g_tG E G m (twI T 5 0)) := by
        refine down S.1.1.length ?_ ?_
        · intro a ha
          rw [List.drop_length] at ha
          have ha : a + 0 = ahF (brt c) k 0 S.1.1 := ha
          rw [Nat.add_zero] at ha
          rw [← ha] at hr
          refine V_iload dX5_colourByBrightness_22 rfl ?_
          refine V_aload_n dX5_colourByBrightness_24 rfl (Or.inl ⟨_, rfl⟩) ?_
          refine V_get ckX5 tw0 0 (by decide) q2699 rfl rfl dX5_colourByBrightness_25 ?_
          refine V_iconstv 0 dX5_colourByBrightness_28 (by decide) ?_
          refine tw_ld 1 (0) (by decide) (by decide) rfl (show _ < 136 from by omega) (by decide) dX5_colourByBrightness_29 ?_
          rw [show (twI T 5 0).1 1 0 = nI S.1.1.length from e0]
          by_cases he : nI a = x
          · rw [if_pos he] at hr
            rw [← hr] at kk
            refine V_icmp_ge 81 dX5_colourByBrightness_30 (by decide) (fun _ => ?_) (fun c30 => absurd (Int32.le_refl _) c30)
            refine V_iload_n dX5_colourByBrightness_81 rfl ?_
            refine V_iload_n dX5_colourByBrightness_82 rfl ?_
            refine V_icmp_ne 93 dX5_colourByBrightness_83 (by decide) (fun c83 => absurd c83 (not_not_intro he)) (fun _ => ?_)
            refine V_aload_n dX5_colourByBrightness_86 rfl (Or.inl ⟨_, rfl⟩) ?_
            refine V_iload_n dX5_colourByBrightness_87 rfl ?_
            refine V_iconstv 0 dX5_colourByBrightness_88 (by decide) ?_
            refine V_callV (q := (RX5, TX5, 23)) kX5_c q2860 q2862 qs61 tw0 rfl dX5_colourByBrightness_89 ?_ (d' := 1) (as := [_, _]) (hst := rfl)
            refine (tw_c (k := k) (j := 0) (h1 _) rfl rfl hc (by decide) ?_)
            refine V_ireturn dX5_colourByBrightness_92 rfl ?_
            exact kk _ (h.q _) rfl
          · rw [if_neg he] at hr
            refine V_icmp_ge 81 dX5_colourByBrightness_30 (by decide) (fun _ => ?_) (fun c30 => absurd (Int32.le_refl _) c30)
            refine V_iload_n dX5_colourByBrightness_81 rfl ?_
            refine V_iload_n dX5_colourByBrightness_82 rfl ?_
            refine V_icmp_ne 93 dX5_colourByBrightness_83 (by decide) (fun _ => ?_) (fun c83 => absurd c83 he)
            refine V_iinc dX5_colourByBrightness_93 rfl (by decide) ?_
            refine V_goto 7 dX5_colourByBrightness_96 (by decide) ?_
            refine V_sub (L' := [(0, .ref m), (1, .int x), (2, .int (nI k + Int32.ofInt 1))]) ⟨rfl, rfl, rfl, trivial⟩ ?_
            rw [show nI k + Int32.ofInt 1 = nI (k + 1) from nI_1 k]
            exact ih hr
        · intro o ho iho a ha
          obtain ⟨d, hdo, hd2⟩ := drop_at ho
          rw [hd2, ahF_c] at ha
          have next : ∀ v : Nat, v = (if brt c < brt d ∨ (brt d = brt c ∧ o < k) then 1 else 0) → V l E mX5_colourByBrightness 3 P 73 [(0, .ref m), (1, .int x), (2, .int (nI k)), (4, .int (nI o))] [.int (nI v), .int (nI a)] (g_tG E G m (twI T 5 0)) := by
            intro v hv
            rw [← hv, ← Nat.add_assoc] at ha
            refine V_iadd dX5_colourByBrightness_73 ?_
            rw [nI_add]
            refine V_istore_n dX5_colourByBrightness_74 (by decide) ?_
            refine V_iinc dX5_colourByBrightness_75 rfl (by decide) ?_
            refine V_goto 22 dX5_colourByBrightness_78 (by decide) ?_
            refine V_sub (L' := [(0, .ref m), (1, .int x), (2, .int (nI k)), (3, .int (nI (a + v))), (4, .int (nI o + Int32.ofInt 1))]) ⟨rfl, rfl, rfl, rfl, rfl, trivial⟩ ?_
            rw [show nI o + Int32.ofInt 1 = nI (o + 1) from nI_1 o]
            exact iho _ ha
          refine V_iload dX5_colourByBrightness_22 rfl ?_
          refine V_aload_n dX5_colourByBrightness_24 rfl (Or.inl ⟨_, rfl⟩) ?_
          refine V_get ckX5 tw0 0 (by decide) q2699 rfl rfl dX5_colourByBrightness_25 ?_
          refine V_iconstv 0 dX5_colourByBrightness_28 (by decide) ?_
          refine tw_ld 1 (0) (by decide) (by decide) rfl (show _ < 136 from by omega) (by decide) dX5_colourByBrightness_29 ?_
          rw [show (twI T 5 0).1 1 0 = nI S.1.1.length from e0]
          refine V_icmp_ge 81 dX5_colourByBrightness_30 (by decide) (fun c30 => absurd c30 (nI_ge ho (by omega))) (fun _ => ?_)
          refine V_iload_n dX5_colourByBrightness_33 rfl ?_
          refine V_aload_n dX5_colourByBrightness_34 rfl (Or.inl ⟨_, rfl⟩) ?_
          refine V_iload dX5_colourByBrightness_35 rfl ?_
          refine V_callV (q := (RX5, TX5, 23)) kX5_brightness q3022 q3024 qs85 tw0 rfl dX5_colourByBrightness_37 ?_ (d' := 2) (as := [_]) (hst := rfl)
          refine (tw_brightness (k := o) (h1 _) rfl hdo ?_)
          refine V_aload_n dX5_colourByBrightness_40 rfl (Or.inl ⟨_, rfl⟩) ?_
          refine V_iload_n dX5_colourByBrightness_41 rfl ?_
          refine V_callV (q := (RX5, TX5, 23)) kX5_brightness q3022 q3024 qs85 tw0 rfl dX5_colourByBrightness_42 ?_ (d' := 2) (as := [_]) (hst := rfl)
          refine (tw_brightness (k := k) (h1 _) rfl hc ?_)
          refine V_icmp_gt 68 dX5_colourByBrightness_45 (by decide) (fun c45 => ?_) (fun c45 => ?_)
          · refine V_iconstv 1 dX5_colourByBrightness_68 (by decide) ?_
            refine V_goto 73 dX5_colourByBrightness_69 (by decide) ?_
            exact V_subk (next 1 (if_pos (Or.inl c45)).symm) ⟨rfl, rfl, rfl, rfl, trivial⟩
          · refine V_aload_n dX5_colourByBrightness_48 rfl (Or.inl ⟨_, rfl⟩) ?_
            refine V_iload dX5_colourByBrightness_49 rfl ?_
            refine V_callV (q := (RX5, TX5, 23)) kX5_brightness q3022 q3024 qs85 tw0 rfl dX5_colourByBrightness_51 ?_ (d' := 2) (as := [_]) (hst := rfl)
            refine (tw_brightness (k := o) (h1 _) rfl hdo ?_)
            refine V_aload_n dX5_colourByBrightness_54 rfl (Or.inl ⟨_, rfl⟩) ?_
            refine V_iload_n dX5_colourByBrightness_55 rfl ?_
            refine V_callV (q := (RX5, TX5, 23)) kX5_brightness q3022 q3024 qs85 tw0 rfl dX5_colourByBrightness_56 ?_ (d' := 2) (as := [_]) (hst := rfl)
            refine (tw_brightness (k := k) (h1 _) rfl hc ?_)
            refine V_icmp_ne 72 dX5_colourByBrightness_59 (by decide) (fun c59 => ?_) (fun c59 => ?_)
            · refine V_iconstv 0 dX5_colourByBrightness_72 (by decide) ?_
              exact V_subk (next 0 (if_neg (fun q => q.elim c45 (fun q => c59 q.1))).symm) ⟨rfl, rfl, rfl, rfl, trivial⟩
            · refine V_iload dX5_colourByBrightness_62 rfl ?_
              refine V_iload_n dX5_colourByBrightness_64 rfl ?_
              by_cases hok : o < k
              · refine V_icmp_ge 72 dX5_colourByBrightness_65 (by decide) (fun c65 => absurd c65 (nI_ge hok (by omega))) (fun _ => ?_)
                refine V_iconstv 1 dX5_colourByBrightness_68 (by decide) ?_
                refine V_goto 73 dX5_colourByBrightness_69 (by decide) ?_
                exact V_subk (next 1 (if_pos (Or.inr ⟨c59, hok⟩)).symm) ⟨rfl, rfl, rfl, rfl, trivial⟩
              · refine V_icmp_ge 72 dX5_colourByBrightness_65 (by decide) (fun _ => ?_) (fun c65 => absurd (nI_le (by omega) (by omega)) c65)
                refine V_iconstv 0 dX5_colourByBrightness_72 (by decide) ?_
                exact V_subk (next 0 (if_neg (fun q => q.elim c45 (fun q => hok q.2))).symm) ⟨rfl, rfl, rfl, rfl, trivial⟩
      refine V_iload_n dX5_colourByBrightness_7 rfl ?_
      refine V_aload_n dX5_colourByBrightness_8 rfl (Or.inl ⟨_, rfl⟩) ?_
      refine V_get ckX5 tw0 0 (by decide) q2699 rfl rfl dX5_colourByBrightness_9 ?_
      refine V_iconstv 0 dX5_colourByBrightness_12 (by decide) ?_
      refine tw_ld 1 (0) (by decide) (by decide) rfl (show _ < 136 from by omega) (by decide) dX5_colourByBrightness_13 ?_
      rw [show (twI T 5 0).1 1 0 = nI S.1.1.length from e0]
      refine V_icmp_ge 99 dX5_colourByBrightness_14 (by decide) (fun c14 => absurd c14 (nI_ge hk (by omega))) (fun _ => ?_)
      refine V_iconstv 0 dX5_colourByBrightness_17 (by decide) ?_
      refine V_istore_n dX5_colourByBrightness_18 (by decide) ?_
      refine V_iconstv 0 dX5_colourByBrightness_19 (by decide) ?_
      refine V_istore dX5_colourByBrightness_20 (by decide) ?_
      refine V_sub (L' := [(0, .ref m), (1, .int x), (2, .int (nI k)), (3, .int (nI 0)), (4, .int (nI 0))]) ⟨rfl, rfl, rfl, rfl, rfl, trivial⟩ ?_
      exact inner 0 (Nat.zero_le _) 0 (by rw [List.drop_zero, Nat.zero_add])
  refine V_aload_n dX5_colourByBrightness_0 rfl (Or.inl ⟨_, rfl⟩) ?_
  refine V_iconstv 0 dX5_colourByBrightness_1 (by decide) ?_
  refine tw_putI 5 hm (by decide) q2704 rfl rfl rfl rfl rfl dX5_colourByBrightness_2 ?_
  refine V_iconstv 0 dX5_colourByBrightness_5 (by decide) ?_
  refine V_istore_n dX5_colourByBrightness_6 (by decide) ?_
  refine V_sub (L' := [(0, .ref m), (1, .int x), (2, .int (nI 0))]) ⟨rfl, rfl, rfl, trivial⟩ ?_
  exact outer 0 (Nat.zero_le _) (by rw [List.drop_zero])
end TW26
