/-! REFERENCE 15: a palette's colour; the start -/
set_option maxRecDepth 100000
theorem isb_1 {x : Int32} {n : Nat} (hn : n < 2 ^ 31) (h : isb x 1 (nI n) = true) : ∃ s, 1 ≤ s ∧ s ≤ n ∧ x = nI s := by
  unfold isb at h
  rw [Bool.and_eq_true, decide_eq_true_eq, decide_eq_true_eq] at h
  obtain ⟨h1, h2⟩ := h
  obtain ⟨s, hs, rfl⟩ := nI_of (Int32.not_lt.mpr (Int32.le_trans (by decide) h1))
  exact ⟨s, (nI_leI (a := 1) (by decide) hs).mp h1, (nI_leI hs hn).mp h2, rfl⟩
section TW16
variable {l : Launch} {E : g_E} {P : Outcome → g_G → Prop} {G : g_G} {m : Nat} {T : Tw} {o : Of} {S : St}
theorem tw_paletteColour {x y : Int32} (hm : g_B E ≤ m) (h : TwS T S) (kk : ∀ T', TwS T' S → T'.2 5 = (qPc S x y).1 → P (.returned (some (.int (qPc S x y).2))) (g_tG E G m T')) : g_Spc l E mX5_paletteColour 4 [.ref m, .int x, .int y] (g_tG E G m T) P := by
  have b1 := h.1.1
  have e0 : T.1 1 0 = nI S.1.1.length := h.1.2.2.1
  have p10 := sb_p10 b1
  have h1 : ∀ c, TwO ((twI T 5 c).1 1) S.1 := fun _ => h.1
  unfold qPc at kk
  refine V_intro (plainFor_of_name plX5) (Nat.le_of_ble_eq_true rfl) ?_
  refine V_aload_n dX5_paletteColour_0 rfl (Or.inl ⟨_, rfl⟩) ?_
  refine V_iload_n dX5_paletteColour_1 rfl ?_
  refine V_iconstv 1 dX5_paletteColour_2 (by decide) ?_
  refine V_aload_n dX5_paletteColour_3 rfl (Or.inl ⟨_, rfl⟩) ?_
  refine V_get ckX5 tw0 0 (by decide) q2699 rfl rfl dX5_paletteColour_4 ?_
  refine V_iconstv 0 dX5_paletteColour_7 (by decide) ?_
  refine tw_ld 1 (0) (by decide) (by decide) rfl (show _ < 136 from by omega) (by decide) dX5_paletteColour_8 ?_
  rw [e0]
  refine V_callS kX5_in q2791 q2792 dX5_paletteColour_9 ?_ (d' := 0) (as := [_, _, _]) (hst := rfl)
  refine (tw_in ?_)
  cases hb : isb x 1 (nI S.1.1.length) with
  | false =>
    rw [if_neg (by rw [hb]; decide)] at kk
    refine V_if_ne 19 dX5_paletteColour_12 (by decide) (fun c12 => absurd c12 (show ¬ ¬ b2i false = 0 by decide)) (fun _ => ?_)
    refine V_iconstv 1 dX5_paletteColour_15 (by decide) ?_
    refine V_goto 35 dX5_paletteColour_16 (by decide) ?_
    refine tw_putI 5 hm (by decide) q2704 rfl rfl rfl rfl rfl dX5_paletteColour_35 ?_
    refine V_aload_n dX5_paletteColour_38 rfl (Or.inl ⟨_, rfl⟩) ?_
    refine V_get ckX5 tw0 5 (by decide) q2704 rfl rfl dX5_paletteColour_39 ?_
    refine V_if_le 47 dX5_paletteColour_42 (by decide) (fun c42 => absurd c42 (show ¬ (1 : Int32) ≤ 0 by decide)) (fun _ => ?_)
    refine V_iconstv 0 dX5_paletteColour_45 (by decide) ?_
    refine V_ireturn dX5_paletteColour_46 rfl ?_
    exact kk _ (h.q _) rfl
  | true =>
    rw [if_pos hb] at kk
    obtain ⟨s, hs1, hsn, rfl⟩ := isb_1 (by omega) hb
    refine V_if_ne 19 dX5_paletteColour_12 (by decide) (fun _ => ?_) (fun c12 => absurd c12 (show ¬ b2i true = 0 by decide))
    refine V_iload_n dX5_paletteColour_19 rfl ?_
    refine V_iconstv 0 dX5_paletteColour_20 (by decide) ?_
    refine V_iload_n dX5_paletteColour_21 rfl ?_
    refine V_iconstv 1 dX5_paletteColour_22 (by decide) ?_
    refine V_isub dX5_paletteColour_23 ?_
    refine V_callS kX5_in q2791 q2792 dX5_paletteColour_24 ?_ (d' := 0) (as := [_, _, _]) (hst := rfl)
    refine (tw_in ?_)
    cases hb2 : isb y 0 (nI s - 1) with
    | false =>
      rw [if_neg (by rw [hb2]; decide)] at kk
      refine V_if_ne 34 dX5_paletteColour_27 (by decide) (fun c27 => absurd c27 (show ¬ ¬ b2i false = 0 by decide)) (fun _ => ?_)
      refine V_iconstv 2 dX5_paletteColour_30 (by decide) ?_
      refine V_goto 35 dX5_paletteColour_31 (by decide) ?_
      refine tw_putI 5 hm (by decide) q2704 rfl rfl rfl rfl rfl dX5_paletteColour_35 ?_
      refine V_aload_n dX5_paletteColour_38 rfl (Or.inl ⟨_, rfl⟩) ?_
      refine V_get ckX5 tw0 5 (by decide) q2704 rfl rfl dX5_paletteColour_39 ?_
      refine V_if_le 47 dX5_paletteColour_42 (by decide) (fun c42 => absurd c42 (show ¬ (2 : Int32) ≤ 0 by decide)) (fun _ => ?_)
      refine V_iconstv 0 dX5_paletteColour_45 (by decide) ?_
      refine V_ireturn dX5_paletteColour_46 rfl ?_
      exact kk _ (h.q _) rfl
    | true =>
      rw [if_pos hb2] at kk
      obtain ⟨q, hq, rfl⟩ := isb_at (by omega) hb2
      rw [nI_clamp (by omega)] at kk
      have hpop := plt_pop (o := S.1) b1 hs1 hsn
      have hlt := plt_lt (o := S.1) (z := nI s)
      obtain ⟨Z, hZ⟩ : ∃ Z, Z = plt S.1 (nI s) := ⟨_, rfl⟩
      rw [← hZ] at kk hpop hlt
      have hpn : popN Z S.1.1.length = s := by
        have e := pop_hi hlt (d := 10 - S.1.1.length)
        rw [show S.1.1.length + (10 - S.1.1.length) = 10 by omega, hpop] at e
        exact e.symm
      refine V_if_ne 34 dX5_paletteColour_27 (by decide) (fun _ => ?_) (fun c27 => absurd c27 (show ¬ b2i true = 0 by decide))
      refine V_iconstv 0 dX5_paletteColour_34 (by decide) ?_
      refine tw_putI 5 hm (by decide) q2704 rfl rfl rfl rfl rfl dX5_paletteColour_35 ?_
      refine V_aload_n dX5_paletteColour_38 rfl (Or.inl ⟨_, rfl⟩) ?_
      refine V_get ckX5 tw0 5 (by decide) q2704 rfl rfl dX5_paletteColour_39 ?_
      refine V_if_le 47 dX5_paletteColour_42 (by decide) (fun _ => ?_) (fun c42 => absurd (show (0 : Int32) ≤ 0 by decide) c42)
      refine V_aload_n dX5_paletteColour_47 rfl (Or.inl ⟨_, rfl⟩) ?_
      refine V_iload_n dX5_paletteColour_48 rfl ?_
      refine V_callV (q := (RX5, TX5, 23)) kX5_palette q3123 q3125 qs93 tw0 rfl dX5_paletteColour_49 ?_ (d' := 3) (as := [_]) (hst := rfl)
      refine (tw_palette (h1 _) ?_)
      rw [← hZ]
      have outer : ∀ k, k ≤ q + 1 → ∀ p, popN Z p = k → p ≤ S.1.1.length → (k = q + 1 → ∃ r, p = r + 1 ∧ Z.testBit r = true ∧ popN Z r = q) → V l E mX5_paletteColour 4 P 59 [(0, .ref m), (1, .int (nI s)), (2, .int (nI q)), (3, .int (nI Z)), (4, .int (nI p - 1)), (5, .int (nI k))] [] (g_tG E G m (twI T 5 0)) := by
        refine down (q + 1) ?_ ?_
        · intro p hp hpn2 hr
          obtain ⟨r, rfl, hr1, hr2⟩ := hr rfl
          rw [nI_pred]
          rw [kth_of (by omega) hr1 hr2] at kk
          refine V_iload dX5_paletteColour_59 rfl ?_
          refine V_iload_n dX5_paletteColour_61 rfl ?_
          refine V_icmp_gt 89 dX5_paletteColour_62 (by decide) (fun _ => ?_) (fun c62 => absurd (nI_lt (by omega) (by omega)) c62)
          refine V_aload_n dX5_paletteColour_89 rfl (Or.inl ⟨_, rfl⟩) ?_
          refine V_iload dX5_paletteColour_90 rfl ?_
          refine V_iconstv 0 dX5_paletteColour_92 (by decide) ?_
          refine V_callV (q := (RX5, TX5, 23)) kX5_c q2860 q2862 qs61 tw0 rfl dX5_paletteColour_93 ?_ (d' := 1) (as := [_, _]) (hst := rfl)
          refine (tw_c (k := r) (j := 0) (h1 _) rfl rfl (at_of (by omega)) (by decide) ?_)
          refine V_ireturn dX5_paletteColour_96 rfl ?_
          exact kk _ (h.q _) rfl
        · intro k hk ih p hp hpn2 _
          have inn : ∀ d p, p + d = S.1.1.length → popN Z p = k → V l E mX5_paletteColour 4 P 68 [(0, .ref m), (1, .int (nI s)), (2, .int (nI q)), (3, .int (nI Z)), (4, .int (nI p)), (5, .int (nI k))] [] (g_tG E G m (twI T 5 0)) := by
            intro d
            induction d with
            | zero =>
              intro p hd hp
              rw [Nat.add_zero] at hd
              rw [hd, hpn] at hp
              omega
            | succ d ihd =>
              intro p hd hp
              refine V_iload_n dX5_paletteColour_68 rfl ?_
              refine V_iload dX5_paletteColour_69 rfl ?_
              refine V_ishr dX5_paletteColour_71 ?_
              refine V_iconstv 1 dX5_paletteColour_72 (by decide) ?_
              refine V_iand dX5_paletteColour_73 ?_
              rw [sb_bit Z (by omega) p (by omega)]
              cases hbit : Z.testBit p with
              | true =>
                refine V_if_ne 83 dX5_paletteColour_74 (by decide) (fun _ => ?_) (fun c74 => absurd c74 (show ¬ (1 : Int32) = 0 by decide))
                refine V_iinc dX5_paletteColour_83 rfl (by decide) ?_
                refine V_goto 59 dX5_paletteColour_86 (by decide) ?_
                refine V_sub (L' := [(0, .ref m), (1, .int (nI s)), (2, .int (nI q)), (3, .int (nI Z)), (4, .int (nI p)), (5, .int (nI k + Int32.ofInt 1))]) ⟨rfl, rfl, rfl, rfl, rfl, rfl, trivial⟩ ?_
                rw [show nI k + Int32.ofInt 1 = nI (k + 1) from nI_1 k, show nI p = nI (p + 1) - 1 from (nI_pred p).symm]
                exact ih (p + 1) (by rw [popN_s hbit, hp]) (by omega) (fun e => ⟨p, rfl, hbit, by omega⟩)
              | false =>
                refine V_if_ne 83 dX5_paletteColour_74 (by decide) (fun c74 => absurd c74 (show ¬ ¬ (0 : Int32) = 0 by decide)) (fun _ => ?_)
                refine V_iinc dX5_paletteColour_77 rfl (by decide) ?_
                refine V_goto 68 dX5_paletteColour_80 (by decide) ?_
                refine V_sub (L' := [(0, .ref m), (1, .int (nI s)), (2, .int (nI q)), (3, .int (nI Z)), (4, .int (nI p + Int32.ofInt 1)), (5, .int (nI k))]) ⟨rfl, rfl, rfl, rfl, rfl, rfl, trivial⟩ ?_
                rw [show nI p + Int32.ofInt 1 = nI (p + 1) from nI_1 p]
                exact ihd (p + 1) (by omega) (by rw [popN_z hbit, hp])
          refine V_iload dX5_paletteColour_59 rfl ?_
          refine V_iload_n dX5_paletteColour_61 rfl ?_
          refine V_icmp_gt 89 dX5_paletteColour_62 (by decide) (fun c62 => absurd c62 (fun z => absurd ((nI_ltI (by omega) (by omega)).mp z) (by omega))) (fun _ => ?_)
          refine V_iinc dX5_paletteColour_65 rfl (by decide) ?_
          refine V_sub (L' := [(0, .ref m), (1, .int (nI s)), (2, .int (nI q)), (3, .int (nI Z)), (4, .int (nI p - 1 + Int32.ofInt 1)), (5, .int (nI k))]) ⟨rfl, rfl, rfl, rfl, rfl, rfl, trivial⟩ ?_
          rw [show nI p - 1 + Int32.ofInt 1 = nI p from Int32.sub_add_cancel _ _]
          exact inn (S.1.1.length - p) p (by omega) hp
      refine V_istore_n dX5_paletteColour_52 (by decide) ?_
      refine V_iconstv (-1) dX5_paletteColour_53 (by decide) ?_
      refine V_istore dX5_paletteColour_54 (by decide) ?_
      refine V_iconstv 0 dX5_paletteColour_56 (by decide) ?_
      refine V_istore dX5_paletteColour_57 (by decide) ?_
      refine V_sub (L' := [(0, .ref m), (1, .int (nI s)), (2, .int (nI q)), (3, .int (nI Z)), (4, .int (nI 0 - 1)), (5, .int (nI 0))]) ⟨rfl, rfl, rfl, rfl, rfl, rfl, trivial⟩ ?_
      exact outer 0 (Nat.zero_le _) 0 rfl (Nat.zero_le _) (fun e => by omega)
end TW16
