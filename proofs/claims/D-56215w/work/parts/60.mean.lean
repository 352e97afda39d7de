/-! REFERENCE 25: meanBrightness -/
set_option maxRecDepth 100000
theorem fp_d (n g : Nat) (h0 : 0 < n) (hn : n < 11) (hg : g < 297 * n + 1) : FP.ddiv (FP.i2d (nI g)) (FP.i2d (nI (3 * n))) &&& 0x7fffffffffffffff ≤ 0x7ff0000000000000 := by
  match n, h0, hn, hg with
  | 1, _, _, hg => exact fp_d1 g hg
  | 2, _, _, hg => exact fp_d2 g hg
  | 3, _, _, hg => exact fp_d3 g hg
  | 4, _, _, hg => exact fp_d4 g hg
  | 5, _, _, hg => exact fp_d5 g hg
  | 6, _, _, hg => exact fp_d6 g hg
  | 7, _, _, hg => exact fp_d7 g hg
  | 8, _, _, hg => exact fp_d8 g hg
  | 9, _, _, hg => exact fp_d9 g hg
  | 10, _, _, hg => exact fp_d10 g hg
def brS (a : Int32) : List Rw → Int32
  | [] => a
  | c :: t => brS (a + brt c) t
theorem brt_N {c : Rw} (h : TnOK c.2.1) : ∃ s, s ≤ 297 ∧ brt c = nI s := by
  obtain ⟨⟨a, ha, e1⟩, ⟨b, hb, e2⟩, ⟨d, hd, e3⟩⟩ := h
  refine ⟨a + b + d, by omega, ?_⟩
  unfold brt
  rw [e1, e2, e3, nI_add, nI_add]
theorem brS_N {L : List Rw} {a : Nat} (h : ∀ c ∈ L, TnOK c.2.1) : ∃ s, s ≤ a + 297 * L.length ∧ brS (nI a) L = nI s := by
  induction L generalizing a with
  | nil => exact ⟨a, by simp, rfl⟩
  | cons c t ih =>
    obtain ⟨s, hs, e⟩ := brt_N (h c List.mem_cons_self)
    obtain ⟨s2, hs2, e2⟩ := ih (a := a + s) (fun x hx => h x (List.mem_cons_of_mem _ hx))
    refine ⟨s2, by rw [List.length_cons]; omega, ?_⟩
    show brS (nI a + brt c) t = _
    rw [e, nI_add, e2]
section TW28
variable {l : Launch} {E : g_E} {P : Outcome → g_G → Prop} {G : g_G} {m : Nat} {T : Tw} {S : St}
def qMb (S : St) : Int32 × UInt64 := if 0 < S.1.1.length then (0, FP.ddiv (FP.i2d (brS 0 S.1.1)) (FP.i2d (nI (3 * S.1.1.length)))) else (1, FP.dconst0)
theorem tw_meanBrightness (hm : g_B E ≤ m) (h : TwS T S) (hp : ∀ c ∈ S.1.1, TnOK c.2.1) (kk : ∀ T', TwS T' S → T'.2 5 = (qMb S).1 → P (.returned (some (.double (qMb S).2))) (g_tG E G m T')) : g_Spc l E mX5_meanBrightness 3 [.ref m] (g_tG E G m T) P := by
  have b1 := h.1.1
  have e0 : T.1 1 0 = nI S.1.1.length := h.1.2.2.1
  have h1 : ∀ c, TwO ((twI T 5 c).1 1) S.1 := fun _ => h.1
  unfold qMb at kk
  refine V_intro (plainFor_of_name plX5) (Nat.le_of_ble_eq_true rfl) ?_
  refine V_aload_n dX5_meanBrightness_0 rfl (Or.inl ⟨_, rfl⟩) ?_
  refine V_aload_n dX5_meanBrightness_1 rfl (Or.inl ⟨_, rfl⟩) ?_
  refine V_get ckX5 tw0 0 (by decide) q2699 rfl rfl dX5_meanBrightness_2 ?_
  refine V_iconstv 0 dX5_meanBrightness_5 (by decide) ?_
  refine tw_ld 1 (0) (by decide) (by decide) rfl (show _ < 136 from by omega) (by decide) dX5_meanBrightness_6 ?_
  rw [e0]
  by_cases hn : 0 < S.1.1.length
  · rw [if_pos hn] at kk
    obtain ⟨s, hs, es⟩ := brS_N (a := 0) hp
    have es : brS 0 S.1.1 = nI s := es
    have loop : ∀ k, k ≤ S.1.1.length → ∀ a, brS a (S.1.1.drop k) = brS 0 S.1.1 → V l E mX5_meanBrightness 3 P 27 [(0, .ref m), (1, .int a), (2, .int (nI k))] [] (g_tG E G m (twI T 5 0)) := by
      refine down S.1.1.length ?_ ?_
      · intro a ha
        rw [List.drop_length] at ha
        have ha : a = brS 0 S.1.1 := ha
        subst ha
        refine V_iload_n dX5_meanBrightness_27 rfl ?_
        refine V_aload_n dX5_meanBrightness_28 rfl (Or.inl ⟨_, rfl⟩) ?_
        refine V_get ckX5 tw0 0 (by decide) q2699 rfl rfl dX5_meanBrightness_29 ?_
        refine V_iconstv 0 dX5_meanBrightness_32 (by decide) ?_
        refine tw_ld 1 (0) (by decide) (by decide) rfl (show _ < 136 from by omega) (by decide) dX5_meanBrightness_33 ?_
        rw [show (twI T 5 0).1 1 0 = nI S.1.1.length from e0]
        refine V_icmp_ge 51 dX5_meanBrightness_34 (by decide) (fun _ => ?_) (fun c34 => absurd (Int32.le_refl _) c34)
        refine V_iload_n dX5_meanBrightness_51 rfl ?_
        refine V_i2d dX5_meanBrightness_52 ?_
        refine V_iconstv 3 dX5_meanBrightness_53 (by decide) ?_
        refine V_aload_n dX5_meanBrightness_54 rfl (Or.inl ⟨_, rfl⟩) ?_
        refine V_get ckX5 tw0 0 (by decide) q2699 rfl rfl dX5_meanBrightness_55 ?_
        refine V_iconstv 0 dX5_meanBrightness_58 (by decide) ?_
        refine tw_ld 1 (0) (by decide) (by decide) rfl (show _ < 136 from by omega) (by decide) dX5_meanBrightness_59 ?_
        rw [show (twI T 5 0).1 1 0 = nI S.1.1.length from e0]
        refine V_imul dX5_meanBrightness_60 ?_
        rw [show (3 : Int32) * nI S.1.1.length = nI (3 * S.1.1.length) by rw [← nI_mul]; rfl]
        refine V_i2d dX5_meanBrightness_61 ?_
        refine V_ddiv dX5_meanBrightness_62 (by rw [es]; exact fp_d _ _ hn (by omega) (by omega)) ?_
        refine V_dreturn dX5_meanBrightness_63 rfl ?_
        exact kk _ (h.q _) rfl
      · intro k hk ih a ha
        obtain ⟨c, hc, hd⟩ := drop_at hk
        rw [hd] at ha
        refine V_iload_n dX5_meanBrightness_27 rfl ?_
        refine V_aload_n dX5_meanBrightness_28 rfl (Or.inl ⟨_, rfl⟩) ?_
        refine V_get ckX5 tw0 0 (by decide) q2699 rfl rfl dX5_meanBrightness_29 ?_
        refine V_iconstv 0 dX5_meanBrightness_32 (by decide) ?_
        refine tw_ld 1 (0) (by decide) (by decide) rfl (show _ < 136 from by omega) (by decide) dX5_meanBrightness_33 ?_
        rw [show (twI T 5 0).1 1 0 = nI S.1.1.length from e0]
        refine V_icmp_ge 51 dX5_meanBrightness_34 (by decide) (fun c34 => absurd c34 (nI_ge hk (by omega))) (fun _ => ?_)
        refine V_iload_n dX5_meanBrightness_37 rfl ?_
        refine V_aload_n dX5_meanBrightness_38 rfl (Or.inl ⟨_, rfl⟩) ?_
        refine V_iload_n dX5_meanBrightness_39 rfl ?_
        refine V_callV (q := (RX5, TX5, 23)) kX5_brightness q3022 q3024 qs85 tw0 rfl dX5_meanBrightness_40 ?_ (d' := 2) (as := [_]) (hst := rfl)
        refine (tw_brightness (k := k) (h1 _) rfl hc ?_)
        refine V_iadd dX5_meanBrightness_43 ?_
        refine V_istore_n dX5_meanBrightness_44 (by decide) ?_
        refine V_iinc dX5_meanBrightness_45 rfl (by decide) ?_
        refine V_goto 27 dX5_meanBrightness_48 (by decide) ?_
        refine V_sub (L' := [(0, .ref m), (1, .int (a + brt c)), (2, .int (nI k + Int32.ofInt 1))]) ⟨rfl, rfl, rfl, trivial⟩ ?_
        rw [show nI k + Int32.ofInt 1 = nI (k + 1) from nI_1 k]
        exact ih _ ha
    refine V_if_le 14 dX5_meanBrightness_7 (by decide) (fun c7 => absurd c7 (nI_nle hn (by omega))) (fun _ => ?_)
    refine V_iconstv 1 dX5_meanBrightness_10 (by decide) ?_
    refine V_goto 15 dX5_meanBrightness_11 (by decide) ?_
    refine V_callV (q := (RX5, TX5, 23)) kX5_checked q2986 q2988 qs83 tw0 rfl dX5_meanBrightness_15 ?_ (d' := 0) (as := [_]) (hst := rfl)
    refine (tw_checked (b := true) hm ?_)
    refine V_if_le 23 dX5_meanBrightness_18 (by decide) (fun _ => ?_) (fun c18 => absurd (by decide) c18)
    refine V_iconstv 0 dX5_meanBrightness_23 (by decide) ?_
    refine V_istore_n dX5_meanBrightness_24 (by decide) ?_
    refine V_iconstv 0 dX5_meanBrightness_25 (by decide) ?_
    refine V_istore_n dX5_meanBrightness_26 (by decide) ?_
    refine V_sub (L' := [(0, .ref m), (1, .int 0), (2, .int (nI 0))]) ⟨rfl, rfl, rfl, trivial⟩ ?_
    exact loop 0 (Nat.zero_le _) 0 (by rw [List.drop_zero])
  · rw [if_neg hn] at kk
    rw [show S.1.1.length = 0 by omega]
    refine V_if_le 14 dX5_meanBrightness_7 (by decide) (fun _ => ?_) (fun c7 => absurd (Int32.le_refl _) c7)
    refine V_iconstv 0 dX5_meanBrightness_14 (by decide) ?_
    refine V_callV (q := (RX5, TX5, 23)) kX5_checked q2986 q2988 qs83 tw0 rfl dX5_meanBrightness_15 ?_ (d' := 0) (as := [_]) (hst := rfl)
    refine (tw_checked (b := false) hm ?_)
    refine V_if_le 23 dX5_meanBrightness_18 (by decide) (fun c18 => absurd c18 (by decide)) (fun _ => ?_)
    refine V_dconst0 dX5_meanBrightness_21 ?_
    refine V_dreturn dX5_meanBrightness_22 rfl ?_
    exact kk _ (h.q _) rfl
end TW28
