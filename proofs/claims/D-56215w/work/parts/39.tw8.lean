/-! REFERENCE 7: the public changes -/
set_option maxRecDepth 100000
def sPush (S : St) (o : Of) : St := (o, ofPush S.2.1 S.1, S.2.2)
def twB (T : Tw) : Tw := twA (twI T 5 0) 2 (cpy (T.1 1) (T.1 2) 0 0 136)
/-- after a change of the office's array to F and the histories' to F' -/
def twD (T : Tw) (F F' : Nat → Int32) (n : Nat) : Tw := twI (twA (twA (twB T) 1 F) 4 F') 6 (nI n)
theorem ofPush_len {H : List Of} {o : Of} (h : H.length ≤ 8) : (ofPush H o).length ≤ 8 := by
  unfold ofPush
  by_cases e : H.length = 8
  · rw [if_pos e]; simp; omega
  · rw [if_neg e]; simp; omega
theorem TwO.before {T : Tw} {o : Of} (h : TwO (T.1 1) o) : TwO ((twB T).1 2) o := by
  refine h.cong fun q hq => ?_
  unfold twB
  rw [twA_at]
  show (if 0 ≤ q ∧ q < 0 + 136 then T.1 1 (0 + (q - 0)) else _) = _
  rw [if_pos (by omega)]
  exact congrArg (T.1 1) (by omega)
theorem TwS.ok {T : Tw} {S : St} {F F' : Nat → Int32} {o : Of} (h : TwS T S) (hF : TwO F o) (hF' : TwH F' (ofPush S.2.1 S.1)) : TwS (twD T F F' (ofPush S.2.1 S.1).length) (sPush S o) := by
  obtain ⟨h1, ⟨a1, a2, a3⟩, b, c, d, e⟩ := h
  refine ⟨hF, ⟨hF', ofPush_len a2, rfl⟩, TwV.keep (T := T) b rfl rfl, ?_, d, e⟩
  intro j x y
  rcases (show j = 7 ∨ j = 8 ∨ j = 9 by omega) with z | z | z
  · subst z; exact c 7 (by decide) (by decide)
  · subst z; exact c 8 (by decide) (by decide)
  · subst z; exact c 9 (by decide) (by decide)
theorem TwS.failed {T : Tw} {S : St} {c : Int32} (h : TwS T S) : TwS (twI (twB T) 5 c) S := ⟨h.1, h.2.keep⟩
def mAdd (S : St) (r g b f : Int32) : Int32 × Int32 × St := if cadd S.1 r g b f = 0 then (0, S.1.2.2 2, sPush S (ofAdd S.1 (r, g, b) f)) else (cadd S.1 r g b f, 0, S)
def mRep (S : St) (r g b t w : Int32) : Int32 × Int32 × St := if crep S.1 r g b t w = 0 then (0, S.1.2.2 3, sPush S (ofRep S.1 (r, g, b) t w)) else (crep S.1 r g b t w, 0, S)
def mWd (S : St) (id : Int32) : Int32 × Int32 × St := match plc id S.1.2.1 with
  | none => (1, 0, S)
  | some k => (0, nI (ofWd S.1 k).2.1.length, sPush S (ofWd S.1 k))
def mDis (S : St) (id : Int32) : Int32 × Int32 × St := match plc id S.1.1 with
  | none => (1, 0, S)
  | some k => (0, nI (ofDis S.1 k).1.length, sPush S (ofDis S.1 k))
def mMet (S : St) (c : Int32) : Int32 × Int32 × St := if c = 109 ∨ c = 115 ∨ c = 103 then (0, S.1.2.2 5, sPush S (ofMet S.1 c)) else (1, 32, S)
def mGive (S : St) (r i : Int32) : Int32 × Int32 × St := if cgive S.1 r i = 0 then (match plc r S.1.2.1, plc i S.1.1 with
  | some k, some j => (0, (rwAt S.1.2.1 k).2.2.2, sPush S (ofGive S.1 k j))
  | _, _ => (1, 0, S)) else (cgive S.1 r i, 0, S)
def mMix (S : St) (x y : Int32) : Int32 × Int32 × St := if cmix S.1 x y = 0 then (match plc x S.1.1, plc y S.1.1 with
  | some a, some b => (0, S.1.2.2 2, sPush S (ofMix S.1 a b))
  | _, _ => (1, 0, S)) else (cmix S.1 x y, 0, S)
def mPass (S : St) (x : Int32) : Int32 × Int32 × St := if isb x 1 99 = true then (0, nI ((passN x.toNatClampNeg S.1).1.countP isG), sPush S (passN x.toNatClampNeg S.1)) else (1, 0, S)
theorem cadd_3 {o : Of} {r g b f : Int32} : (cadd o r g b f = 0 ∧ o.1.length ≠ 10) ∨ cadd o r g b f = 1 ∨ cadd o r g b f = 2 := by
  unfold cadd
  by_cases h : (isb r 0 99 && isb g 0 99 && isb b 0 99 && isb f 1 9) = true
  · rw [if_pos h]
    by_cases e : o.1.length = 10
    · rw [if_pos e]; exact Or.inr (Or.inr rfl)
    · rw [if_neg e]; exact Or.inl ⟨rfl, e⟩
  · rw [if_neg h]; exact Or.inr (Or.inl rfl)
theorem crep_3 {o : Of} {r g b f w : Int32} : (crep o r g b f w = 0 ∧ o.2.1.length ≠ 6) ∨ crep o r g b f w = 1 ∨ crep o r g b f w = 2 := by
  unfold crep
  by_cases h : (isb r 0 99 && isb g 0 99 && isb b 0 99 && isb f 0 9999 && isb w 1 99) = true
  · rw [if_pos h]
    by_cases e : o.2.1.length = 6
    · rw [if_pos e]; exact Or.inr (Or.inr rfl)
    · rw [if_neg e]; exact Or.inl ⟨rfl, e⟩
  · rw [if_neg h]; exact Or.inr (Or.inl rfl)
theorem cgive_3 {o : Of} {r i : Int32} : (cgive o r i = 0 ∧ ∃ k j, plc r o.2.1 = some k ∧ plc i o.1 = some j) ∨ cgive o r i = 1 ∨ cgive o r i = 2 := by
  unfold cgive
  cases hk : plc r o.2.1 with
  | none => exact Or.inr (Or.inl rfl)
  | some k =>
    cases hj : plc i o.1 with
    | none => exact Or.inr (Or.inl rfl)
    | some j =>
      dsimp only
      by_cases e : nst o (rwAt o.2.1 k).2.1 = some j ∧ fitO o (rwAt o.2.1 k) (rwAt o.1 j) = true
      · rw [if_pos e]; exact Or.inl ⟨rfl, k, j, rfl, rfl⟩
      · rw [if_neg e]; exact Or.inr (Or.inr rfl)
theorem cmix_3 {o : Of} {x y : Int32} : (cmix o x y = 0 ∧ ∃ k j, plc x o.1 = some k ∧ plc y o.1 = some j ∧ k ≠ j) ∨ cmix o x y = 1 ∨ cmix o x y = 2 := by
  unfold cmix
  by_cases h : plc x o.1 = none ∨ plc y o.1 = none
  · rw [if_pos h]; exact Or.inr (Or.inl rfl)
  · rw [if_neg h]
    by_cases e : x = y
    · rw [if_pos e]; exact Or.inr (Or.inr rfl)
    · rw [if_neg e]
      refine Or.inl ⟨rfl, ?_⟩
      cases hk : plc x o.1 with
      | none => exact absurd (Or.inl hk) h
      | some k =>
        cases hj : plc y o.1 with
        | none => exact absurd (Or.inr hj) h
        | some j =>
          refine ⟨k, j, rfl, rfl, fun z => e ?_⟩
          obtain ⟨r1, q1, q2⟩ := plc_some hk
          obtain ⟨r2, q3, q4⟩ := plc_some hj
          rw [z, q3] at q1
          cases q1
          rw [← q2, ← q4]
section TW8
variable {l : Launch} {E : g_E} {P : Outcome → g_G → Prop} {G : g_G} {m : Nat} {T : Tw} {S : St}
theorem tw_addColour {r g b f : Int32} (hm : g_B E ≤ m) (h : TwS T S) (kk : ∀ T', TwS T' (mAdd S r g b f).2.2 → T'.2 5 = (mAdd S r g b f).1 → P (.returned (some (.int (mAdd S r g b f).2.1))) (g_tG E G m T')) : g_Spc l E mX5_addColour 3 [.ref m, .int r, .int g, .int b, .int f] (g_tG E G m T) P := by
  have h1 : TwO ((twB T).1 1) S.1 := h.1
  have hl := h.1.1
  unfold mAdd at kk
  refine V_intro (plainFor_of_name plX5) (Nat.le_of_ble_eq_true rfl) ?_
  refine V_aload_n dX5_addColour_0 rfl (Or.inl ⟨_, rfl⟩) ?_
  refine V_callV (q := (RX5, TX5, 23)) kX5_begin q2777 q2779 qs47 tw0 rfl dX5_addColour_1 ?_ (d' := 1) (as := []) (hst := rfl)
  refine (tw_begin hm ?_)
  refine V_aload_n dX5_addColour_4 rfl (Or.inl ⟨_, rfl⟩) ?_
  refine V_iload_n dX5_addColour_5 rfl ?_
  refine V_iload_n dX5_addColour_6 rfl ?_
  refine V_iload_n dX5_addColour_7 rfl ?_
  refine V_iload dX5_addColour_8 rfl ?_
  refine V_callV (q := (RX5, TX5, 23)) kX5_cannotAdd q2784 q2786 qs48 tw0 rfl dX5_addColour_10 ?_ (d' := 2) (as := [_, _, _, _]) (hst := rfl)
  refine (tw_cannotAdd h1 ?_)
  refine V_istore dX5_addColour_13 (by decide) ?_
  refine V_iload dX5_addColour_15 rfl ?_
  rcases cadd_3 (o := S.1) (r := r) (g := g) (b := b) (f := f) with ⟨e, e2⟩ | e | e
  · rw [if_pos e] at kk
    rw [e]
    refine V_if_le 29 dX5_addColour_17 (by decide) (fun _ => ?_) (fun c17 => absurd (Int32.le_refl _) c17)
    refine V_aload_n dX5_addColour_29 rfl (Or.inl ⟨_, rfl⟩) ?_
    refine V_aload_n dX5_addColour_30 rfl (Or.inl ⟨_, rfl⟩) ?_
    refine V_iload_n dX5_addColour_31 rfl ?_
    refine V_iload_n dX5_addColour_32 rfl ?_
    refine V_iload_n dX5_addColour_33 rfl ?_
    refine V_iload dX5_addColour_34 rfl ?_
    refine V_callV (q := (RX5, TX5, 23)) kX5_adds q2798 q2800 qs50 tw0 rfl dX5_addColour_36 ?_ (d' := 1) (as := [_, _, _, _]) (hst := rfl)
    refine (tw_adds hm h1 (by omega) (fun F hF => ?_))
    refine V_callV (q := (RX5, TX5, 23)) kX5_commit q2809 q2811 qs52 tw0 rfl dX5_addColour_39 ?_ (d' := 1) (as := [_]) (hst := rfl)
    refine (tw_commit hm h.2.1.1 h.2.1.2.1 h.2.1.2.2 h.1.before (fun F' hF' => ?_))
    refine V_ireturn dX5_addColour_42 rfl ?_
    exact kk _ (h.ok hF hF') rfl
  · rw [if_neg (by rw [e]; decide), e] at kk
    rw [e]
    refine V_if_le 29 dX5_addColour_17 (by decide) (fun c17 => absurd c17 (by decide)) (fun _ => ?_)
    refine V_aload_n dX5_addColour_20 rfl (Or.inl ⟨_, rfl⟩) ?_
    refine V_iload dX5_addColour_21 rfl ?_
    refine V_callV (q := (RX5, TX5, 23)) kX5_fail q2794 q2796 qs49 tw0 rfl dX5_addColour_23 ?_ (d' := 0) (as := [_]) (hst := rfl)
    refine (tw_fail hm ?_)
    refine V_goto 42 dX5_addColour_26 (by decide) ?_
    refine V_ireturn dX5_addColour_42 rfl ?_
    exact kk _ h.failed rfl
  · rw [if_neg (by rw [e]; decide), e] at kk
    rw [e]
    refine V_if_le 29 dX5_addColour_17 (by decide) (fun c17 => absurd c17 (by decide)) (fun _ => ?_)
    refine V_aload_n dX5_addColour_20 rfl (Or.inl ⟨_, rfl⟩) ?_
    refine V_iload dX5_addColour_21 rfl ?_
    refine V_callV (q := (RX5, TX5, 23)) kX5_fail q2794 q2796 qs49 tw0 rfl dX5_addColour_23 ?_ (d' := 0) (as := [_]) (hst := rfl)
    refine (tw_fail hm ?_)
    refine V_goto 42 dX5_addColour_26 (by decide) ?_
    refine V_ireturn dX5_addColour_42 rfl ?_
    exact kk _ h.failed rfl
theorem tw_report {r g b f w : Int32} (hm : g_B E ≤ m) (h : TwS T S) (kk : ∀ T', TwS T' (mRep S r g b f w).2.2 → T'.2 5 = (mRep S r g b f w).1 → P (.returned (some (.int (mRep S r g b f w).2.1))) (g_tG E G m T')) : g_Spc l E mX5_report 3 [.ref m, .int r, .int g, .int b, .int f, .int w] (g_tG E G m T) P := by
  have h1 : TwO ((twB T).1 1) S.1 := h.1
  have hl := h.1.2.1
  unfold mRep at kk
  refine V_intro (plainFor_of_name plX5) (Nat.le_of_ble_eq_true rfl) ?_
  refine V_aload_n dX5_report_0 rfl (Or.inl ⟨_, rfl⟩) ?_
  refine V_callV (q := (RX5, TX5, 23)) kX5_begin q2777 q2779 qs47 tw0 rfl dX5_report_1 ?_ (d' := 1) (as := []) (hst := rfl)
  refine (tw_begin hm ?_)
  refine V_aload_n dX5_report_4 rfl (Or.inl ⟨_, rfl⟩) ?_
  refine V_iload_n dX5_report_5 rfl ?_
  refine V_iload_n dX5_report_6 rfl ?_
  refine V_iload_n dX5_report_7 rfl ?_
  refine V_iload dX5_report_8 rfl ?_
  refine V_iload dX5_report_10 rfl ?_
  refine V_callV (q := (RX5, TX5, 23)) kX5_cannotReport q2817 q2819 qs53 tw0 rfl dX5_report_12 ?_ (d' := 2) (as := [_, _, _, _, _]) (hst := rfl)
  refine (tw_cannotReport h1 ?_)
  refine V_istore dX5_report_15 (by decide) ?_
  refine V_iload dX5_report_17 rfl ?_
  rcases crep_3 (o := S.1) (r := r) (g := g) (b := b) (f := f) (w := w) with ⟨e, e2⟩ | e | e
  · rw [if_pos e] at kk
    rw [e]
    refine V_if_le 31 dX5_report_19 (by decide) (fun _ => ?_) (fun c19 => absurd (Int32.le_refl _) c19)
    refine V_aload_n dX5_report_31 rfl (Or.inl ⟨_, rfl⟩) ?_
    refine V_aload_n dX5_report_32 rfl (Or.inl ⟨_, rfl⟩) ?_
    refine V_iload_n dX5_report_33 rfl ?_
    refine V_iload_n dX5_report_34 rfl ?_
    refine V_iload_n dX5_report_35 rfl ?_
    refine V_iload dX5_report_36 rfl ?_
    refine V_iload dX5_report_38 rfl ?_
    refine V_callV (q := (RX5, TX5, 23)) kX5_reports q2821 q2823 qs54 tw0 rfl dX5_report_40 ?_ (d' := 1) (as := [_, _, _, _, _]) (hst := rfl)
    refine (tw_reports hm h1 (by omega) (fun F hF => ?_))
    refine V_callV (q := (RX5, TX5, 23)) kX5_commit q2809 q2811 qs52 tw0 rfl dX5_report_43 ?_ (d' := 1) (as := [_]) (hst := rfl)
    refine (tw_commit hm h.2.1.1 h.2.1.2.1 h.2.1.2.2 h.1.before (fun F' hF' => ?_))
    refine V_ireturn dX5_report_46 rfl ?_
    exact kk _ (h.ok hF hF') rfl
  · rw [if_neg (by rw [e]; decide), e] at kk
    rw [e]
    refine V_if_le 31 dX5_report_19 (by decide) (fun c19 => absurd c19 (by decide)) (fun _ => ?_)
    refine V_aload_n dX5_report_22 rfl (Or.inl ⟨_, rfl⟩) ?_
    refine V_iload dX5_report_23 rfl ?_
    refine V_callV (q := (RX5, TX5, 23)) kX5_fail q2794 q2796 qs49 tw0 rfl dX5_report_25 ?_ (d' := 0) (as := [_]) (hst := rfl)
    refine (tw_fail hm ?_)
    refine V_goto 46 dX5_report_28 (by decide) ?_
    refine V_ireturn dX5_report_46 rfl ?_
    exact kk _ h.failed rfl
  · rw [if_neg (by rw [e]; decide), e] at kk
    rw [e]
    refine V_if_le 31 dX5_report_19 (by decide) (fun c19 => absurd c19 (by decide)) (fun _ => ?_)
    refine V_aload_n dX5_report_22 rfl (Or.inl ⟨_, rfl⟩) ?_
    refine V_iload dX5_report_23 rfl ?_
    refine V_callV (q := (RX5, TX5, 23)) kX5_fail q2794 q2796 qs49 tw0 rfl dX5_report_25 ?_ (d' := 0) (as := [_]) (hst := rfl)
    refine (tw_fail hm ?_)
    refine V_goto 46 dX5_report_28 (by decide) ?_
    refine V_ireturn dX5_report_46 rfl ?_
    exact kk _ h.failed rfl
theorem tw_withdraw {id : Int32} (hm : g_B E ≤ m) (h : TwS T S) (kk : ∀ T', TwS T' (mWd S id).2.2 → T'.2 5 = (mWd S id).1 → P (.returned (some (.int (mWd S id).2.1))) (g_tG E G m T')) : g_Spc l E mX5_withdraw 4 [.ref m, .int id] (g_tG E G m T) P := by
  have h1 : TwO ((twB T).1 1) S.1 := h.1
  have hl := h.1.2.1
  unfold mWd at kk
  refine V_intro (plainFor_of_name plX5) (Nat.le_of_ble_eq_true rfl) ?_
  refine V_aload_n dX5_withdraw_0 rfl (Or.inl ⟨_, rfl⟩) ?_
  refine V_callV (q := (RX5, TX5, 23)) kX5_begin q2777 q2779 qs47 tw0 rfl dX5_withdraw_1 ?_ (d' := 1) (as := []) (hst := rfl)
  refine (tw_begin hm ?_)
  refine V_aload_n dX5_withdraw_4 rfl (Or.inl ⟨_, rfl⟩) ?_
  refine V_iload_n dX5_withdraw_5 rfl ?_
  refine V_callV (q := (RX5, TX5, 23)) kX5_openReport q2832 q2834 qs55 tw0 rfl dX5_withdraw_6 ?_ (d' := 2) (as := [_]) (hst := rfl)
  refine (tw_openReport h1 ?_)
  cases hk : plc id S.1.2.1 with
  | none =>
    rw [hk] at kk
    refine V_if_ge 20 dX5_withdraw_9 (by decide) (fun c9 => absurd c9 (show ¬ 0 ≤ plI none by decide)) (fun _ => ?_)
    refine V_aload_n dX5_withdraw_12 rfl (Or.inl ⟨_, rfl⟩) ?_
    refine V_iconstv 1 dX5_withdraw_13 (by decide) ?_
    refine V_callV (q := (RX5, TX5, 23)) kX5_fail q2794 q2796 qs49 tw0 rfl dX5_withdraw_14 ?_ (d' := 0) (as := [_]) (hst := rfl)
    refine (tw_fail hm ?_)
    refine V_goto 29 dX5_withdraw_17 (by decide) ?_
    refine V_ireturn dX5_withdraw_29 rfl ?_
    exact kk _ h.failed rfl
  | some k =>
    have hk1 := plc_lt hk
    rw [hk] at kk
    refine V_if_ge 20 dX5_withdraw_9 (by decide) (fun _ => ?_) (fun c9 => absurd (Int32.not_lt.mp (nI_pos (show k < 2 ^ 31 by omega))) c9)
    refine V_aload_n dX5_withdraw_20 rfl (Or.inl ⟨_, rfl⟩) ?_
    refine V_aload_n dX5_withdraw_21 rfl (Or.inl ⟨_, rfl⟩) ?_
    refine V_iload_n dX5_withdraw_22 rfl ?_
    refine V_callV (q := (RX5, TX5, 23)) kX5_withdraws q2840 q2842 qs57 tw0 rfl dX5_withdraw_23 ?_ (d' := 3) (as := [_]) (hst := rfl)
    refine (tw_withdraws hm h1 hk (fun F hF => ?_))
    refine V_callV (q := (RX5, TX5, 23)) kX5_commit q2809 q2811 qs52 tw0 rfl dX5_withdraw_26 ?_ (d' := 1) (as := [_]) (hst := rfl)
    refine (tw_commit hm h.2.1.1 h.2.1.2.1 h.2.1.2.2 h.1.before (fun F' hF' => ?_))
    refine V_ireturn dX5_withdraw_29 rfl ?_
    exact kk _ (h.ok hF hF') rfl
theorem tw_discard {id : Int32} (hm : g_B E ≤ m) (h : TwS T S) (kk : ∀ T', TwS T' (mDis S id).2.2 → T'.2 5 = (mDis S id).1 → P (.returned (some (.int (mDis S id).2.1))) (g_tG E G m T')) : g_Spc l E mX5_discard 4 [.ref m, .int id] (g_tG E G m T) P := by
  have h1 : TwO ((twB T).1 1) S.1 := h.1
  have hl := h.1.1
  unfold mDis at kk
  refine V_intro (plainFor_of_name plX5) (Nat.le_of_ble_eq_true rfl) ?_
  refine V_aload_n dX5_discard_0 rfl (Or.inl ⟨_, rfl⟩) ?_
  refine V_callV (q := (RX5, TX5, 23)) kX5_begin q2777 q2779 qs47 tw0 rfl dX5_discard_1 ?_ (d' := 1) (as := []) (hst := rfl)
  refine (tw_begin hm ?_)
  refine V_aload_n dX5_discard_4 rfl (Or.inl ⟨_, rfl⟩) ?_
  refine V_iload_n dX5_discard_5 rfl ?_
  refine V_callV (q := (RX5, TX5, 23)) kX5_colour q2856 q2858 qs60 tw0 rfl dX5_discard_6 ?_ (d' := 2) (as := [_]) (hst := rfl)
  refine (tw_colour h1 ?_)
  cases hk : plc id S.1.1 with
  | none =>
    rw [hk] at kk
    refine V_if_ge 20 dX5_discard_9 (by decide) (fun c9 => absurd c9 (show ¬ 0 ≤ plI none by decide)) (fun _ => ?_)
    refine V_aload_n dX5_discard_12 rfl (Or.inl ⟨_, rfl⟩) ?_
    refine V_iconstv 1 dX5_discard_13 (by decide) ?_
    refine V_callV (q := (RX5, TX5, 23)) kX5_fail q2794 q2796 qs49 tw0 rfl dX5_discard_14 ?_ (d' := 0) (as := [_]) (hst := rfl)
    refine (tw_fail hm ?_)
    refine V_goto 29 dX5_discard_17 (by decide) ?_
    refine V_ireturn dX5_discard_29 rfl ?_
    exact kk _ h.failed rfl
  | some k =>
    have hk1 := plc_lt hk
    rw [hk] at kk
    refine V_if_ge 20 dX5_discard_9 (by decide) (fun _ => ?_) (fun c9 => absurd (Int32.not_lt.mp (nI_pos (show k < 2 ^ 31 by omega))) c9)
    refine V_aload_n dX5_discard_20 rfl (Or.inl ⟨_, rfl⟩) ?_
    refine V_aload_n dX5_discard_21 rfl (Or.inl ⟨_, rfl⟩) ?_
    refine V_iload_n dX5_discard_22 rfl ?_
    refine V_callV (q := (RX5, TX5, 23)) kX5_discards q2864 q2866 qs62 tw0 rfl dX5_discard_23 ?_ (d' := 3) (as := [_]) (hst := rfl)
    refine (tw_discards hm h1 hk (fun F hF => ?_))
    refine V_callV (q := (RX5, TX5, 23)) kX5_commit q2809 q2811 qs52 tw0 rfl dX5_discard_26 ?_ (d' := 1) (as := [_]) (hst := rfl)
    refine (tw_commit hm h.2.1.1 h.2.1.2.1 h.2.1.2.2 h.1.before (fun F' hF' => ?_))
    refine V_ireturn dX5_discard_29 rfl ?_
    exact kk _ (h.ok hF hF') rfl
theorem tw_setMetric {c : Int32} (hm : g_B E ≤ m) (h : TwS T S) (h5 : S.1.2.2 5 = 109 ∨ S.1.2.2 5 = 115 ∨ S.1.2.2 5 = 103) (kk : ∀ T', TwS T' (mMet S c).2.2 → T'.2 5 = (mMet S c).1 → P (.returned (some (.int (mMet S c).2.1))) (g_tG E G m T')) : g_Spc l E mX5_setMetric 2 [.ref m, .int c] (g_tG E G m T) P := by
  have h1 : TwO ((twB T).1 1) S.1 := h.1
  have e5 : ((S.1.2.2 5).toUInt32 % 65536).toInt32 = S.1.2.2 5 ∧ narrow .char (.int (S.1.2.2 5)) = .int (S.1.2.2 5) := by
    rcases h5 with h5 | h5 | h5
    · rw [h5]; exact ⟨by decide, rfl⟩
    · rw [h5]; exact ⟨by decide, rfl⟩
    · rw [h5]; exact ⟨by decide, rfl⟩
  unfold mMet at kk
  refine V_intro (plainFor_of_name plX5) (Nat.le_of_ble_eq_true rfl) ?_
  refine V_aload_n dX5_setMetric_0 rfl (Or.inl ⟨_, rfl⟩) ?_
  refine V_callV (q := (RX5, TX5, 23)) kX5_begin q2777 q2779 qs47 tw0 rfl dX5_setMetric_1 ?_ (d' := 1) (as := []) (hst := rfl)
  refine (tw_begin hm ?_)
  refine V_iload_n dX5_setMetric_4 rfl ?_
  refine V_callS kX5_isMetric q2876 q2877 dX5_setMetric_5 ?_ (d' := 0) (as := [_]) (hst := rfl)
  refine (tw_isMetric ?_)
  refine V_if_eq 22 dX5_setMetric_8 (by decide) (fun c8 => ?_) (fun c8 => ?_)
  · rw [if_neg (of_decide_eq_false (b2i_f c8))] at kk
    refine V_aload_n dX5_setMetric_22 rfl (Or.inl ⟨_, rfl⟩) ?_
    refine V_iconstv 1 dX5_setMetric_23 (by decide) ?_
    refine tw_putI 5 hm (by decide) q2704 rfl rfl rfl rfl rfl dX5_setMetric_24 ?_
    refine V_bipushv 32 dX5_setMetric_27 (by decide) ?_
    refine V_zreturn dX5_setMetric_29 rfl rfl ?_
    exact kk _ h.failed rfl
  · rw [if_pos (of_decide_eq_true (b2i_t c8))] at kk
    refine V_aload_n dX5_setMetric_11 rfl (Or.inl ⟨_, rfl⟩) ?_
    refine V_aload_n dX5_setMetric_12 rfl (Or.inl ⟨_, rfl⟩) ?_
    refine V_iload_n dX5_setMetric_13 rfl ?_
    refine V_callV (q := (RX5, TX5, 23)) kX5_measures q2879 q2881 qs64 tw0 rfl dX5_setMetric_14 ?_ (d' := 0) (as := [_]) (hst := rfl)
    refine (tw_measures hm h1 (fun F hF => ?_))
    refine V_callV (q := (RX5, TX5, 23)) kX5_commit q2809 q2811 qs52 tw0 rfl dX5_setMetric_17 ?_ (d' := 1) (as := [_]) (hst := rfl)
    refine (tw_commit hm h.2.1.1 h.2.1.2.1 h.2.1.2.2 h.1.before (fun F' hF' => ?_))
    refine V_i2c dX5_setMetric_20 ?_
    rw [e5.1]
    refine V_zreturn dX5_setMetric_21 rfl e5.2 ?_
    exact kk _ (h.ok hF hF') rfl
theorem tw_giveBack {x y : Int32} (hm : g_B E ≤ m) (h : TwS T S) (kk : ∀ T', TwS T' (mGive S x y).2.2 → T'.2 5 = (mGive S x y).1 → P (.returned (some (.int (mGive S x y).2.1))) (g_tG E G m T')) : g_Spc l E mX5_giveBack 5 [.ref m, .int x, .int y] (g_tG E G m T) P := by
  have h1 : TwO ((twB T).1 1) S.1 := h.1
  unfold mGive at kk
  refine V_intro (plainFor_of_name plX5) (Nat.le_of_ble_eq_true rfl) ?_
  refine V_aload_n dX5_giveBack_0 rfl (Or.inl ⟨_, rfl⟩) ?_
  refine V_callV (q := (RX5, TX5, 23)) kX5_begin q2777 q2779 qs47 tw0 rfl dX5_giveBack_1 ?_ (d' := 1) (as := []) (hst := rfl)
  refine (tw_begin hm ?_)
  refine V_aload_n dX5_giveBack_4 rfl (Or.inl ⟨_, rfl⟩) ?_
  refine V_iload_n dX5_giveBack_5 rfl ?_
  refine V_iload_n dX5_giveBack_6 rfl ?_
  refine V_callV (q := (RX5, TX5, 23)) kX5_cannotGive q2887 q2889 qs65 tw0 rfl dX5_giveBack_7 ?_ (d' := 4) (as := [_, _]) (hst := rfl)
  refine (tw_cannotGive h1 ?_)
  refine V_istore_n dX5_giveBack_10 (by decide) ?_
  refine V_iload_n dX5_giveBack_11 rfl ?_
  rcases cgive_3 (o := S.1) (r := x) (i := y) with ⟨e, k, j, e2, e3⟩ | e | e
  · rw [if_pos e, e2, e3] at kk
    rw [e]
    refine V_if_le 23 dX5_giveBack_12 (by decide) (fun _ => ?_) (fun c12 => absurd (Int32.le_refl _) c12)
    refine V_aload_n dX5_giveBack_23 rfl (Or.inl ⟨_, rfl⟩) ?_
    refine V_aload_n dX5_giveBack_24 rfl (Or.inl ⟨_, rfl⟩) ?_
    refine V_iload_n dX5_giveBack_25 rfl ?_
    refine V_iload_n dX5_giveBack_26 rfl ?_
    refine V_callV (q := (RX5, TX5, 23)) kX5_gives q2910 q2912 qs70 tw0 rfl dX5_giveBack_27 ?_ (d' := 3) (as := [_, _]) (hst := rfl)
    refine (tw_gives hm h1 e2 e3 (fun F hF => ?_))
    refine V_callV (q := (RX5, TX5, 23)) kX5_commit q2809 q2811 qs52 tw0 rfl dX5_giveBack_30 ?_ (d' := 1) (as := [_]) (hst := rfl)
    refine (tw_commit hm h.2.1.1 h.2.1.2.1 h.2.1.2.2 h.1.before (fun F' hF' => ?_))
    refine V_ireturn dX5_giveBack_33 rfl ?_
    exact kk _ (h.ok hF hF') rfl
  · rw [if_neg (by rw [e]; decide), e] at kk
    rw [e]
    refine V_if_le 23 dX5_giveBack_12 (by decide) (fun c12 => absurd c12 (by decide)) (fun _ => ?_)
    refine V_aload_n dX5_giveBack_15 rfl (Or.inl ⟨_, rfl⟩) ?_
    refine V_iload_n dX5_giveBack_16 rfl ?_
    refine V_callV (q := (RX5, TX5, 23)) kX5_fail q2794 q2796 qs49 tw0 rfl dX5_giveBack_17 ?_ (d' := 0) (as := [_]) (hst := rfl)
    refine (tw_fail hm ?_)
    refine V_goto 33 dX5_giveBack_20 (by decide) ?_
    refine V_ireturn dX5_giveBack_33 rfl ?_
    exact kk _ h.failed rfl
  · rw [if_neg (by rw [e]; decide), e] at kk
    rw [e]
    refine V_if_le 23 dX5_giveBack_12 (by decide) (fun c12 => absurd c12 (by decide)) (fun _ => ?_)
    refine V_aload_n dX5_giveBack_15 rfl (Or.inl ⟨_, rfl⟩) ?_
    refine V_iload_n dX5_giveBack_16 rfl ?_
    refine V_callV (q := (RX5, TX5, 23)) kX5_fail q2794 q2796 qs49 tw0 rfl dX5_giveBack_17 ?_ (d' := 0) (as := [_]) (hst := rfl)
    refine (tw_fail hm ?_)
    refine V_goto 33 dX5_giveBack_20 (by decide) ?_
    refine V_ireturn dX5_giveBack_33 rfl ?_
    exact kk _ h.failed rfl
theorem tw_mix {x y : Int32} (hm : g_B E ≤ m) (h : TwS T S) (kk : ∀ T', TwS T' (mMix S x y).2.2 → T'.2 5 = (mMix S x y).1 → P (.returned (some (.int (mMix S x y).2.1))) (g_tG E G m T')) : g_Spc l E mX5_mix 4 [.ref m, .int x, .int y] (g_tG E G m T) P := by
  have h1 : TwO ((twB T).1 1) S.1 := h.1
  unfold mMix at kk
  refine V_intro (plainFor_of_name plX5) (Nat.le_of_ble_eq_true rfl) ?_
  refine V_aload_n dX5_mix_0 rfl (Or.inl ⟨_, rfl⟩) ?_
  refine V_callV (q := (RX5, TX5, 23)) kX5_begin q2777 q2779 qs47 tw0 rfl dX5_mix_1 ?_ (d' := 1) (as := []) (hst := rfl)
  refine (tw_begin hm ?_)
  refine V_aload_n dX5_mix_4 rfl (Or.inl ⟨_, rfl⟩) ?_
  refine V_iload_n dX5_mix_5 rfl ?_
  refine V_iload_n dX5_mix_6 rfl ?_
  refine V_callV (q := (RX5, TX5, 23)) kX5_cannotMix q2943 q2945 qs76 tw0 rfl dX5_mix_7 ?_ (d' := 3) (as := [_, _]) (hst := rfl)
  refine (tw_cannotMix h1 ?_)
  refine V_istore_n dX5_mix_10 (by decide) ?_
  refine V_iload_n dX5_mix_11 rfl ?_
  rcases cmix_3 (o := S.1) (x := x) (y := y) with ⟨e, k, j, e2, e3, e4⟩ | e | e
  · rw [if_pos e, e2, e3] at kk
    rw [e]
    refine V_if_le 23 dX5_mix_12 (by decide) (fun _ => ?_) (fun c12 => absurd (Int32.le_refl _) c12)
    refine V_aload_n dX5_mix_23 rfl (Or.inl ⟨_, rfl⟩) ?_
    refine V_aload_n dX5_mix_24 rfl (Or.inl ⟨_, rfl⟩) ?_
    refine V_iload_n dX5_mix_25 rfl ?_
    refine V_iload_n dX5_mix_26 rfl ?_
    refine V_callV (q := (RX5, TX5, 23)) kX5_mixes q2947 q2949 qs77 tw0 rfl dX5_mix_27 ?_ (d' := 3) (as := [_, _]) (hst := rfl)
    refine (tw_mixes hm h1 e2 e3 e4 (fun F hF => ?_))
    refine V_callV (q := (RX5, TX5, 23)) kX5_commit q2809 q2811 qs52 tw0 rfl dX5_mix_30 ?_ (d' := 1) (as := [_]) (hst := rfl)
    refine (tw_commit hm h.2.1.1 h.2.1.2.1 h.2.1.2.2 h.1.before (fun F' hF' => ?_))
    refine V_ireturn dX5_mix_33 rfl ?_
    exact kk _ (h.ok hF hF') rfl
  · rw [if_neg (by rw [e]; decide), e] at kk
    rw [e]
    refine V_if_le 23 dX5_mix_12 (by decide) (fun c12 => absurd c12 (by decide)) (fun _ => ?_)
    refine V_aload_n dX5_mix_15 rfl (Or.inl ⟨_, rfl⟩) ?_
    refine V_iload_n dX5_mix_16 rfl ?_
    refine V_callV (q := (RX5, TX5, 23)) kX5_fail q2794 q2796 qs49 tw0 rfl dX5_mix_17 ?_ (d' := 0) (as := [_]) (hst := rfl)
    refine (tw_fail hm ?_)
    refine V_goto 33 dX5_mix_20 (by decide) ?_
    refine V_ireturn dX5_mix_33 rfl ?_
    exact kk _ h.failed rfl
  · rw [if_neg (by rw [e]; decide), e] at kk
    rw [e]
    refine V_if_le 23 dX5_mix_12 (by decide) (fun c12 => absurd c12 (by decide)) (fun _ => ?_)
    refine V_aload_n dX5_mix_15 rfl (Or.inl ⟨_, rfl⟩) ?_
    refine V_iload_n dX5_mix_16 rfl ?_
    refine V_callV (q := (RX5, TX5, 23)) kX5_fail q2794 q2796 qs49 tw0 rfl dX5_mix_17 ?_ (d' := 0) (as := [_]) (hst := rfl)
    refine (tw_fail hm ?_)
    refine V_goto 33 dX5_mix_20 (by decide) ?_
    refine V_ireturn dX5_mix_33 rfl ?_
    exact kk _ h.failed rfl
theorem tw_passDays {x : Int32} (hm : g_B E ≤ m) (h : TwS T S) (hf : ∀ c ∈ S.1.1, c.2.2.1 ≠ 0) (kk : ∀ T', TwS T' (mPass S x).2.2 → T'.2 5 = (mPass S x).1 → P (.returned (some (.int (mPass S x).2.1))) (g_tG E G m T')) : g_Spc l E mX5_passDays 5 [.ref m, .int x] (g_tG E G m T) P := by
  have h1 : TwO ((twB T).1 1) S.1 := h.1
  unfold mPass at kk
  refine V_intro (plainFor_of_name plX5) (Nat.le_of_ble_eq_true rfl) ?_
  refine V_aload_n dX5_passDays_0 rfl (Or.inl ⟨_, rfl⟩) ?_
  refine V_callV (q := (RX5, TX5, 23)) kX5_begin q2777 q2779 qs47 tw0 rfl dX5_passDays_1 ?_ (d' := 1) (as := []) (hst := rfl)
  refine (tw_begin hm ?_)
  refine V_iload_n dX5_passDays_4 rfl ?_
  refine V_iconstv 1 dX5_passDays_5 (by decide) ?_
  refine V_bipushv 99 dX5_passDays_6 (by decide) ?_
  refine V_callS kX5_in q2791 q2792 dX5_passDays_8 ?_ (d' := 0) (as := [_, _, _]) (hst := rfl)
  refine (tw_in ?_)
  refine V_if_eq 26 dX5_passDays_11 (by decide) (fun c11 => ?_) (fun c11 => ?_)
  · rw [if_neg (by rw [b2i_f c11]; decide)] at kk
    refine V_aload_n dX5_passDays_26 rfl (Or.inl ⟨_, rfl⟩) ?_
    refine V_iconstv 1 dX5_passDays_27 (by decide) ?_
    refine V_callV (q := (RX5, TX5, 23)) kX5_fail q2794 q2796 qs49 tw0 rfl dX5_passDays_28 ?_ (d' := 0) (as := [_]) (hst := rfl)
    refine (tw_fail hm ?_)
    refine V_ireturn dX5_passDays_31 rfl ?_
    exact kk _ h.failed rfl
  · have hb := b2i_t c11
    rw [if_pos hb] at kk
    have hx : ¬ x < 0 := by
      unfold isb at hb
      rw [Bool.and_eq_true, decide_eq_true_eq] at hb
      exact Int32.not_lt.mpr (Int32.le_trans (by decide) hb.1)
    obtain ⟨j, hj, rfl⟩ := nI_of hx
    rw [nI_clamp hj] at kk
    refine V_aload_n dX5_passDays_14 rfl (Or.inl ⟨_, rfl⟩) ?_
    refine V_aload_n dX5_passDays_15 rfl (Or.inl ⟨_, rfl⟩) ?_
    refine V_iload_n dX5_passDays_16 rfl ?_
    refine V_callV (q := (RX5, TX5, 23)) kX5_passes q2955 q2957 qs78 tw0 rfl dX5_passDays_17 ?_ (d' := 4) (as := [_]) (hst := rfl)
    refine (tw_passes hm h1 rfl hj hf (fun F hF => ?_))
    refine V_callV (q := (RX5, TX5, 23)) kX5_commit q2809 q2811 qs52 tw0 rfl dX5_passDays_20 ?_ (d' := 1) (as := [_]) (hst := rfl)
    refine (tw_commit hm h.2.1.1 h.2.1.2.1 h.2.1.2.2 h.1.before (fun F' hF' => ?_))
    refine V_goto 31 dX5_passDays_23 (by decide) ?_
    refine V_ireturn dX5_passDays_31 rfl ?_
    exact kk _ (h.ok hF hF') rfl
end TW8
