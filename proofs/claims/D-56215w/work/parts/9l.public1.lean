/-! MODULE ColourOffice: the public changes -/
set_option maxRecDepth 100000
def cls2 (a b : Nat) (c : Int32) : Nat := if c = 1 then a else b
/-- a public method answers as M says: its exceptions' classes by cls -/
def AnsM (E : g_E) (K : Nat → Prop) (G : g_G) (x : Nat) (M : Int32 × Int32 × St) (cls : Int32 → Nat) (o : Outcome) : Prop := CX E K G x M.2.2 ∧ ((M.1 = 0 ∧ o = .returned (some (.int M.2.1))) ∨ (M.1 ≠ 0 ∧ ∃ q, o = .threw q ∧ ExAt G q (cls M.1)))
section MK
variable {S : St} {f : Nat → Int32}
theorem cmK_w {o : Of} {kind : Nat} {f : Nat → Int32} (h : kind ≠ 4) : cmK o kind f = whyK o kind (f 0) (f 1) (f 2) (f 3) (f 4) := if_neg h
theorem kOf_0 {w a b : Int32} (ha : a ≠ 0) (hb : b ≠ 0) (h : kOf w a b = 0) : w = 0 := by
  unfold kOf at h
  by_cases e : w = 0
  · exact e
  · rw [if_neg e] at h
    by_cases e2 : w = 1
    · rw [if_pos e2] at h; exact absurd h ha
    · rw [if_neg e2] at h; exact absurd h hb
theorem kOf_n {w a b : Int32} {c d : Nat} (hac : exC a = c) (hbd : exC b = d) (h : kOf w a b ≠ 0) : w ≠ 0 ∧ cls2 c d w = exC (kOf w a b) := by
  unfold kOf at h ⊢
  by_cases e : w = 0
  · rw [if_pos e] at h
    exact absurd rfl h
  · refine ⟨e, ?_⟩
    rw [if_neg e]
    unfold cls2
    by_cases e2 : w = 1
    · rw [if_pos e2, if_pos e2, hac]
    · rw [if_neg e2, if_neg e2, hbd]
theorem mk_addColour_t {r g b c : Int32} (hk : cmK S.1 0 f = 0) (e0 : f 0 = r) (e1 : f 1 = g) (e2 : f 2 = b) (e3 : f 3 = c) : mAdd S r g b c = (0, cmR S.1 0 f, sPush S (doO S.1 0 (f 0) (f 1) (f 2) (f 3) (f 4))) := by
  subst e0 e1 e2 e3
  exact if_pos (kOf_0 (by decide) (by decide) hk)
theorem mk_addColour_f {r g b c : Int32} (hk : cmK S.1 0 f ≠ 0) (e0 : f 0 = r) (e1 : f 1 = g) (e2 : f 2 = b) (e3 : f 3 = c) : (mAdd S r g b c).1 ≠ 0 ∧ (mAdd S r g b c).2.2 = S ∧ cls2 27 28 (mAdd S r g b c).1 = exC (cmK S.1 0 f) := by
  subst e0 e1 e2 e3
  obtain ⟨h1, h2⟩ := kOf_n (c := 27) (d := 28) (by decide) (by decide) hk
  have e : mAdd S (f 0) (f 1) (f 2) (f 3) = (cadd S.1 (f 0) (f 1) (f 2) (f 3), 0, S) := if_neg h1
  rw [e]
  exact ⟨h1, rfl, h2⟩
theorem mk_report_t {r g b t w : Int32} (hk : cmK S.1 1 f = 0) (e0 : f 0 = r) (e1 : f 1 = g) (e2 : f 2 = b) (e3 : f 3 = t) (e4 : f 4 = w) : mRep S r g b t w = (0, cmR S.1 1 f, sPush S (doO S.1 1 (f 0) (f 1) (f 2) (f 3) (f 4))) := by
  subst e0 e1 e2 e3 e4
  exact if_pos (kOf_0 (by decide) (by decide) hk)
theorem mk_report_f {r g b t w : Int32} (hk : cmK S.1 1 f ≠ 0) (e0 : f 0 = r) (e1 : f 1 = g) (e2 : f 2 = b) (e3 : f 3 = t) (e4 : f 4 = w) : (mRep S r g b t w).1 ≠ 0 ∧ (mRep S r g b t w).2.2 = S ∧ cls2 27 28 (mRep S r g b t w).1 = exC (cmK S.1 1 f) := by
  subst e0 e1 e2 e3 e4
  obtain ⟨h1, h2⟩ := kOf_n (c := 27) (d := 28) (by decide) (by decide) hk
  have e : mRep S (f 0) (f 1) (f 2) (f 3) (f 4) = (crep S.1 (f 0) (f 1) (f 2) (f 3) (f 4), 0, S) := if_neg h1
  rw [e]
  exact ⟨h1, rfl, h2⟩
theorem mk_withdraw_t {i : Int32} (hk : cmK S.1 2 f = 0) (e0 : f 0 = i) : mWd S i = (0, cmR S.1 2 f, sPush S (doO S.1 2 (f 0) (f 1) (f 2) (f 3) (f 4))) := by
  subst e0
  have hk : (if plc (f 0) S.1.2.1 = none then (101 : Int32) else 0) = 0 := hk
  show _ = (0, nI (ofWd S.1 ((plc (f 0) S.1.2.1).getD 0)).2.1.length, sPush S (ofWd S.1 ((plc (f 0) S.1.2.1).getD 0)))
  unfold mWd
  cases e : plc (f 0) S.1.2.1 with
  | none => rw [e] at hk; exact absurd hk (by decide)
  | some k => rfl
theorem mk_withdraw_f {i : Int32} (hk : cmK S.1 2 f ≠ 0) (e0 : f 0 = i) : (mWd S i).1 ≠ 0 ∧ (mWd S i).2.2 = S ∧ cls2 25 0 (mWd S i).1 = exC (cmK S.1 2 f) := by
  subst e0
  have hk' : (if plc (f 0) S.1.2.1 = none then (101 : Int32) else 0) ≠ 0 := hk
  show _ ∧ _ ∧ _ = exC (if plc (f 0) S.1.2.1 = none then (101 : Int32) else 0)
  unfold mWd
  cases e : plc (f 0) S.1.2.1 with
  | none => exact ⟨by decide, rfl, by decide⟩
  | some k => rw [e] at hk'; exact absurd rfl hk'
theorem mk_discard_t {i : Int32} (hk : cmK S.1 3 f = 0) (e0 : f 0 = i) : mDis S i = (0, cmR S.1 3 f, sPush S (doO S.1 3 (f 0) (f 1) (f 2) (f 3) (f 4))) := by
  subst e0
  have hk : (if plc (f 0) S.1.1 = none then (101 : Int32) else 0) = 0 := hk
  show _ = (0, nI (ofDis S.1 ((plc (f 0) S.1.1).getD 0)).1.length, sPush S (ofDis S.1 ((plc (f 0) S.1.1).getD 0)))
  unfold mDis
  cases e : plc (f 0) S.1.1 with
  | none => rw [e] at hk; exact absurd hk (by decide)
  | some k => rfl
theorem mk_discard_f {i : Int32} (hk : cmK S.1 3 f ≠ 0) (e0 : f 0 = i) : (mDis S i).1 ≠ 0 ∧ (mDis S i).2.2 = S ∧ cls2 25 0 (mDis S i).1 = exC (cmK S.1 3 f) := by
  subst e0
  have hk' : (if plc (f 0) S.1.1 = none then (101 : Int32) else 0) ≠ 0 := hk
  show _ ∧ _ ∧ _ = exC (if plc (f 0) S.1.1 = none then (101 : Int32) else 0)
  unfold mDis
  cases e : plc (f 0) S.1.1 with
  | none => exact ⟨by decide, rfl, by decide⟩
  | some k => rw [e] at hk'; exact absurd rfl hk'
theorem mk_setMetric_t {c : Int32} (hk : cmK S.1 4 f = 0) (e0 : f 0 = c) : mMet S c = (0, cmR S.1 4 f, sPush S (doO S.1 4 (f 0) (f 1) (f 2) (f 3) (f 4))) := by
  subst e0
  have hk : (if isM (f 0) = true then (0 : Int32) else 97) = 0 := hk
  by_cases e : isM (f 0) = true
  · exact if_pos (of_decide_eq_true e)
  · rw [if_neg e] at hk
    exact absurd hk (by decide)
theorem mk_setMetric_f {c : Int32} (hk : cmK S.1 4 f ≠ 0) (e0 : f 0 = c) : (mMet S c).1 ≠ 0 ∧ (mMet S c).2.2 = S ∧ cls2 27 0 (mMet S c).1 = exC (cmK S.1 4 f) := by
  subst e0
  have hk' : (if isM (f 0) = true then (0 : Int32) else 97) ≠ 0 := hk
  show _ ∧ _ ∧ _ = exC (if isM (f 0) = true then (0 : Int32) else 97)
  by_cases e : isM (f 0) = true
  · rw [if_pos e] at hk'
    exact absurd rfl hk'
  · have e2 : mMet S (f 0) = (1, 32, S) := if_neg fun q => e (decide_eq_true q)
    rw [e2, if_neg e]
    exact ⟨by decide, rfl, by decide⟩
theorem mk_giveBack_t {i j : Int32} (hk : cmK S.1 5 f = 0) (e0 : f 0 = i) (e1 : f 1 = j) : mGive S i j = (0, cmR S.1 5 f, sPush S (doO S.1 5 (f 0) (f 1) (f 2) (f 3) (f 4))) := by
  subst e0 e1
  have h0 : cgive S.1 (f 0) (f 1) = 0 := kOf_0 (by decide) (by decide) hk
  show _ = (0, (rwAt S.1.2.1 ((plc (f 0) S.1.2.1).getD 0)).2.2.2, sPush S (ofGive S.1 ((plc (f 0) S.1.2.1).getD 0) ((plc (f 1) S.1.1).getD 0)))
  unfold mGive
  rw [if_pos h0]
  unfold cgive at h0
  cases e : plc (f 0) S.1.2.1 with
  | none => rw [e] at h0; exact absurd h0 (by decide)
  | some k =>
    cases e' : plc (f 1) S.1.1 with
    | none => rw [e, e'] at h0; exact absurd h0 (by decide)
    | some j => rfl
theorem mk_giveBack_f {i j : Int32} (hk : cmK S.1 5 f ≠ 0) (e0 : f 0 = i) (e1 : f 1 = j) : (mGive S i j).1 ≠ 0 ∧ (mGive S i j).2.2 = S ∧ cls2 25 29 (mGive S i j).1 = exC (cmK S.1 5 f) := by
  subst e0 e1
  obtain ⟨h1, h2⟩ := kOf_n (c := 25) (d := 29) (by decide) (by decide) hk
  have e : mGive S (f 0) (f 1) = (cgive S.1 (f 0) (f 1), 0, S) := if_neg h1
  rw [e]
  exact ⟨h1, rfl, h2⟩
theorem mk_settle_t (hk : cmK S.1 6 f = 0) : mSettle S = (0, cmR S.1 6 f, sPush S (doO S.1 6 (f 0) (f 1) (f 2) (f 3) (f 4))) := rfl
theorem mk_settle_f (hk : cmK S.1 6 f ≠ 0) : (mSettle S).1 ≠ 0 ∧ (mSettle S).2.2 = S ∧ cls2 0 0 (mSettle S).1 = exC (cmK S.1 6 f) := absurd rfl hk
theorem mk_mix_t {i j : Int32} (hk : cmK S.1 7 f = 0) (e0 : f 0 = i) (e1 : f 1 = j) : mMix S i j = (0, cmR S.1 7 f, sPush S (doO S.1 7 (f 0) (f 1) (f 2) (f 3) (f 4))) := by
  subst e0 e1
  have h0 : cmix S.1 (f 0) (f 1) = 0 := kOf_0 (by decide) (by decide) hk
  show _ = (0, S.1.2.2 2, sPush S (ofMix S.1 ((plc (f 0) S.1.1).getD 0) ((plc (f 1) S.1.1).getD 0)))
  unfold mMix
  rw [if_pos h0]
  unfold cmix at h0
  cases e : plc (f 0) S.1.1 with
  | none => rw [if_pos (Or.inl e)] at h0; exact absurd h0 (by decide)
  | some k =>
    cases e' : plc (f 1) S.1.1 with
    | none => rw [if_pos (Or.inr e')] at h0; exact absurd h0 (by decide)
    | some j => rfl
theorem mk_mix_f {i j : Int32} (hk : cmK S.1 7 f ≠ 0) (e0 : f 0 = i) (e1 : f 1 = j) : (mMix S i j).1 ≠ 0 ∧ (mMix S i j).2.2 = S ∧ cls2 25 27 (mMix S i j).1 = exC (cmK S.1 7 f) := by
  subst e0 e1
  obtain ⟨h1, h2⟩ := kOf_n (c := 25) (d := 27) (by decide) (by decide) hk
  have e : mMix S (f 0) (f 1) = (cmix S.1 (f 0) (f 1), 0, S) := if_neg h1
  rw [e]
  exact ⟨h1, rfl, h2⟩
theorem mk_passDays_t {i : Int32} (hk : cmK S.1 8 f = 0) (e0 : f 0 = i) : mPass S i = (0, cmR S.1 8 f, sPush S (doO S.1 8 (f 0) (f 1) (f 2) (f 3) (f 4))) := by
  subst e0
  have hk : (if isb (f 0) 1 99 = true then (0 : Int32) else 97) = 0 := hk
  by_cases e : isb (f 0) 1 99 = true
  · exact if_pos e
  · rw [if_neg e] at hk
    exact absurd hk (by decide)
theorem mk_passDays_f {i : Int32} (hk : cmK S.1 8 f ≠ 0) (e0 : f 0 = i) : (mPass S i).1 ≠ 0 ∧ (mPass S i).2.2 = S ∧ cls2 27 0 (mPass S i).1 = exC (cmK S.1 8 f) := by
  subst e0
  have hk' : (if isb (f 0) 1 99 = true then (0 : Int32) else 97) ≠ 0 := hk
  show _ ∧ _ ∧ _ = exC (if isb (f 0) 1 99 = true then (0 : Int32) else 97)
  by_cases e : isb (f 0) 1 99 = true
  · rw [if_pos e] at hk'
    exact absurd rfl hk'
  · have e2 : mPass S (f 0) = (1, 0, S) := if_neg e
    rw [e2, if_neg e]
    exact ⟨by decide, rfl, by decide⟩
end MK
section PUB1
variable {l : Launch} {E : g_E} {P : Outcome → g_G → Prop} {G : g_G} {K : Nat → Prop}
theorem CX.metC {x : Nat} {S : St} (h : CX E K G x S) : isC (S.1.2.2 5) := by
  obtain ⟨a, sn, ps, sb, out, as, -, -, -, ⟨s, pa, fs, al, rs, hO⟩, -⟩ := h
  exact hO.2.2.1
theorem cx_addColour {x : Nat} {r : Int32} {g : Int32} {b : Int32} {c : Int32} {S : St} (h : CX E K G x S) (ha : AppOK S.1) (hf : g_fit E G 50000 228000) (kk : ∀ o G', g_mod (frK K) G G' 50000 228000 → AnsM E K G' x (mAdd S r g b c) (cls2 27 28) o → P o G') : g_Spc l E mX1_addColour 20 [.ref x, .int r, .int g, .int b, .int c] G P := by
  obtain ⟨hf1, hf2⟩ := hf
  refine V_intro (plainFor_of_name plX1) (Nat.le_of_ble_eq_true rfl) ?_
  refine V_wf (fun wf hBG => ?_)
  have kN : ∀ F, g_ke g_all G (g_new G (g_ai E 4 F) 4) := fun F => g_ke.new wf _ _
  refine V_aload_n dX1_addColour_0 rfl (Or.inl ⟨_, rfl⟩) ?_
  refine V_sc scX1_94 q1825 dX1_addColour_1 (by decide) rfl (fun hS1 => ?_)
  refine V_iconstv 4 dX1_addColour_3 (by decide) ?_
  refine V_newarray_int 4 rfl (by decide) q388 dX1_addColour_4 (by first | omega | (simp only [g_new, g_up]; omega)) (by first | omega | (simp only [g_new, g_up]; omega)) ?_
  refine V_dup dX1_addColour_6 rfl ?_
  refine V_iconstv 0 dX1_addColour_7 (by decide) ?_
  refine V_iload_n dX1_addColour_8 rfl ?_
  refine V_iastore (g_new_at rfl) (by first | assumption | omega | (simp only [g_new, g_up]; omega) | (simp only [g_new, g_up, g_B] at *; omega)) (by first | assumption | exact g_in (by decide)) q388 dX1_addColour_9 ?_
  rw [g_new_up rfl]
  refine V_dup dX1_addColour_10 rfl ?_
  refine V_iconstv 1 dX1_addColour_11 (by decide) ?_
  refine V_iload_n dX1_addColour_12 rfl ?_
  refine V_iastore (g_new_at rfl) (by first | assumption | omega | (simp only [g_new, g_up]; omega) | (simp only [g_new, g_up, g_B] at *; omega)) (by first | assumption | exact g_in (by decide)) q388 dX1_addColour_13 ?_
  rw [g_new_up rfl]
  refine V_dup dX1_addColour_14 rfl ?_
  refine V_iconstv 2 dX1_addColour_15 (by decide) ?_
  refine V_iload_n dX1_addColour_16 rfl ?_
  refine V_iastore (g_new_at rfl) (by first | assumption | omega | (simp only [g_new, g_up]; omega) | (simp only [g_new, g_up, g_B] at *; omega)) (by first | assumption | exact g_in (by decide)) q388 dX1_addColour_17 ?_
  rw [g_new_up rfl]
  refine V_dup dX1_addColour_18 rfl ?_
  refine V_iconstv 3 dX1_addColour_19 (by decide) ?_
  refine V_iload dX1_addColour_20 rfl ?_
  refine V_iastore (g_new_at rfl) (by first | assumption | omega | (simp only [g_new, g_up]; omega) | (simp only [g_new, g_up, g_B] at *; omega)) (by first | assumption | exact g_in (by decide)) q388 dX1_addColour_22 ?_
  rw [g_new_up rfl]
  refine V_callV (q := (RX1, TX1, 8)) kX1_change q354 q356 qs0 (by first | assumption | (repeat (first | exact g_up_at | exact g_new_at rfl | assumption | refine g_up_of (by first | assumption | (simp only [g_new, g_up]; omega) | omega) ?_ | refine g_new_of (by first | assumption | (simp only [g_new, g_up]; omega) | omega) ?_))) rfl dX1_addColour_23 ?_ (d' := 19) (as := [_, _]) (hst := rfl)
  refine (cx_change (kind := 0) (by decide) (h.all wf (kN _)) (hS1.keep (kN _)) (by decide +kernel) (by decide +kernel) (g_new_at rfl) (by decide) (by decide) ha (fun e => absurd e (by decide)) ⟨by simp only [g_new]; omega, by simp only [g_new]; omega⟩ (fun hk G' mm hX => ?_) (fun hk q G' mm hX hE => ?_))
  · obtain ⟨m1, m2, m3, m4, m5⟩ := mm
    simp only [g_new] at m2 m3 m4 m5
    have e := mk_addColour_t (S := S) hk rfl rfl rfl rfl
    refine V_ireturn dX1_addColour_26 rfl ?_
    refine kk _ G' ⟨((kN _).mono fun _ _ => trivial).trans m1, by omega, by omega, by omega, by omega⟩ ⟨by rw [e]; exact hX, Or.inl ⟨by rw [e], ?_⟩⟩
    rw [e]
  · obtain ⟨m1, m2, m3, m4, m5⟩ := mm
    simp only [g_new] at m2 m3 m4 m5
    obtain ⟨e1, e2, e3⟩ := mk_addColour_f (S := S) hk rfl rfl rfl rfl
    exact VX_out (ci := 0) (fs := []) rfl (kk _ G' ⟨((kN _).mono fun _ _ => trivial).trans m1, by omega, by omega, by omega, by omega⟩ ⟨by rw [e2]; exact hX, Or.inr ⟨e1, q, rfl, by rw [e3]; exact hE⟩⟩)
theorem cx_report {x : Nat} {r : Int32} {g : Int32} {b : Int32} {t : Int32} {w : Int32} {S : St} (h : CX E K G x S) (ha : AppOK S.1) (hf : g_fit E G 50000 228000) (kk : ∀ o G', g_mod (frK K) G G' 50000 228000 → AnsM E K G' x (mRep S r g b t w) (cls2 27 28) o → P o G') : g_Spc l E mX1_report 20 [.ref x, .int r, .int g, .int b, .int t, .int w] G P := by
  obtain ⟨hf1, hf2⟩ := hf
  refine V_intro (plainFor_of_name plX1) (Nat.le_of_ble_eq_true rfl) ?_
  refine V_wf (fun wf hBG => ?_)
  have kN : ∀ F, g_ke g_all G (g_new G (g_ai E 5 F) 5) := fun F => g_ke.new wf _ _
  refine V_aload_n dX1_report_0 rfl (Or.inl ⟨_, rfl⟩) ?_
  refine V_sc scX1_100 q1833 dX1_report_1 (by decide) rfl (fun hS1 => ?_)
  refine V_iconstv 5 dX1_report_3 (by decide) ?_
  refine V_newarray_int 5 rfl (by decide) q388 dX1_report_4 (by first | omega | (simp only [g_new, g_up]; omega)) (by first | omega | (simp only [g_new, g_up]; omega)) ?_
  refine V_dup dX1_report_6 rfl ?_
  refine V_iconstv 0 dX1_report_7 (by decide) ?_
  refine V_iload_n dX1_report_8 rfl ?_
  refine V_iastore (g_new_at rfl) (by first | assumption | omega | (simp only [g_new, g_up]; omega) | (simp only [g_new, g_up, g_B] at *; omega)) (by first | assumption | exact g_in (by decide)) q388 dX1_report_9 ?_
  rw [g_new_up rfl]
  refine V_dup dX1_report_10 rfl ?_
  refine V_iconstv 1 dX1_report_11 (by decide) ?_
  refine V_iload_n dX1_report_12 rfl ?_
  refine V_iastore (g_new_at rfl) (by first | assumption | omega | (simp only [g_new, g_up]; omega) | (simp only [g_new, g_up, g_B] at *; omega)) (by first | assumption | exact g_in (by decide)) q388 dX1_report_13 ?_
  rw [g_new_up rfl]
  refine V_dup dX1_report_14 rfl ?_
  refine V_iconstv 2 dX1_report_15 (by decide) ?_
  refine V_iload_n dX1_report_16 rfl ?_
  refine V_iastore (g_new_at rfl) (by first | assumption | omega | (simp only [g_new, g_up]; omega) | (simp only [g_new, g_up, g_B] at *; omega)) (by first | assumption | exact g_in (by decide)) q388 dX1_report_17 ?_
  rw [g_new_up rfl]
  refine V_dup dX1_report_18 rfl ?_
  refine V_iconstv 3 dX1_report_19 (by decide) ?_
  refine V_iload dX1_report_20 rfl ?_
  refine V_iastore (g_new_at rfl) (by first | assumption | omega | (simp only [g_new, g_up]; omega) | (simp only [g_new, g_up, g_B] at *; omega)) (by first | assumption | exact g_in (by decide)) q388 dX1_report_22 ?_
  rw [g_new_up rfl]
  refine V_dup dX1_report_23 rfl ?_
  refine V_iconstv 4 dX1_report_24 (by decide) ?_
  refine V_iload dX1_report_25 rfl ?_
  refine V_iastore (g_new_at rfl) (by first | assumption | omega | (simp only [g_new, g_up]; omega) | (simp only [g_new, g_up, g_B] at *; omega)) (by first | assumption | exact g_in (by decide)) q388 dX1_report_27 ?_
  rw [g_new_up rfl]
  refine V_callV (q := (RX1, TX1, 8)) kX1_change q354 q356 qs0 (by first | assumption | (repeat (first | exact g_up_at | exact g_new_at rfl | assumption | refine g_up_of (by first | assumption | (simp only [g_new, g_up]; omega) | omega) ?_ | refine g_new_of (by first | assumption | (simp only [g_new, g_up]; omega) | omega) ?_))) rfl dX1_report_28 ?_ (d' := 19) (as := [_, _]) (hst := rfl)
  refine (cx_change (kind := 1) (by decide) (h.all wf (kN _)) (hS1.keep (kN _)) (by decide +kernel) (by decide +kernel) (g_new_at rfl) (by decide) (by decide) ha (fun e => absurd e (by decide)) ⟨by simp only [g_new]; omega, by simp only [g_new]; omega⟩ (fun hk G' mm hX => ?_) (fun hk q G' mm hX hE => ?_))
  · obtain ⟨m1, m2, m3, m4, m5⟩ := mm
    simp only [g_new] at m2 m3 m4 m5
    have e := mk_report_t (S := S) hk rfl rfl rfl rfl rfl
    refine V_ireturn dX1_report_31 rfl ?_
    refine kk _ G' ⟨((kN _).mono fun _ _ => trivial).trans m1, by omega, by omega, by omega, by omega⟩ ⟨by rw [e]; exact hX, Or.inl ⟨by rw [e], ?_⟩⟩
    rw [e]
  · obtain ⟨m1, m2, m3, m4, m5⟩ := mm
    simp only [g_new] at m2 m3 m4 m5
    obtain ⟨e1, e2, e3⟩ := mk_report_f (S := S) hk rfl rfl rfl rfl rfl
    exact VX_out (ci := 0) (fs := []) rfl (kk _ G' ⟨((kN _).mono fun _ _ => trivial).trans m1, by omega, by omega, by omega, by omega⟩ ⟨by rw [e2]; exact hX, Or.inr ⟨e1, q, rfl, by rw [e3]; exact hE⟩⟩)
theorem cx_withdraw {x : Nat} {i : Int32} {S : St} (h : CX E K G x S) (ha : AppOK S.1) (hf : g_fit E G 50000 228000) (kk : ∀ o G', g_mod (frK K) G G' 50000 228000 → AnsM E K G' x (mWd S i) (cls2 25 0) o → P o G') : g_Spc l E mX1_withdraw 20 [.ref x, .int i] G P := by
  obtain ⟨hf1, hf2⟩ := hf
  refine V_intro (plainFor_of_name plX1) (Nat.le_of_ble_eq_true rfl) ?_
  refine V_wf (fun wf hBG => ?_)
  have kN : ∀ F, g_ke g_all G (g_new G (g_ai E 1 F) 1) := fun F => g_ke.new wf _ _
  refine V_aload_n dX1_withdraw_0 rfl (Or.inl ⟨_, rfl⟩) ?_
  refine V_sc scX1_102 q1842 dX1_withdraw_1 (by decide) rfl (fun hS1 => ?_)
  refine V_iconstv 1 dX1_withdraw_3 (by decide) ?_
  refine V_newarray_int 1 rfl (by decide) q388 dX1_withdraw_4 (by first | omega | (simp only [g_new, g_up]; omega)) (by first | omega | (simp only [g_new, g_up]; omega)) ?_
  refine V_dup dX1_withdraw_6 rfl ?_
  refine V_iconstv 0 dX1_withdraw_7 (by decide) ?_
  refine V_iload_n dX1_withdraw_8 rfl ?_
  refine V_iastore (g_new_at rfl) (by first | assumption | omega | (simp only [g_new, g_up]; omega) | (simp only [g_new, g_up, g_B] at *; omega)) (by first | assumption | exact g_in (by decide)) q388 dX1_withdraw_9 ?_
  rw [g_new_up rfl]
  refine V_callV (q := (RX1, TX1, 8)) kX1_change q354 q356 qs0 (by first | assumption | (repeat (first | exact g_up_at | exact g_new_at rfl | assumption | refine g_up_of (by first | assumption | (simp only [g_new, g_up]; omega) | omega) ?_ | refine g_new_of (by first | assumption | (simp only [g_new, g_up]; omega) | omega) ?_))) rfl dX1_withdraw_10 ?_ (d' := 19) (as := [_, _]) (hst := rfl)
  refine (cx_change (kind := 2) (by decide) (h.all wf (kN _)) (hS1.keep (kN _)) (by decide +kernel) (by decide +kernel) (g_new_at rfl) (by decide) (by decide) ha (fun e => absurd e (by decide)) ⟨by simp only [g_new]; omega, by simp only [g_new]; omega⟩ (fun hk G' mm hX => ?_) (fun hk q G' mm hX hE => ?_))
  · obtain ⟨m1, m2, m3, m4, m5⟩ := mm
    simp only [g_new] at m2 m3 m4 m5
    have e := mk_withdraw_t (S := S) hk rfl
    refine V_ireturn dX1_withdraw_13 rfl ?_
    refine kk _ G' ⟨((kN _).mono fun _ _ => trivial).trans m1, by omega, by omega, by omega, by omega⟩ ⟨by rw [e]; exact hX, Or.inl ⟨by rw [e], ?_⟩⟩
    rw [e]
  · obtain ⟨m1, m2, m3, m4, m5⟩ := mm
    simp only [g_new] at m2 m3 m4 m5
    obtain ⟨e1, e2, e3⟩ := mk_withdraw_f (S := S) hk rfl
    exact VX_out (ci := 0) (fs := []) rfl (kk _ G' ⟨((kN _).mono fun _ _ => trivial).trans m1, by omega, by omega, by omega, by omega⟩ ⟨by rw [e2]; exact hX, Or.inr ⟨e1, q, rfl, by rw [e3]; exact hE⟩⟩)
theorem cx_discard {x : Nat} {i : Int32} {S : St} (h : CX E K G x S) (ha : AppOK S.1) (hf : g_fit E G 50000 228000) (kk : ∀ o G', g_mod (frK K) G G' 50000 228000 → AnsM E K G' x (mDis S i) (cls2 25 0) o → P o G') : g_Spc l E mX1_discard 20 [.ref x, .int i] G P := by
  obtain ⟨hf1, hf2⟩ := hf
  refine V_intro (plainFor_of_name plX1) (Nat.le_of_ble_eq_true rfl) ?_
  refine V_wf (fun wf hBG => ?_)
  have kN : ∀ F, g_ke g_all G (g_new G (g_ai E 1 F) 1) := fun F => g_ke.new wf _ _
  refine V_aload_n dX1_discard_0 rfl (Or.inl ⟨_, rfl⟩) ?_
  refine V_sc scX1_104 q1850 dX1_discard_1 (by decide) rfl (fun hS1 => ?_)
  refine V_iconstv 1 dX1_discard_3 (by decide) ?_
  refine V_newarray_int 1 rfl (by decide) q388 dX1_discard_4 (by first | omega | (simp only [g_new, g_up]; omega)) (by first | omega | (simp only [g_new, g_up]; omega)) ?_
  refine V_dup dX1_discard_6 rfl ?_
  refine V_iconstv 0 dX1_discard_7 (by decide) ?_
  refine V_iload_n dX1_discard_8 rfl ?_
  refine V_iastore (g_new_at rfl) (by first | assumption | omega | (simp only [g_new, g_up]; omega) | (simp only [g_new, g_up, g_B] at *; omega)) (by first | assumption | exact g_in (by decide)) q388 dX1_discard_9 ?_
  rw [g_new_up rfl]
  refine V_callV (q := (RX1, TX1, 8)) kX1_change q354 q356 qs0 (by first | assumption | (repeat (first | exact g_up_at | exact g_new_at rfl | assumption | refine g_up_of (by first | assumption | (simp only [g_new, g_up]; omega) | omega) ?_ | refine g_new_of (by first | assumption | (simp only [g_new, g_up]; omega) | omega) ?_))) rfl dX1_discard_10 ?_ (d' := 19) (as := [_, _]) (hst := rfl)
  refine (cx_change (kind := 3) (by decide) (h.all wf (kN _)) (hS1.keep (kN _)) (by decide +kernel) (by decide +kernel) (g_new_at rfl) (by decide) (by decide) ha (fun e => absurd e (by decide)) ⟨by simp only [g_new]; omega, by simp only [g_new]; omega⟩ (fun hk G' mm hX => ?_) (fun hk q G' mm hX hE => ?_))
  · obtain ⟨m1, m2, m3, m4, m5⟩ := mm
    simp only [g_new] at m2 m3 m4 m5
    have e := mk_discard_t (S := S) hk rfl
    refine V_ireturn dX1_discard_13 rfl ?_
    refine kk _ G' ⟨((kN _).mono fun _ _ => trivial).trans m1, by omega, by omega, by omega, by omega⟩ ⟨by rw [e]; exact hX, Or.inl ⟨by rw [e], ?_⟩⟩
    rw [e]
  · obtain ⟨m1, m2, m3, m4, m5⟩ := mm
    simp only [g_new] at m2 m3 m4 m5
    obtain ⟨e1, e2, e3⟩ := mk_discard_f (S := S) hk rfl
    exact VX_out (ci := 0) (fs := []) rfl (kk _ G' ⟨((kN _).mono fun _ _ => trivial).trans m1, by omega, by omega, by omega, by omega⟩ ⟨by rw [e2]; exact hX, Or.inr ⟨e1, q, rfl, by rw [e3]; exact hE⟩⟩)
theorem cx_setMetric {x : Nat} {c : Int32} {S : St} (h : CX E K G x S) (ha : AppOK S.1) (hc : (c.toUInt32 % 65536).toInt32 = c) (hf : g_fit E G 50000 228000) (kk : ∀ o G', g_mod (frK K) G G' 50000 228000 → AnsM E K G' x (mMet S c) (cls2 27 0) o → P o G') : g_Spc l E mX1_setMetric 20 [.ref x, .int c] G P := by
  obtain ⟨hf1, hf2⟩ := hf
  have hC : isC (S.1.2.2 5) := h.metC
  refine V_intro (plainFor_of_name plX1) (Nat.le_of_ble_eq_true rfl) ?_
  refine V_wf (fun wf hBG => ?_)
  have kN : ∀ F, g_ke g_all G (g_new G (g_ai E 1 F) 1) := fun F => g_ke.new wf _ _
  refine V_aload_n dX1_setMetric_0 rfl (Or.inl ⟨_, rfl⟩) ?_
  refine V_sc scX1_106 q1858 dX1_setMetric_1 (by decide) rfl (fun hS1 => ?_)
  refine V_iconstv 1 dX1_setMetric_3 (by decide) ?_
  refine V_newarray_int 1 rfl (by decide) q388 dX1_setMetric_4 (by first | omega | (simp only [g_new, g_up]; omega)) (by first | omega | (simp only [g_new, g_up]; omega)) ?_
  refine V_dup dX1_setMetric_6 rfl ?_
  refine V_iconstv 0 dX1_setMetric_7 (by decide) ?_
  refine V_iload_n dX1_setMetric_8 rfl ?_
  refine V_iastore (g_new_at rfl) (by first | assumption | omega | (simp only [g_new, g_up]; omega) | (simp only [g_new, g_up, g_B] at *; omega)) (by first | assumption | exact g_in (by decide)) q388 dX1_setMetric_9 ?_
  rw [g_new_up rfl]
  refine V_callV (q := (RX1, TX1, 8)) kX1_change q354 q356 qs0 (by first | assumption | (repeat (first | exact g_up_at | exact g_new_at rfl | assumption | refine g_up_of (by first | assumption | (simp only [g_new, g_up]; omega) | omega) ?_ | refine g_new_of (by first | assumption | (simp only [g_new, g_up]; omega) | omega) ?_))) rfl dX1_setMetric_10 ?_ (d' := 19) (as := [_, _]) (hst := rfl)
  refine (cx_change (kind := 4) (by decide) (h.all wf (kN _)) (hS1.keep (kN _)) (by decide +kernel) (by decide +kernel) (g_new_at rfl) (by decide) (by decide) ha (fun e => hc) ⟨by simp only [g_new]; omega, by simp only [g_new]; omega⟩ (fun hk G' mm hX => ?_) (fun hk q G' mm hX hE => ?_))
  · obtain ⟨m1, m2, m3, m4, m5⟩ := mm
    simp only [g_new] at m2 m3 m4 m5
    have e := mk_setMetric_t (S := S) hk rfl
    refine V_i2c dX1_setMetric_13 ?_
    refine V_zreturn dX1_setMetric_14 rfl ? ?_
    refine kk _ G' ⟨((kN _).mono fun _ _ => trivial).trans m1, by omega, by omega, by omega, by omega⟩ ⟨by rw [e]; exact hX, Or.inl ⟨by rw [e], ?_⟩⟩
    rw [e]
    show _ = Outcome.returned (some (.int (S.1.2.2 5)))
    rw [← hC.i2c]
    rfl
  · obtain ⟨m1, m2, m3, m4, m5⟩ := mm
    simp only [g_new] at m2 m3 m4 m5
    obtain ⟨e1, e2, e3⟩ := mk_setMetric_f (S := S) hk rfl
    exact VX_out (ci := 0) (fs := []) rfl (kk _ G' ⟨((kN _).mono fun _ _ => trivial).trans m1, by omega, by omega, by omega, by omega⟩ ⟨by rw [e2]; exact hX, Or.inr ⟨e1, q, rfl, by rw [e3]; exact hE⟩⟩)
theorem cx_giveBack {x : Nat} {i : Int32} {j : Int32} {S : St} (h : CX E K G x S) (ha : AppOK S.1) (hf : g_fit E G 50000 228000) (kk : ∀ o G', g_mod (frK K) G G' 50000 228000 → AnsM E K G' x (mGive S i j) (cls2 25 29) o → P o G') : g_Spc l E mX1_giveBack 20 [.ref x, .int i, .int j] G P := by
  obtain ⟨hf1, hf2⟩ := hf
  refine V_intro (plainFor_of_name plX1) (Nat.le_of_ble_eq_true rfl) ?_
  refine V_wf (fun wf hBG => ?_)
  have kN : ∀ F, g_ke g_all G (g_new G (g_ai E 2 F) 2) := fun F => g_ke.new wf _ _
  refine V_aload_n dX1_giveBack_0 rfl (Or.inl ⟨_, rfl⟩) ?_
  refine V_sc scX1_108 q1867 dX1_giveBack_1 (by decide) rfl (fun hS1 => ?_)
  refine V_iconstv 2 dX1_giveBack_3 (by decide) ?_
  refine V_newarray_int 2 rfl (by decide) q388 dX1_giveBack_4 (by first | omega | (simp only [g_new, g_up]; omega)) (by first | omega | (simp only [g_new, g_up]; omega)) ?_
  refine V_dup dX1_giveBack_6 rfl ?_
  refine V_iconstv 0 dX1_giveBack_7 (by decide) ?_
  refine V_iload_n dX1_giveBack_8 rfl ?_
  refine V_iastore (g_new_at rfl) (by first | assumption | omega | (simp only [g_new, g_up]; omega) | (simp only [g_new, g_up, g_B] at *; omega)) (by first | assumption | exact g_in (by decide)) q388 dX1_giveBack_9 ?_
  rw [g_new_up rfl]
  refine V_dup dX1_giveBack_10 rfl ?_
  refine V_iconstv 1 dX1_giveBack_11 (by decide) ?_
  refine V_iload_n dX1_giveBack_12 rfl ?_
  refine V_iastore (g_new_at rfl) (by first | assumption | omega | (simp only [g_new, g_up]; omega) | (simp only [g_new, g_up, g_B] at *; omega)) (by first | assumption | exact g_in (by decide)) q388 dX1_giveBack_13 ?_
  rw [g_new_up rfl]
  refine V_callV (q := (RX1, TX1, 8)) kX1_change q354 q356 qs0 (by first | assumption | (repeat (first | exact g_up_at | exact g_new_at rfl | assumption | refine g_up_of (by first | assumption | (simp only [g_new, g_up]; omega) | omega) ?_ | refine g_new_of (by first | assumption | (simp only [g_new, g_up]; omega) | omega) ?_))) rfl dX1_giveBack_14 ?_ (d' := 19) (as := [_, _]) (hst := rfl)
  refine (cx_change (kind := 5) (by decide) (h.all wf (kN _)) (hS1.keep (kN _)) (by decide +kernel) (by decide +kernel) (g_new_at rfl) (by decide) (by decide) ha (fun e => absurd e (by decide)) ⟨by simp only [g_new]; omega, by simp only [g_new]; omega⟩ (fun hk G' mm hX => ?_) (fun hk q G' mm hX hE => ?_))
  · obtain ⟨m1, m2, m3, m4, m5⟩ := mm
    simp only [g_new] at m2 m3 m4 m5
    have e := mk_giveBack_t (S := S) hk rfl rfl
    refine V_ireturn dX1_giveBack_17 rfl ?_
    refine kk _ G' ⟨((kN _).mono fun _ _ => trivial).trans m1, by omega, by omega, by omega, by omega⟩ ⟨by rw [e]; exact hX, Or.inl ⟨by rw [e], ?_⟩⟩
    rw [e]
  · obtain ⟨m1, m2, m3, m4, m5⟩ := mm
    simp only [g_new] at m2 m3 m4 m5
    obtain ⟨e1, e2, e3⟩ := mk_giveBack_f (S := S) hk rfl rfl
    exact VX_out (ci := 0) (fs := []) rfl (kk _ G' ⟨((kN _).mono fun _ _ => trivial).trans m1, by omega, by omega, by omega, by omega⟩ ⟨by rw [e2]; exact hX, Or.inr ⟨e1, q, rfl, by rw [e3]; exact hE⟩⟩)
theorem cx_settle {x : Nat} {S : St} (h : CX E K G x S) (ha : AppOK S.1) (hf : g_fit E G 50000 228000) (kk : ∀ o G', g_mod (frK K) G G' 50000 228000 → AnsM E K G' x (mSettle S) (cls2 0 0) o → P o G') : g_Spc l E mX1_settle 20 [.ref x] G P := by
  obtain ⟨hf1, hf2⟩ := hf
  refine V_intro (plainFor_of_name plX1) (Nat.le_of_ble_eq_true rfl) ?_
  refine V_wf (fun wf hBG => ?_)
  have kN : ∀ F, g_ke g_all G (g_new G (g_ai E 0 F) 0) := fun F => g_ke.new wf _ _
  refine V_aload_n dX1_settle_0 rfl (Or.inl ⟨_, rfl⟩) ?_
  refine V_sc scX1_110 q353 dX1_settle_1 (by decide) rfl (fun hS1 => ?_)
  refine V_iconstv 0 dX1_settle_3 (by decide) ?_
  refine V_newarray_int 0 rfl (by decide) q388 dX1_settle_4 (by first | omega | (simp only [g_new, g_up]; omega)) (by first | omega | (simp only [g_new, g_up]; omega)) ?_
  refine V_callV (q := (RX1, TX1, 8)) kX1_change q354 q356 qs0 (by first | assumption | (repeat (first | exact g_up_at | exact g_new_at rfl | assumption | refine g_up_of (by first | assumption | (simp only [g_new, g_up]; omega) | omega) ?_ | refine g_new_of (by first | assumption | (simp only [g_new, g_up]; omega) | omega) ?_))) rfl dX1_settle_6 ?_ (d' := 19) (as := [_, _]) (hst := rfl)
  refine (cx_change (kind := 6) (by decide) (h.all wf (kN _)) (hS1.keep (kN _)) (by decide +kernel) (by decide +kernel) (g_new_at rfl) (by decide) (by decide) ha (fun e => absurd e (by decide)) ⟨by simp only [g_new]; omega, by simp only [g_new]; omega⟩ (fun hk G' mm hX => ?_) (fun hk q G' mm hX hE => ?_))
  · obtain ⟨m1, m2, m3, m4, m5⟩ := mm
    simp only [g_new] at m2 m3 m4 m5
    have e := mk_settle_t (S := S) hk
    refine V_ireturn dX1_settle_9 rfl ?_
    refine kk _ G' ⟨((kN _).mono fun _ _ => trivial).trans m1, by omega, by omega, by omega, by omega⟩ ⟨by rw [e]; exact hX, Or.inl ⟨by rw [e], ?_⟩⟩
    rw [e]
  · obtain ⟨m1, m2, m3, m4, m5⟩ := mm
    simp only [g_new] at m2 m3 m4 m5
    obtain ⟨e1, e2, e3⟩ := mk_settle_f (S := S) hk
    exact VX_out (ci := 0) (fs := []) rfl (kk _ G' ⟨((kN _).mono fun _ _ => trivial).trans m1, by omega, by omega, by omega, by omega⟩ ⟨by rw [e2]; exact hX, Or.inr ⟨e1, q, rfl, by rw [e3]; exact hE⟩⟩)
theorem cx_mix {x : Nat} {i : Int32} {j : Int32} {S : St} (h : CX E K G x S) (ha : AppOK S.1) (hf : g_fit E G 50000 228000) (kk : ∀ o G', g_mod (frK K) G G' 50000 228000 → AnsM E K G' x (mMix S i j) (cls2 25 27) o → P o G') : g_Spc l E mX1_mix 20 [.ref x, .int i, .int j] G P := by
  obtain ⟨hf1, hf2⟩ := hf
  refine V_intro (plainFor_of_name plX1) (Nat.le_of_ble_eq_true rfl) ?_
  refine V_wf (fun wf hBG => ?_)
  have kN : ∀ F, g_ke g_all G (g_new G (g_ai E 2 F) 2) := fun F => g_ke.new wf _ _
  refine V_aload_n dX1_mix_0 rfl (Or.inl ⟨_, rfl⟩) ?_
  refine V_sc scX1_112 q1875 dX1_mix_1 (by decide) rfl (fun hS1 => ?_)
  refine V_iconstv 2 dX1_mix_3 (by decide) ?_
  refine V_newarray_int 2 rfl (by decide) q388 dX1_mix_4 (by first | omega | (simp only [g_new, g_up]; omega)) (by first | omega | (simp only [g_new, g_up]; omega)) ?_
  refine V_dup dX1_mix_6 rfl ?_
  refine V_iconstv 0 dX1_mix_7 (by decide) ?_
  refine V_iload_n dX1_mix_8 rfl ?_
  refine V_iastore (g_new_at rfl) (by first | assumption | omega | (simp only [g_new, g_up]; omega) | (simp only [g_new, g_up, g_B] at *; omega)) (by first | assumption | exact g_in (by decide)) q388 dX1_mix_9 ?_
  rw [g_new_up rfl]
  refine V_dup dX1_mix_10 rfl ?_
  refine V_iconstv 1 dX1_mix_11 (by decide) ?_
  refine V_iload_n dX1_mix_12 rfl ?_
  refine V_iastore (g_new_at rfl) (by first | assumption | omega | (simp only [g_new, g_up]; omega) | (simp only [g_new, g_up, g_B] at *; omega)) (by first | assumption | exact g_in (by decide)) q388 dX1_mix_13 ?_
  rw [g_new_up rfl]
  refine V_callV (q := (RX1, TX1, 8)) kX1_change q354 q356 qs0 (by first | assumption | (repeat (first | exact g_up_at | exact g_new_at rfl | assumption | refine g_up_of (by first | assumption | (simp only [g_new, g_up]; omega) | omega) ?_ | refine g_new_of (by first | assumption | (simp only [g_new, g_up]; omega) | omega) ?_))) rfl dX1_mix_14 ?_ (d' := 19) (as := [_, _]) (hst := rfl)
  refine (cx_change (kind := 7) (by decide) (h.all wf (kN _)) (hS1.keep (kN _)) (by decide +kernel) (by decide +kernel) (g_new_at rfl) (by decide) (by decide) ha (fun e => absurd e (by decide)) ⟨by simp only [g_new]; omega, by simp only [g_new]; omega⟩ (fun hk G' mm hX => ?_) (fun hk q G' mm hX hE => ?_))
  · obtain ⟨m1, m2, m3, m4, m5⟩ := mm
    simp only [g_new] at m2 m3 m4 m5
    have e := mk_mix_t (S := S) hk rfl rfl
    refine V_ireturn dX1_mix_17 rfl ?_
    refine kk _ G' ⟨((kN _).mono fun _ _ => trivial).trans m1, by omega, by omega, by omega, by omega⟩ ⟨by rw [e]; exact hX, Or.inl ⟨by rw [e], ?_⟩⟩
    rw [e]
  · obtain ⟨m1, m2, m3, m4, m5⟩ := mm
    simp only [g_new] at m2 m3 m4 m5
    obtain ⟨e1, e2, e3⟩ := mk_mix_f (S := S) hk rfl rfl
    exact VX_out (ci := 0) (fs := []) rfl (kk _ G' ⟨((kN _).mono fun _ _ => trivial).trans m1, by omega, by omega, by omega, by omega⟩ ⟨by rw [e2]; exact hX, Or.inr ⟨e1, q, rfl, by rw [e3]; exact hE⟩⟩)
theorem cx_passDays {x : Nat} {i : Int32} {S : St} (h : CX E K G x S) (ha : AppOK S.1) (hf : g_fit E G 50000 228000) (kk : ∀ o G', g_mod (frK K) G G' 50000 228000 → AnsM E K G' x (mPass S i) (cls2 27 0) o → P o G') : g_Spc l E mX1_passDays 20 [.ref x, .int i] G P := by
  obtain ⟨hf1, hf2⟩ := hf
  refine V_intro (plainFor_of_name plX1) (Nat.le_of_ble_eq_true rfl) ?_
  refine V_wf (fun wf hBG => ?_)
  have kN : ∀ F, g_ke g_all G (g_new G (g_ai E 1 F) 1) := fun F => g_ke.new wf _ _
  refine V_aload_n dX1_passDays_0 rfl (Or.inl ⟨_, rfl⟩) ?_
  refine V_sc scX1_114 q1883 dX1_passDays_1 (by decide) rfl (fun hS1 => ?_)
  refine V_iconstv 1 dX1_passDays_3 (by decide) ?_
  refine V_newarray_int 1 rfl (by decide) q388 dX1_passDays_4 (by first | omega | (simp only [g_new, g_up]; omega)) (by first | omega | (simp only [g_new, g_up]; omega)) ?_
  refine V_dup dX1_passDays_6 rfl ?_
  refine V_iconstv 0 dX1_passDays_7 (by decide) ?_
  refine V_iload_n dX1_passDays_8 rfl ?_
  refine V_iastore (g_new_at rfl) (by first | assumption | omega | (simp only [g_new, g_up]; omega) | (simp only [g_new, g_up, g_B] at *; omega)) (by first | assumption | exact g_in (by decide)) q388 dX1_passDays_9 ?_
  rw [g_new_up rfl]
  refine V_callV (q := (RX1, TX1, 8)) kX1_change q354 q356 qs0 (by first | assumption | (repeat (first | exact g_up_at | exact g_new_at rfl | assumption | refine g_up_of (by first | assumption | (simp only [g_new, g_up]; omega) | omega) ?_ | refine g_new_of (by first | assumption | (simp only [g_new, g_up]; omega) | omega) ?_))) rfl dX1_passDays_10 ?_ (d' := 19) (as := [_, _]) (hst := rfl)
  refine (cx_change (kind := 8) (by decide) (h.all wf (kN _)) (hS1.keep (kN _)) (by decide +kernel) (by decide +kernel) (g_new_at rfl) (by decide) (by decide) ha (fun e => absurd e (by decide)) ⟨by simp only [g_new]; omega, by simp only [g_new]; omega⟩ (fun hk G' mm hX => ?_) (fun hk q G' mm hX hE => ?_))
  · obtain ⟨m1, m2, m3, m4, m5⟩ := mm
    simp only [g_new] at m2 m3 m4 m5
    have e := mk_passDays_t (S := S) hk rfl
    refine V_ireturn dX1_passDays_13 rfl ?_
    refine kk _ G' ⟨((kN _).mono fun _ _ => trivial).trans m1, by omega, by omega, by omega, by omega⟩ ⟨by rw [e]; exact hX, Or.inl ⟨by rw [e], ?_⟩⟩
    rw [e]
  · obtain ⟨m1, m2, m3, m4, m5⟩ := mm
    simp only [g_new] at m2 m3 m4 m5
    obtain ⟨e1, e2, e3⟩ := mk_passDays_f (S := S) hk rfl
    exact VX_out (ci := 0) (fs := []) rfl (kk _ G' ⟨((kN _).mono fun _ _ => trivial).trans m1, by omega, by omega, by omega, by omega⟩ ⟨by rw [e2]; exact hX, Or.inr ⟨e1, q, rfl, by rw [e3]; exact hE⟩⟩)
end PUB1
