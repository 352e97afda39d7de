/-! REFERENCE 8: plain queries -/
set_option maxRecDepth 100000
def brt (c : Rw) : Int32 := c.2.1.1 + c.2.1.2.1 + c.2.1.2.2
def ahF (b : Int32) (k : Nat) : Nat → List Rw → Nat
  | _, [] => 0
  | i, c :: t => (if b < brt c ∨ (brt c = b ∧ i < k) then 1 else 0) + ahF b k (i + 1) t
def rkF (L : List Rw) (x : Int32) : Nat → List Rw → Option Rw
  | _, [] => none
  | k, c :: t => if nI (ahF (brt c) k 0 L) = x then some c else rkF L x (k + 1) t
def dug (o : Of) (c : Rw) : Int32 := if stG c.2.1 = 0 then 0 else c.2.2.1 * stG c.2.1 - rm (o.2.2 4 - c.2.2.2) c.2.2.1
def qCol (S : St) (id : Int32) (f : Rw → Int32) : Int32 × Int32 := match plc id S.1.1 with
  | none => (1, 0)
  | some k => (0, f (rwAt S.1.1 k))
def qRep (S : St) (id : Int32) (f : Rw → Int32) : Int32 × Int32 := match plc id S.1.2.1 with
  | none => (1, 0)
  | some k => (0, f (rwAt S.1.2.1 k))
def qAt (L : List Rw) (x : Int32) : Int32 × Int32 := if isb x 0 (nI L.length - 1) = true then (0, (rwAt L x.toNatClampNeg).1) else (1, 0)
def qRank (S : St) (x : Int32) : Int32 × Int32 := match rkF S.1.1 x 0 S.1.1 with
  | none => (1, 0)
  | some c => (0, c.1)
def qBoth (S : St) (x y : Int32) (f : Rw → Rw → Int32) : Int32 × Int32 := match plc x S.1.2.1, plc y S.1.1 with
  | some k, some j => (0, f (rwAt S.1.2.1 k) (rwAt S.1.1 j))
  | _, _ => (1, 0)
def qDis (S : St) (x y : Int32) : Int32 × Int32 := match plc x S.1.1, plc y S.1.1 with
  | some k, some j => (0, dO S.1 (rwAt S.1.1 k).2.1 (rwAt S.1.1 j))
  | _, _ => (1, 0)
def qNf (S : St) (x : Int32) : Int32 × Int32 := match plc x S.1.2.1 with
  | none => (1, 0)
  | some k => match nst S.1 (rwAt S.1.2.1 k).2.1 with
    | none => (1, 0)
    | some j => (0, (rwAt S.1.1 j).1)
theorem isb_at {x : Int32} {n : Nat} (hn : n < 2 ^ 31) (h : isb x 0 (nI n - 1) = true) : ∃ k, k < n ∧ x = nI k := by
  unfold isb at h
  rw [Bool.and_eq_true, decide_eq_true_eq, decide_eq_true_eq] at h
  obtain ⟨h1, h2⟩ := h
  obtain ⟨k, hk, rfl⟩ := nI_of (Int32.not_lt.mpr h1)
  cases n with
  | zero => exact absurd (Int32.le_trans h1 h2) (by decide)
  | succ n =>
    rw [nI_pred, nI_leI hk (by omega)] at h2
    exact ⟨k, by omega, rfl⟩
theorem amF_some {D : Rw → Int32} {L : List Rw} {i : Nat} {b : Nat × Int32} : (amF D i (some b) L).isSome = true := by
  induction L generalizing i b with
  | nil => rfl
  | cons c t ih =>
    unfold amF
    obtain ⟨j, y⟩ := b
    dsimp only
    by_cases h : D c < y
    · rw [if_pos h]; exact ih
    · rw [if_neg h]; exact ih
theorem nst_none {o : Of} {t : Tn} : nst o t = none ↔ o.1 = [] := by
  unfold nst
  rw [Option.map_eq_none_iff]
  cases h : o.1 with
  | nil => exact ⟨fun _ => rfl, fun _ => rfl⟩
  | cons c r =>
    refine ⟨fun q => ?_, fun q => by cases q⟩
    have q : amF (dO o t) 1 (some (0, dO o t c)) r = none := q
    have := amF_some (D := dO o t) (L := r) (i := 1) (b := (0, dO o t c))
    rw [q] at this
    cases this
theorem plc_id {id : Int32} {L : List Rw} {k : Nat} (h : plc id L = some k) : L[k]? = some (rwAt L k) ∧ (rwAt L k).1 = id := by
  obtain ⟨r, h1, h2⟩ := plc_some h
  rw [rwAt_of h1]
  exact ⟨h1, h2⟩
theorem TwS.q {T : Tw} {S : St} (h : TwS T S) (c : Int32) : TwS (twI T 5 c) S := ⟨h.1, h.2.keep⟩
theorem at_of {L : List Rw} {k : Nat} (h : k < L.length) : L[k]? = some (rwAt L k) := by
  have := List.getElem?_eq_getElem h
  unfold rwAt
  rw [this]
  rfl
section TW9
variable {l : Launch} {E : g_E} {P : Outcome → g_G → Prop} {G : g_G} {m : Nat} {T : Tw} {S : St}
theorem tw_colourCount (hm : g_B E ≤ m) (h : TwS T S) (kk : ∀ T', TwS T' S → T'.2 5 = (((0, nI S.1.1.length) : Int32 × Int32)).1 → P (.returned (some (.int (((0, nI S.1.1.length) : Int32 × Int32)).2))) (g_tG E G m T')) : g_Spc l E mX5_colourCount 1 [.ref m] (g_tG E G m T) P := by
  refine V_intro (plainFor_of_name plX5) (Nat.le_of_ble_eq_true rfl) ?_
  refine V_aload_n dX5_colourCount_0 rfl (Or.inl ⟨_, rfl⟩) ?_
  refine V_aload_n dX5_colourCount_1 rfl (Or.inl ⟨_, rfl⟩) ?_
  refine V_get ckX5 tw0 0 (by decide) q2699 rfl rfl dX5_colourCount_2 ?_
  refine V_iconstv 0 dX5_colourCount_5 (by decide) ?_
  refine tw_ld 1 (0) (by decide) (by decide) rfl (show _ < 136 from by omega) (by decide) dX5_colourCount_6 ?_
  rw [h.1.2.2.1]
  refine V_callV (q := (RX5, TX5, 23)) kX5_plain q2978 q2980 qs82 tw0 rfl dX5_colourCount_7 ?_ (d' := 0) (as := [_]) (hst := rfl)
  refine (tw_plain hm ?_)
  refine V_ireturn dX5_colourCount_10 rfl ?_
  exact kk _ (h.q _) rfl
theorem tw_reportCount (hm : g_B E ≤ m) (h : TwS T S) (kk : ∀ T', TwS T' S → T'.2 5 = (((0, nI S.1.2.1.length) : Int32 × Int32)).1 → P (.returned (some (.int (((0, nI S.1.2.1.length) : Int32 × Int32)).2))) (g_tG E G m T')) : g_Spc l E mX5_reportCount 1 [.ref m] (g_tG E G m T) P := by
  refine V_intro (plainFor_of_name plX5) (Nat.le_of_ble_eq_true rfl) ?_
  refine V_aload_n dX5_reportCount_0 rfl (Or.inl ⟨_, rfl⟩) ?_
  refine V_aload_n dX5_reportCount_1 rfl (Or.inl ⟨_, rfl⟩) ?_
  refine V_get ckX5 tw0 0 (by decide) q2699 rfl rfl dX5_reportCount_2 ?_
  refine V_iconstv 1 dX5_reportCount_5 (by decide) ?_
  refine tw_ld 1 (1) (by decide) (by decide) rfl (show _ < 136 from by omega) (by decide) dX5_reportCount_6 ?_
  rw [h.1.2.2.2.1]
  refine V_callV (q := (RX5, TX5, 23)) kX5_plain q2978 q2980 qs82 tw0 rfl dX5_reportCount_7 ?_ (d' := 0) (as := [_]) (hst := rfl)
  refine (tw_plain hm ?_)
  refine V_ireturn dX5_reportCount_10 rfl ?_
  exact kk _ (h.q _) rfl
theorem tw_colourAt {x : Int32} (hm : g_B E ≤ m) (h : TwS T S) (kk : ∀ T', TwS T' S → T'.2 5 = (qAt S.1.1 x).1 → P (.returned (some (.int (qAt S.1.1 x).2))) (g_tG E G m T')) : g_Spc l E mX5_colourAt 2 [.ref m, .int x] (g_tG E G m T) P := by
  have hl := h.1.1
  have h1 : ∀ c, TwO ((twI T 5 c).1 1) S.1 := fun _ => h.1
  unfold qAt at kk
  refine V_intro (plainFor_of_name plX5) (Nat.le_of_ble_eq_true rfl) ?_
  refine V_aload_n dX5_colourAt_0 rfl (Or.inl ⟨_, rfl⟩) ?_
  refine V_iload_n dX5_colourAt_1 rfl ?_
  refine V_iconstv 0 dX5_colourAt_2 (by decide) ?_
  refine V_aload_n dX5_colourAt_3 rfl (Or.inl ⟨_, rfl⟩) ?_
  refine V_get ckX5 tw0 0 (by decide) q2699 rfl rfl dX5_colourAt_4 ?_
  refine V_iconstv 0 dX5_colourAt_7 (by decide) ?_
  refine tw_ld 1 (0) (by decide) (by decide) rfl (show _ < 136 from by omega) (by decide) dX5_colourAt_8 ?_
  rw [h.1.2.2.1]
  refine V_iconstv 1 dX5_colourAt_9 (by decide) ?_
  refine V_isub dX5_colourAt_10 ?_
  refine V_callS kX5_in q2791 q2792 dX5_colourAt_11 ?_ (d' := 0) (as := [_, _, _]) (hst := rfl)
  refine (tw_in ?_)
  refine V_callV (q := (RX5, TX5, 23)) kX5_checked q2986 q2988 qs83 tw0 rfl dX5_colourAt_14 ?_ (d' := 0) (as := [_]) (hst := rfl)
  refine (tw_checked hm ?_)
  cases hb : isb x 0 (nI S.1.1.length - 1) with
  | false =>
    rw [if_neg (by rw [hb]; decide)] at kk
    refine V_if_le 24 dX5_colourAt_17 (by decide) (fun c17 => absurd c17 (by decide)) (fun _ => ?_)
    refine V_iconstv 0 dX5_colourAt_20 (by decide) ?_
    refine V_goto 30 dX5_colourAt_21 (by decide) ?_
    refine V_ireturn dX5_colourAt_30 rfl ?_
    exact kk _ (h.q _) rfl
  | true =>
    obtain ⟨k, hk, rfl⟩ := isb_at (by omega) hb
    rw [if_pos hb, nI_clamp (by omega)] at kk
    refine V_if_le 24 dX5_colourAt_17 (by decide) (fun _ => ?_) (fun c17 => absurd (by decide) c17)
    refine V_aload_n dX5_colourAt_24 rfl (Or.inl ⟨_, rfl⟩) ?_
    refine V_iload_n dX5_colourAt_25 rfl ?_
    refine V_iconstv 0 dX5_colourAt_26 (by decide) ?_
    refine V_callV (q := (RX5, TX5, 23)) kX5_c q2860 q2862 qs61 tw0 rfl dX5_colourAt_27 ?_ (d' := 1) (as := [_, _]) (hst := rfl)
    refine (tw_c (j := 0) (h1 _) rfl rfl (at_of hk) (by decide) ?_)
    refine V_ireturn dX5_colourAt_30 rfl ?_
    exact kk _ (h.q _) rfl
theorem tw_reportAt {x : Int32} (hm : g_B E ≤ m) (h : TwS T S) (kk : ∀ T', TwS T' S → T'.2 5 = (qAt S.1.2.1 x).1 → P (.returned (some (.int (qAt S.1.2.1 x).2))) (g_tG E G m T')) : g_Spc l E mX5_reportAt 2 [.ref m, .int x] (g_tG E G m T) P := by
  have hl := h.1.2.1
  have h1 : ∀ c, TwO ((twI T 5 c).1 1) S.1 := fun _ => h.1
  unfold qAt at kk
  refine V_intro (plainFor_of_name plX5) (Nat.le_of_ble_eq_true rfl) ?_
  refine V_aload_n dX5_reportAt_0 rfl (Or.inl ⟨_, rfl⟩) ?_
  refine V_iload_n dX5_reportAt_1 rfl ?_
  refine V_iconstv 0 dX5_reportAt_2 (by decide) ?_
  refine V_aload_n dX5_reportAt_3 rfl (Or.inl ⟨_, rfl⟩) ?_
  refine V_get ckX5 tw0 0 (by decide) q2699 rfl rfl dX5_reportAt_4 ?_
  refine V_iconstv 1 dX5_reportAt_7 (by decide) ?_
  refine tw_ld 1 (1) (by decide) (by decide) rfl (show _ < 136 from by omega) (by decide) dX5_reportAt_8 ?_
  rw [h.1.2.2.2.1]
  refine V_iconstv 1 dX5_reportAt_9 (by decide) ?_
  refine V_isub dX5_reportAt_10 ?_
  refine V_callS kX5_in q2791 q2792 dX5_reportAt_11 ?_ (d' := 0) (as := [_, _, _]) (hst := rfl)
  refine (tw_in ?_)
  refine V_callV (q := (RX5, TX5, 23)) kX5_checked q2986 q2988 qs83 tw0 rfl dX5_reportAt_14 ?_ (d' := 0) (as := [_]) (hst := rfl)
  refine (tw_checked hm ?_)
  cases hb : isb x 0 (nI S.1.2.1.length - 1) with
  | false =>
    rw [if_neg (by rw [hb]; decide)] at kk
    refine V_if_le 24 dX5_reportAt_17 (by decide) (fun c17 => absurd c17 (by decide)) (fun _ => ?_)
    refine V_iconstv 0 dX5_reportAt_20 (by decide) ?_
    refine V_goto 30 dX5_reportAt_21 (by decide) ?_
    refine V_ireturn dX5_reportAt_30 rfl ?_
    exact kk _ (h.q _) rfl
  | true =>
    obtain ⟨k, hk, rfl⟩ := isb_at (by omega) hb
    rw [if_pos hb, nI_clamp (by omega)] at kk
    refine V_if_le 24 dX5_reportAt_17 (by decide) (fun _ => ?_) (fun c17 => absurd (by decide) c17)
    refine V_aload_n dX5_reportAt_24 rfl (Or.inl ⟨_, rfl⟩) ?_
    refine V_iload_n dX5_reportAt_25 rfl ?_
    refine V_iconstv 0 dX5_reportAt_26 (by decide) ?_
    refine V_callV (q := (RX5, TX5, 23)) kX5_r q2836 q2838 qs56 tw0 rfl dX5_reportAt_27 ?_ (d' := 1) (as := [_, _]) (hst := rfl)
    refine (tw_r (j := 0) (h1 _) rfl rfl (at_of hk) (by decide) ?_)
    refine V_ireturn dX5_reportAt_30 rfl ?_
    exact kk _ (h.q _) rfl
theorem tw_ofColour {id y : Int32} {j : Nat} (hm : g_B E ≤ m) (h : TwS T S) (hy : y = nI j) (hj : j < 6) (kk : ∀ T', TwS T' S → T'.2 5 = (qCol S id (fun c => rw_at c j)).1 → P (.returned (some (.int (qCol S id (fun c => rw_at c j)).2))) (g_tG E G m T')) : g_Spc l E mX5_ofColour 3 [.ref m, .int id, .int y] (g_tG E G m T) P := by
  have hl := h.1.1
  have h1 : ∀ c, TwO ((twI T 5 c).1 1) S.1 := fun _ => h.1
  unfold qCol at kk
  refine V_intro (plainFor_of_name plX5) (Nat.le_of_ble_eq_true rfl) ?_
  refine V_aload_n dX5_ofColour_0 rfl (Or.inl ⟨_, rfl⟩) ?_
  refine V_aload_n dX5_ofColour_1 rfl (Or.inl ⟨_, rfl⟩) ?_
  refine V_iload_n dX5_ofColour_2 rfl ?_
  refine V_callV (q := (RX5, TX5, 23)) kX5_colour q2856 q2858 qs60 tw0 rfl dX5_ofColour_3 ?_ (d' := 2) (as := [_]) (hst := rfl)
  refine (tw_colour h.1 ?_)
  cases hk : plc id S.1.1 with
  | none =>
    rw [hk] at kk
    refine V_if_lt 13 dX5_ofColour_6 (by decide) (fun _ => ?_) (fun c6 => absurd (show plI none < 0 by decide) c6)
    refine V_iconstv 0 dX5_ofColour_13 (by decide) ?_
    refine V_callV (q := (RX5, TX5, 23)) kX5_checked q2986 q2988 qs83 tw0 rfl dX5_ofColour_14 ?_ (d' := 0) (as := [_]) (hst := rfl)
    refine (tw_checked (b := false) hm ?_)
    refine V_if_le 24 dX5_ofColour_17 (by decide) (fun c17 => absurd c17 (by decide)) (fun _ => ?_)
    refine V_iconstv 0 dX5_ofColour_20 (by decide) ?_
    refine V_goto 34 dX5_ofColour_21 (by decide) ?_
    refine V_ireturn dX5_ofColour_34 rfl ?_
    exact kk _ (h.q _) rfl
  | some k =>
    have hk1 := plc_lt hk
    obtain ⟨hr, -⟩ := plc_id hk
    rw [hk] at kk
    refine V_if_lt 13 dX5_ofColour_6 (by decide) (fun c6 => absurd c6 (nI_pos (show k < 2 ^ 31 by omega))) (fun _ => ?_)
    refine V_iconstv 1 dX5_ofColour_9 (by decide) ?_
    refine V_goto 14 dX5_ofColour_10 (by decide) ?_
    refine V_callV (q := (RX5, TX5, 23)) kX5_checked q2986 q2988 qs83 tw0 rfl dX5_ofColour_14 ?_ (d' := 0) (as := [_]) (hst := rfl)
    refine (tw_checked (b := true) hm ?_)
    refine V_if_le 24 dX5_ofColour_17 (by decide) (fun _ => ?_) (fun c17 => absurd (by decide) c17)
    refine V_aload_n dX5_ofColour_24 rfl (Or.inl ⟨_, rfl⟩) ?_
    refine V_aload_n dX5_ofColour_25 rfl (Or.inl ⟨_, rfl⟩) ?_
    refine V_iload_n dX5_ofColour_26 rfl ?_
    refine V_callV (q := (RX5, TX5, 23)) kX5_colour q2856 q2858 qs60 tw0 rfl dX5_ofColour_27 ?_ (d' := 2) (as := [_]) (hst := rfl)
    refine (tw_colour (h1 _) ?_)
    rw [hk]
    refine V_iload_n dX5_ofColour_30 rfl ?_
    refine V_callV (q := (RX5, TX5, 23)) kX5_c q2860 q2862 qs61 tw0 rfl dX5_ofColour_31 ?_ (d' := 1) (as := [_, _]) (hst := rfl)
    refine (tw_c (j := j) (h1 _) rfl hy hr hj ?_)
    refine V_ireturn dX5_ofColour_34 rfl ?_
    exact kk _ (h.q _) rfl
theorem tw_ofReport {id y : Int32} {j : Nat} (hm : g_B E ≤ m) (h : TwS T S) (hy : y = nI j) (hj : j < 6) (kk : ∀ T', TwS T' S → T'.2 5 = (qRep S id (fun c => rw_at c j)).1 → P (.returned (some (.int (qRep S id (fun c => rw_at c j)).2))) (g_tG E G m T')) : g_Spc l E mX5_ofReport 3 [.ref m, .int id, .int y] (g_tG E G m T) P := by
  have hl := h.1.2.1
  have h1 : ∀ c, TwO ((twI T 5 c).1 1) S.1 := fun _ => h.1
  unfold qRep at kk
  refine V_intro (plainFor_of_name plX5) (Nat.le_of_ble_eq_true rfl) ?_
  refine V_aload_n dX5_ofReport_0 rfl (Or.inl ⟨_, rfl⟩) ?_
  refine V_aload_n dX5_ofReport_1 rfl (Or.inl ⟨_, rfl⟩) ?_
  refine V_iload_n dX5_ofReport_2 rfl ?_
  refine V_callV (q := (RX5, TX5, 23)) kX5_openReport q2832 q2834 qs55 tw0 rfl dX5_ofReport_3 ?_ (d' := 2) (as := [_]) (hst := rfl)
  refine (tw_openReport h.1 ?_)
  cases hk : plc id S.1.2.1 with
  | none =>
    rw [hk] at kk
    refine V_if_lt 13 dX5_ofReport_6 (by decide) (fun _ => ?_) (fun c6 => absurd (show plI none < 0 by decide) c6)
    refine V_iconstv 0 dX5_ofReport_13 (by decide) ?_
    refine V_callV (q := (RX5, TX5, 23)) kX5_checked q2986 q2988 qs83 tw0 rfl dX5_ofReport_14 ?_ (d' := 0) (as := [_]) (hst := rfl)
    refine (tw_checked (b := false) hm ?_)
    refine V_if_le 24 dX5_ofReport_17 (by decide) (fun c17 => absurd c17 (by decide)) (fun _ => ?_)
    refine V_iconstv 0 dX5_ofReport_20 (by decide) ?_
    refine V_goto 34 dX5_ofReport_21 (by decide) ?_
    refine V_ireturn dX5_ofReport_34 rfl ?_
    exact kk _ (h.q _) rfl
  | some k =>
    have hk1 := plc_lt hk
    obtain ⟨hr, -⟩ := plc_id hk
    rw [hk] at kk
    refine V_if_lt 13 dX5_ofReport_6 (by decide) (fun c6 => absurd c6 (nI_pos (show k < 2 ^ 31 by omega))) (fun _ => ?_)
    refine V_iconstv 1 dX5_ofReport_9 (by decide) ?_
    refine V_goto 14 dX5_ofReport_10 (by decide) ?_
    refine V_callV (q := (RX5, TX5, 23)) kX5_checked q2986 q2988 qs83 tw0 rfl dX5_ofReport_14 ?_ (d' := 0) (as := [_]) (hst := rfl)
    refine (tw_checked (b := true) hm ?_)
    refine V_if_le 24 dX5_ofReport_17 (by decide) (fun _ => ?_) (fun c17 => absurd (by decide) c17)
    refine V_aload_n dX5_ofReport_24 rfl (Or.inl ⟨_, rfl⟩) ?_
    refine V_aload_n dX5_ofReport_25 rfl (Or.inl ⟨_, rfl⟩) ?_
    refine V_iload_n dX5_ofReport_26 rfl ?_
    refine V_callV (q := (RX5, TX5, 23)) kX5_openReport q2832 q2834 qs55 tw0 rfl dX5_ofReport_27 ?_ (d' := 2) (as := [_]) (hst := rfl)
    refine (tw_openReport (h1 _) ?_)
    rw [hk]
    refine V_iload_n dX5_ofReport_30 rfl ?_
    refine V_callV (q := (RX5, TX5, 23)) kX5_r q2836 q2838 qs56 tw0 rfl dX5_ofReport_31 ?_ (d' := 1) (as := [_, _]) (hst := rfl)
    refine (tw_r (j := j) (h1 _) rfl hy hr hj ?_)
    refine V_ireturn dX5_ofReport_34 rfl ?_
    exact kk _ (h.q _) rfl
theorem tw_red {id : Int32} (hm : g_B E ≤ m) (h : TwS T S) (kk : ∀ T', TwS T' S → T'.2 5 = (qCol S id (fun c => rw_at c 1)).1 → P (.returned (some (.int (qCol S id (fun c => rw_at c 1)).2))) (g_tG E G m T')) : g_Spc l E mX5_red 4 [.ref m, .int id] (g_tG E G m T) P := by
  refine V_intro (plainFor_of_name plX5) (Nat.le_of_ble_eq_true rfl) ?_
  refine V_aload_n dX5_red_0 rfl (Or.inl ⟨_, rfl⟩) ?_
  refine V_iload_n dX5_red_1 rfl ?_
  refine V_iconstv 1 dX5_red_2 (by decide) ?_
  refine V_callV (q := (RX5, TX5, 23)) kX5_ofColour q2994 q2996 qs84 tw0 rfl dX5_red_3 ?_ (d' := 3) (as := [_, _]) (hst := rfl)
  refine (tw_ofColour (j := 1) hm h rfl (by decide) (fun T' h1 h2 => ?_))
  refine V_ireturn dX5_red_6 rfl ?_
  exact kk _ h1 h2
theorem tw_green {id : Int32} (hm : g_B E ≤ m) (h : TwS T S) (kk : ∀ T', TwS T' S → T'.2 5 = (qCol S id (fun c => rw_at c 2)).1 → P (.returned (some (.int (qCol S id (fun c => rw_at c 2)).2))) (g_tG E G m T')) : g_Spc l E mX5_green 4 [.ref m, .int id] (g_tG E G m T) P := by
  refine V_intro (plainFor_of_name plX5) (Nat.le_of_ble_eq_true rfl) ?_
  refine V_aload_n dX5_green_0 rfl (Or.inl ⟨_, rfl⟩) ?_
  refine V_iload_n dX5_green_1 rfl ?_
  refine V_iconstv 2 dX5_green_2 (by decide) ?_
  refine V_callV (q := (RX5, TX5, 23)) kX5_ofColour q2994 q2996 qs84 tw0 rfl dX5_green_3 ?_ (d' := 3) (as := [_, _]) (hst := rfl)
  refine (tw_ofColour (j := 2) hm h rfl (by decide) (fun T' h1 h2 => ?_))
  refine V_ireturn dX5_green_6 rfl ?_
  exact kk _ h1 h2
theorem tw_blue {id : Int32} (hm : g_B E ≤ m) (h : TwS T S) (kk : ∀ T', TwS T' S → T'.2 5 = (qCol S id (fun c => rw_at c 3)).1 → P (.returned (some (.int (qCol S id (fun c => rw_at c 3)).2))) (g_tG E G m T')) : g_Spc l E mX5_blue 4 [.ref m, .int id] (g_tG E G m T) P := by
  refine V_intro (plainFor_of_name plX5) (Nat.le_of_ble_eq_true rfl) ?_
  refine V_aload_n dX5_blue_0 rfl (Or.inl ⟨_, rfl⟩) ?_
  refine V_iload_n dX5_blue_1 rfl ?_
  refine V_iconstv 3 dX5_blue_2 (by decide) ?_
  refine V_callV (q := (RX5, TX5, 23)) kX5_ofColour q2994 q2996 qs84 tw0 rfl dX5_blue_3 ?_ (d' := 3) (as := [_, _]) (hst := rfl)
  refine (tw_ofColour (j := 3) hm h rfl (by decide) (fun T' h1 h2 => ?_))
  refine V_ireturn dX5_blue_6 rfl ?_
  exact kk _ h1 h2
theorem tw_fastness {id : Int32} (hm : g_B E ≤ m) (h : TwS T S) (kk : ∀ T', TwS T' S → T'.2 5 = (qCol S id (fun c => rw_at c 4)).1 → P (.returned (some (.int (qCol S id (fun c => rw_at c 4)).2))) (g_tG E G m T')) : g_Spc l E mX5_fastness 4 [.ref m, .int id] (g_tG E G m T) P := by
  refine V_intro (plainFor_of_name plX5) (Nat.le_of_ble_eq_true rfl) ?_
  refine V_aload_n dX5_fastness_0 rfl (Or.inl ⟨_, rfl⟩) ?_
  refine V_iload_n dX5_fastness_1 rfl ?_
  refine V_iconstv 4 dX5_fastness_2 (by decide) ?_
  refine V_callV (q := (RX5, TX5, 23)) kX5_ofColour q2994 q2996 qs84 tw0 rfl dX5_fastness_3 ?_ (d' := 3) (as := [_, _]) (hst := rfl)
  refine (tw_ofColour (j := 4) hm h rfl (by decide) (fun T' h1 h2 => ?_))
  refine V_ireturn dX5_fastness_6 rfl ?_
  exact kk _ h1 h2
theorem tw_toleranceOf {id : Int32} (hm : g_B E ≤ m) (h : TwS T S) (kk : ∀ T', TwS T' S → T'.2 5 = (qRep S id (fun c => rw_at c 4)).1 → P (.returned (some (.int (qRep S id (fun c => rw_at c 4)).2))) (g_tG E G m T')) : g_Spc l E mX5_toleranceOf 4 [.ref m, .int id] (g_tG E G m T) P := by
  refine V_intro (plainFor_of_name plX5) (Nat.le_of_ble_eq_true rfl) ?_
  refine V_aload_n dX5_toleranceOf_0 rfl (Or.inl ⟨_, rfl⟩) ?_
  refine V_iload_n dX5_toleranceOf_1 rfl ?_
  refine V_iconstv 4 dX5_toleranceOf_2 (by decide) ?_
  refine V_callV (q := (RX5, TX5, 23)) kX5_ofReport q3038 q3040 qs86 tw0 rfl dX5_toleranceOf_3 ?_ (d' := 3) (as := [_, _]) (hst := rfl)
  refine (tw_ofReport (j := 4) hm h rfl (by decide) (fun T' h1 h2 => ?_))
  refine V_ireturn dX5_toleranceOf_6 rfl ?_
  exact kk _ h1 h2
theorem tw_rewardOf {id : Int32} (hm : g_B E ≤ m) (h : TwS T S) (kk : ∀ T', TwS T' S → T'.2 5 = (qRep S id (fun c => rw_at c 5)).1 → P (.returned (some (.int (qRep S id (fun c => rw_at c 5)).2))) (g_tG E G m T')) : g_Spc l E mX5_rewardOf 4 [.ref m, .int id] (g_tG E G m T) P := by
  refine V_intro (plainFor_of_name plX5) (Nat.le_of_ble_eq_true rfl) ?_
  refine V_aload_n dX5_rewardOf_0 rfl (Or.inl ⟨_, rfl⟩) ?_
  refine V_iload_n dX5_rewardOf_1 rfl ?_
  refine V_iconstv 5 dX5_rewardOf_2 (by decide) ?_
  refine V_callV (q := (RX5, TX5, 23)) kX5_ofReport q3038 q3040 qs86 tw0 rfl dX5_rewardOf_3 ?_ (d' := 3) (as := [_, _]) (hst := rfl)
  refine (tw_ofReport (j := 5) hm h rfl (by decide) (fun T' h1 h2 => ?_))
  refine V_ireturn dX5_rewardOf_6 rfl ?_
  exact kk _ h1 h2
theorem tw_age {id : Int32} (hm : g_B E ≤ m) (h : TwS T S) (kk : ∀ T', TwS T' S → T'.2 5 = (qCol S id (fun c => S.1.2.2 4 - c.2.2.2)).1 → P (.returned (some (.int (qCol S id (fun c => S.1.2.2 4 - c.2.2.2)).2))) (g_tG E G m T')) : g_Spc l E mX5_age 3 [.ref m, .int id] (g_tG E G m T) P := by
  have hl := h.1.1
  have h1 : ∀ c, TwO ((twI T 5 c).1 1) S.1 := fun _ => h.1
  unfold qCol at kk
  refine V_intro (plainFor_of_name plX5) (Nat.le_of_ble_eq_true rfl) ?_
  refine V_aload_n dX5_age_0 rfl (Or.inl ⟨_, rfl⟩) ?_
  refine V_aload_n dX5_age_1 rfl (Or.inl ⟨_, rfl⟩) ?_
  refine V_iload_n dX5_age_2 rfl ?_
  refine V_callV (q := (RX5, TX5, 23)) kX5_colour q2856 q2858 qs60 tw0 rfl dX5_age_3 ?_ (d' := 2) (as := [_]) (hst := rfl)
  refine (tw_colour h.1 ?_)
  cases hk : plc id S.1.1 with
  | none =>
    rw [hk] at kk
    refine V_if_lt 13 dX5_age_6 (by decide) (fun _ => ?_) (fun c6 => absurd (show plI none < 0 by decide) c6)
    refine V_iconstv 0 dX5_age_13 (by decide) ?_
    refine V_callV (q := (RX5, TX5, 23)) kX5_checked q2986 q2988 qs83 tw0 rfl dX5_age_14 ?_ (d' := 0) (as := [_]) (hst := rfl)
    refine (tw_checked (b := false) hm ?_)
    refine V_if_le 24 dX5_age_17 (by decide) (fun c17 => absurd c17 (by decide)) (fun _ => ?_)
    refine V_iconstv 0 dX5_age_20 (by decide) ?_
    refine V_goto 33 dX5_age_21 (by decide) ?_
    refine V_ireturn dX5_age_33 rfl ?_
    exact kk _ (h.q _) rfl
  | some k =>
    have hk1 := plc_lt hk
    obtain ⟨hr, -⟩ := plc_id hk
    rw [hk] at kk
    refine V_if_lt 13 dX5_age_6 (by decide) (fun c6 => absurd c6 (nI_pos (show k < 2 ^ 31 by omega))) (fun _ => ?_)
    refine V_iconstv 1 dX5_age_9 (by decide) ?_
    refine V_goto 14 dX5_age_10 (by decide) ?_
    refine V_callV (q := (RX5, TX5, 23)) kX5_checked q2986 q2988 qs83 tw0 rfl dX5_age_14 ?_ (d' := 0) (as := [_]) (hst := rfl)
    refine (tw_checked (b := true) hm ?_)
    refine V_if_le 24 dX5_age_17 (by decide) (fun _ => ?_) (fun c17 => absurd (by decide) c17)
    refine V_aload_n dX5_age_24 rfl (Or.inl ⟨_, rfl⟩) ?_
    refine V_aload_n dX5_age_25 rfl (Or.inl ⟨_, rfl⟩) ?_
    refine V_iload_n dX5_age_26 rfl ?_
    refine V_callV (q := (RX5, TX5, 23)) kX5_colour q2856 q2858 qs60 tw0 rfl dX5_age_27 ?_ (d' := 2) (as := [_]) (hst := rfl)
    refine (tw_colour (h1 _) ?_)
    rw [hk]
    refine V_callV (q := (RX5, TX5, 23)) kX5_ageAt q2959 q2961 qs79 tw0 rfl dX5_age_30 ?_ (d' := 2) (as := [_]) (hst := rfl)
    refine (tw_ageAt (k := k) (h1 _) rfl hr ?_)
    refine V_ireturn dX5_age_33 rfl ?_
    exact kk _ (h.q _) rfl
theorem tw_daysUntilGrey {id : Int32} (hm : g_B E ≤ m) (h : TwS T S) (hf : ∀ c ∈ S.1.1, c.2.2.1 ≠ 0) (kk : ∀ T', TwS T' S → T'.2 5 = (qCol S id (dug S.1)).1 → P (.returned (some (.int (qCol S id (dug S.1)).2))) (g_tG E G m T')) : g_Spc l E mX5_daysUntilGrey 3 [.ref m, .int id] (g_tG E G m T) P := by
  have hl := h.1.1
  have h1 : ∀ c, TwO ((twI T 5 c).1 1) S.1 := fun _ => h.1
  unfold qCol at kk
  refine V_intro (plainFor_of_name plX5) (Nat.le_of_ble_eq_true rfl) ?_
  refine V_aload_n dX5_daysUntilGrey_0 rfl (Or.inl ⟨_, rfl⟩) ?_
  refine V_aload_n dX5_daysUntilGrey_1 rfl (Or.inl ⟨_, rfl⟩) ?_
  refine V_iload_n dX5_daysUntilGrey_2 rfl ?_
  refine V_callV (q := (RX5, TX5, 23)) kX5_colour q2856 q2858 qs60 tw0 rfl dX5_daysUntilGrey_3 ?_ (d' := 2) (as := [_]) (hst := rfl)
  refine (tw_colour h.1 ?_)
  cases hk : plc id S.1.1 with
  | none =>
    rw [hk] at kk
    refine V_if_lt 13 dX5_daysUntilGrey_6 (by decide) (fun _ => ?_) (fun c6 => absurd (show plI none < 0 by decide) c6)
    refine V_iconstv 0 dX5_daysUntilGrey_13 (by decide) ?_
    refine V_callV (q := (RX5, TX5, 23)) kX5_checked q2986 q2988 qs83 tw0 rfl dX5_daysUntilGrey_14 ?_ (d' := 0) (as := [_]) (hst := rfl)
    refine (tw_checked (b := false) hm ?_)
    refine V_if_le 22 dX5_daysUntilGrey_17 (by decide) (fun c17 => absurd c17 (by decide)) (fun _ => ?_)
    refine V_iconstv 0 dX5_daysUntilGrey_20 (by decide) ?_
    refine V_ireturn dX5_daysUntilGrey_21 rfl ?_
    exact kk _ (h.q _) rfl
  | some k =>
    have hk1 := plc_lt hk
    obtain ⟨hr, -⟩ := plc_id hk
    rw [hk] at kk
    have hf1 := hf _ (List.mem_of_getElem? hr)
    refine V_if_lt 13 dX5_daysUntilGrey_6 (by decide) (fun c6 => absurd c6 (nI_pos (show k < 2 ^ 31 by omega))) (fun _ => ?_)
    refine V_iconstv 1 dX5_daysUntilGrey_9 (by decide) ?_
    refine V_goto 14 dX5_daysUntilGrey_10 (by decide) ?_
    refine V_callV (q := (RX5, TX5, 23)) kX5_checked q2986 q2988 qs83 tw0 rfl dX5_daysUntilGrey_14 ?_ (d' := 0) (as := [_]) (hst := rfl)
    refine (tw_checked (b := true) hm ?_)
    refine V_if_le 22 dX5_daysUntilGrey_17 (by decide) (fun _ => ?_) (fun c17 => absurd (by decide) c17)
    refine V_aload_n dX5_daysUntilGrey_22 rfl (Or.inl ⟨_, rfl⟩) ?_
    refine V_iload_n dX5_daysUntilGrey_23 rfl ?_
    refine V_callV (q := (RX5, TX5, 23)) kX5_colour q2856 q2858 qs60 tw0 rfl dX5_daysUntilGrey_24 ?_ (d' := 2) (as := [_]) (hst := rfl)
    refine (tw_colour (h1 _) ?_)
    rw [hk]
    refine V_istore_n dX5_daysUntilGrey_27 (by decide) ?_
    refine V_aload_n dX5_daysUntilGrey_28 rfl (Or.inl ⟨_, rfl⟩) ?_
    refine V_iload_n dX5_daysUntilGrey_29 rfl ?_
    refine V_callV (q := (RX5, TX5, 23)) kX5_fadesLeft q2970 q2972 qs81 tw0 rfl dX5_daysUntilGrey_30 ?_ (d' := 2) (as := [_]) (hst := rfl)
    refine (tw_fadesLeft (k := k) (h1 _) rfl hr ?_)
    refine V_istore_n dX5_daysUntilGrey_33 (by decide) ?_
    refine V_iload_n dX5_daysUntilGrey_34 rfl ?_
    dsimp only at kk
    unfold dug rm at kk
    refine V_if_ne 42 dX5_daysUntilGrey_35 (by decide) (fun c35 => ?_) (fun c35 => ?_)
    · rw [if_neg c35] at kk
      refine V_aload_n dX5_daysUntilGrey_42 rfl (Or.inl ⟨_, rfl⟩) ?_
      refine V_iload_n dX5_daysUntilGrey_43 rfl ?_
      refine V_iconstv 4 dX5_daysUntilGrey_44 (by decide) ?_
      refine V_callV (q := (RX5, TX5, 23)) kX5_c q2860 q2862 qs61 tw0 rfl dX5_daysUntilGrey_45 ?_ (d' := 1) (as := [_, _]) (hst := rfl)
      refine (tw_c (k := k) (j := 4) (h1 _) rfl rfl hr (by decide) ?_)
      refine V_iload_n dX5_daysUntilGrey_48 rfl ?_
      refine V_imul dX5_daysUntilGrey_49 ?_
      refine V_aload_n dX5_daysUntilGrey_50 rfl (Or.inl ⟨_, rfl⟩) ?_
      refine V_iload_n dX5_daysUntilGrey_51 rfl ?_
      refine V_callV (q := (RX5, TX5, 23)) kX5_ageAt q2959 q2961 qs79 tw0 rfl dX5_daysUntilGrey_52 ?_ (d' := 2) (as := [_]) (hst := rfl)
      refine (tw_ageAt (k := k) (h1 _) rfl hr ?_)
      refine V_aload_n dX5_daysUntilGrey_55 rfl (Or.inl ⟨_, rfl⟩) ?_
      refine V_iload_n dX5_daysUntilGrey_56 rfl ?_
      refine V_iconstv 4 dX5_daysUntilGrey_57 (by decide) ?_
      refine V_callV (q := (RX5, TX5, 23)) kX5_c q2860 q2862 qs61 tw0 rfl dX5_daysUntilGrey_58 ?_ (d' := 1) (as := [_, _]) (hst := rfl)
      refine (tw_c (k := k) (j := 4) (h1 _) rfl rfl hr (by decide) ?_)
      refine V_irem dX5_daysUntilGrey_61 hf1 ?_
      refine V_isub dX5_daysUntilGrey_62 ?_
      refine V_ireturn dX5_daysUntilGrey_63 rfl ?_
      exact kk _ (h.q _) rfl
    · rw [if_pos c35] at kk
      refine V_iconstv 0 dX5_daysUntilGrey_38 (by decide) ?_
      refine V_goto 63 dX5_daysUntilGrey_39 (by decide) ?_
      refine V_ireturn dX5_daysUntilGrey_63 rfl ?_
      exact kk _ (h.q _) rfl
theorem tw_brightness {x : Int32} {k : Nat} {o : Of} {c : Rw} (h : TwO (T.1 1) o) (hx : x = nI k) (hk : o.1[k]? = some c) (kk : P (.returned (some (.int (brt c)))) (g_tG E G m T)) : g_Spc l E mX5_brightness 2 [.ref m, .int x] (g_tG E G m T) P := by
  refine V_intro (plainFor_of_name plX5) (Nat.le_of_ble_eq_true rfl) ?_
  refine V_aload_n dX5_brightness_0 rfl (Or.inl ⟨_, rfl⟩) ?_
  refine V_iload_n dX5_brightness_1 rfl ?_
  refine V_iconstv 1 dX5_brightness_2 (by decide) ?_
  refine V_callV (q := (RX5, TX5, 23)) kX5_c q2860 q2862 qs61 tw0 rfl dX5_brightness_3 ?_ (d' := 1) (as := [_, _]) (hst := rfl)
  refine (tw_c (k := k) (j := 1) h hx rfl hk (by decide) ?_)
  refine V_aload_n dX5_brightness_6 rfl (Or.inl ⟨_, rfl⟩) ?_
  refine V_iload_n dX5_brightness_7 rfl ?_
  refine V_iconstv 2 dX5_brightness_8 (by decide) ?_
  refine V_callV (q := (RX5, TX5, 23)) kX5_c q2860 q2862 qs61 tw0 rfl dX5_brightness_9 ?_ (d' := 1) (as := [_, _]) (hst := rfl)
  refine (tw_c (k := k) (j := 2) h hx rfl hk (by decide) ?_)
  refine V_iadd dX5_brightness_12 ?_
  refine V_aload_n dX5_brightness_13 rfl (Or.inl ⟨_, rfl⟩) ?_
  refine V_iload_n dX5_brightness_14 rfl ?_
  refine V_iconstv 3 dX5_brightness_15 (by decide) ?_
  refine V_callV (q := (RX5, TX5, 23)) kX5_c q2860 q2862 qs61 tw0 rfl dX5_brightness_16 ?_ (d' := 1) (as := [_, _]) (hst := rfl)
  refine (tw_c (k := k) (j := 3) h hx rfl hk (by decide) ?_)
  refine V_iadd dX5_brightness_19 ?_
  refine V_ireturn dX5_brightness_20 rfl ?_
  exact kk
theorem tw_areBoth {x y : Int32} (hm : g_B E ≤ m) (h : TwS T S) (kk : ∀ T', TwS T' S → T'.2 5 = (((b2i (!((plc x S.1.2.1).isSome && (plc y S.1.1).isSome)), b2i ((plc x S.1.2.1).isSome && (plc y S.1.1).isSome)) : Int32 × Int32)).1 → P (.returned (some (.int (((b2i (!((plc x S.1.2.1).isSome && (plc y S.1.1).isSome)), b2i ((plc x S.1.2.1).isSome && (plc y S.1.1).isSome)) : Int32 × Int32)).2))) (g_tG E G m T')) : g_Spc l E mX5_areBoth 3 [.ref m, .int x, .int y] (g_tG E G m T) P := by
  have hl := h.1.1
  have hl2 := h.1.2.1
  have fin : ∀ b : Bool, b = ((plc x S.1.2.1).isSome && (plc y S.1.1).isSome) → V l E mX5_areBoth 3 P 22 [(0, .ref m), (1, .int x), (2, .int y)] [.int (b2i b), .ref m] (g_tG E G m T) := by
    intro b hb
    rw [← hb] at kk
    refine V_callV (q := (RX5, TX5, 23)) kX5_checked q2986 q2988 qs83 tw0 rfl dX5_areBoth_22 ?_ (d' := 0) (as := [_]) (hst := rfl)
    refine (tw_checked hm ?_)
    cases b with
    | true =>
      refine V_if_ne 32 dX5_areBoth_25 (by decide) (fun c25 => absurd c25 (show ¬ ¬ b2i (!true) = 0 by decide)) (fun _ => ?_)
      refine V_iconstv 1 dX5_areBoth_28 (by decide) ?_
      refine V_goto 33 dX5_areBoth_29 (by decide) ?_
      refine V_zreturn dX5_areBoth_33 rfl rfl ?_
      exact kk _ (h.q _) rfl
    | false =>
      refine V_if_ne 32 dX5_areBoth_25 (by decide) (fun _ => ?_) (fun c25 => absurd c25 (show ¬ b2i (!false) = 0 by decide))
      refine V_iconstv 0 dX5_areBoth_32 (by decide) ?_
      refine V_zreturn dX5_areBoth_33 rfl rfl ?_
      exact kk _ (h.q _) rfl
  refine V_intro (plainFor_of_name plX5) (Nat.le_of_ble_eq_true rfl) ?_
  refine V_aload_n dX5_areBoth_0 rfl (Or.inl ⟨_, rfl⟩) ?_
  refine V_aload_n dX5_areBoth_1 rfl (Or.inl ⟨_, rfl⟩) ?_
  refine V_iload_n dX5_areBoth_2 rfl ?_
  refine V_callV (q := (RX5, TX5, 23)) kX5_openReport q2832 q2834 qs55 tw0 rfl dX5_areBoth_3 ?_ (d' := 2) (as := [_]) (hst := rfl)
  refine (tw_openReport h.1 ?_)
  cases hk : plc x S.1.2.1 with
  | none =>
    rw [hk] at fin
    refine V_if_lt 21 dX5_areBoth_6 (by decide) (fun _ => ?_) (fun c6 => absurd (show plI none < 0 by decide) c6)
    refine V_iconstv 0 dX5_areBoth_21 (by decide) ?_
    exact V_subk (fin false rfl) ⟨rfl, rfl, rfl, trivial⟩
  | some k =>
    have hk1 := plc_lt hk
    refine V_if_lt 21 dX5_areBoth_6 (by decide) (fun c6 => absurd c6 (nI_pos (show k < 2 ^ 31 by omega))) (fun _ => ?_)
    refine V_aload_n dX5_areBoth_9 rfl (Or.inl ⟨_, rfl⟩) ?_
    refine V_iload_n dX5_areBoth_10 rfl ?_
    refine V_callV (q := (RX5, TX5, 23)) kX5_colour q2856 q2858 qs60 tw0 rfl dX5_areBoth_11 ?_ (d' := 2) (as := [_]) (hst := rfl)
    refine (tw_colour h.1 ?_)
    cases hj : plc y S.1.1 with
    | none =>
      rw [hk, hj] at fin
      refine V_if_lt 21 dX5_areBoth_14 (by decide) (fun _ => ?_) (fun c14 => absurd (show plI none < 0 by decide) c14)
      refine V_iconstv 0 dX5_areBoth_21 (by decide) ?_
      exact V_subk (fin false rfl) ⟨rfl, rfl, rfl, trivial⟩
    | some j =>
      have hj1 := plc_lt hj
      rw [hk, hj] at fin
      refine V_if_lt 21 dX5_areBoth_14 (by decide) (fun c14 => absurd c14 (nI_pos (show j < 2 ^ 31 by omega))) (fun _ => ?_)
      refine V_iconstv 1 dX5_areBoth_17 (by decide) ?_
      refine V_goto 22 dX5_areBoth_18 (by decide) ?_
      exact V_subk (fin true rfl) ⟨rfl, rfl, rfl, trivial⟩
theorem tw_distanceFor {x y : Int32} (hm : g_B E ≤ m) (h : TwS T S) (kk : ∀ T', TwS T' S → T'.2 5 = (qBoth S x y (fun r c => dO S.1 r.2.1 c)).1 → P (.returned (some (.int (qBoth S x y (fun r c => dO S.1 r.2.1 c)).2))) (g_tG E G m T')) : g_Spc l E mX5_distanceFor 4 [.ref m, .int x, .int y] (g_tG E G m T) P := by
  unfold qBoth at kk
  refine V_intro (plainFor_of_name plX5) (Nat.le_of_ble_eq_true rfl) ?_
  refine V_aload_n dX5_distanceFor_0 rfl (Or.inl ⟨_, rfl⟩) ?_
  refine V_iload_n dX5_distanceFor_1 rfl ?_
  refine V_iload_n dX5_distanceFor_2 rfl ?_
  refine V_callV (q := (RX5, TX5, 23)) kX5_areBoth q3050 q3052 qs87 tw0 rfl dX5_distanceFor_3 ?_ (d' := 3) (as := [_, _]) (hst := rfl)
  refine (tw_areBoth hm h (fun T' h1 h2 => ?_))
  cases hk : plc x S.1.2.1 with
  | none =>
    simp only [hk] at kk h2 ⊢
    refine V_if_eq 26 dX5_distanceFor_6 (by decide) (fun _ => ?_) (fun c6 => absurd rfl c6)
    refine V_iconstv 0 dX5_distanceFor_26 (by decide) ?_
    refine V_ireturn dX5_distanceFor_27 rfl ?_
    exact kk _ h1 h2
  | some k =>
    cases hj : plc y S.1.1 with
    | none =>
      simp only [hk, hj] at kk h2 ⊢
      refine V_if_eq 26 dX5_distanceFor_6 (by decide) (fun _ => ?_) (fun c6 => absurd rfl c6)
      refine V_iconstv 0 dX5_distanceFor_26 (by decide) ?_
      refine V_ireturn dX5_distanceFor_27 rfl ?_
      exact kk _ h1 h2
    | some j =>
      simp only [hk, hj] at kk h2 ⊢
      refine V_if_eq 26 dX5_distanceFor_6 (by decide) (fun c6 => absurd c6 (show ¬ b2i true = 0 by decide)) (fun _ => ?_)
      refine V_aload_n dX5_distanceFor_9 rfl (Or.inl ⟨_, rfl⟩) ?_
      refine V_aload_n dX5_distanceFor_10 rfl (Or.inl ⟨_, rfl⟩) ?_
      refine V_iload_n dX5_distanceFor_11 rfl ?_
      refine V_callV (q := (RX5, TX5, 23)) kX5_openReport q2832 q2834 qs55 tw0 rfl dX5_distanceFor_12 ?_ (d' := 2) (as := [_]) (hst := rfl)
      refine (tw_openReport h1.1 ?_)
      rw [hk]
      refine V_aload_n dX5_distanceFor_15 rfl (Or.inl ⟨_, rfl⟩) ?_
      refine V_iload_n dX5_distanceFor_16 rfl ?_
      refine V_callV (q := (RX5, TX5, 23)) kX5_colour q2856 q2858 qs60 tw0 rfl dX5_distanceFor_17 ?_ (d' := 2) (as := [_]) (hst := rfl)
      refine (tw_colour h1.1 ?_)
      rw [hj]
      refine V_callV (q := (RX5, TX5, 23)) kX5_apartFor q2906 q2908 qs69 tw0 rfl dX5_distanceFor_20 ?_ (d' := 2) (as := [_, _]) (hst := rfl)
      refine (tw_apartFor (k := k) (j := j) h1.1 rfl rfl (plc_id hk).1 (plc_id hj).1 ?_)
      refine V_goto 27 dX5_distanceFor_23 (by decide) ?_
      refine V_ireturn dX5_distanceFor_27 rfl ?_
      exact kk _ h1 h2
theorem tw_fits {x y : Int32} (hm : g_B E ≤ m) (h : TwS T S) (kk : ∀ T', TwS T' S → T'.2 5 = (qBoth S x y (fun r c => b2i (fitO S.1 r c))).1 → P (.returned (some (.int (qBoth S x y (fun r c => b2i (fitO S.1 r c))).2))) (g_tG E G m T')) : g_Spc l E mX5_fits 4 [.ref m, .int x, .int y] (g_tG E G m T) P := by
  unfold qBoth at kk
  refine V_intro (plainFor_of_name plX5) (Nat.le_of_ble_eq_true rfl) ?_
  refine V_aload_n dX5_fits_0 rfl (Or.inl ⟨_, rfl⟩) ?_
  refine V_iload_n dX5_fits_1 rfl ?_
  refine V_iload_n dX5_fits_2 rfl ?_
  refine V_callV (q := (RX5, TX5, 23)) kX5_areBoth q3050 q3052 qs87 tw0 rfl dX5_fits_3 ?_ (d' := 3) (as := [_, _]) (hst := rfl)
  refine (tw_areBoth hm h (fun T' h1 h2 => ?_))
  cases hk : plc x S.1.2.1 with
  | none =>
    simp only [hk] at kk h2 ⊢
    refine V_if_eq 30 dX5_fits_6 (by decide) (fun _ => ?_) (fun c6 => absurd rfl c6)
    refine V_iconstv 0 dX5_fits_30 (by decide) ?_
    refine V_zreturn dX5_fits_31 rfl rfl ?_
    exact kk _ h1 h2
  | some k =>
    cases hj : plc y S.1.1 with
    | none =>
      simp only [hk, hj] at kk h2 ⊢
      refine V_if_eq 30 dX5_fits_6 (by decide) (fun _ => ?_) (fun c6 => absurd rfl c6)
      refine V_iconstv 0 dX5_fits_30 (by decide) ?_
      refine V_zreturn dX5_fits_31 rfl rfl ?_
      exact kk _ h1 h2
    | some j =>
      simp only [hk, hj] at kk h2 ⊢
      refine V_if_eq 30 dX5_fits_6 (by decide) (fun c6 => absurd c6 (show ¬ b2i true = 0 by decide)) (fun _ => ?_)
      refine V_aload_n dX5_fits_9 rfl (Or.inl ⟨_, rfl⟩) ?_
      refine V_aload_n dX5_fits_10 rfl (Or.inl ⟨_, rfl⟩) ?_
      refine V_iload_n dX5_fits_11 rfl ?_
      refine V_callV (q := (RX5, TX5, 23)) kX5_openReport q2832 q2834 qs55 tw0 rfl dX5_fits_12 ?_ (d' := 2) (as := [_]) (hst := rfl)
      refine (tw_openReport h1.1 ?_)
      rw [hk]
      refine V_aload_n dX5_fits_15 rfl (Or.inl ⟨_, rfl⟩) ?_
      refine V_iload_n dX5_fits_16 rfl ?_
      refine V_callV (q := (RX5, TX5, 23)) kX5_colour q2856 q2858 qs60 tw0 rfl dX5_fits_17 ?_ (d' := 2) (as := [_]) (hst := rfl)
      refine (tw_colour h1.1 ?_)
      rw [hj]
      refine V_callV (q := (RX5, TX5, 23)) kX5_isFit q2902 q2904 qs68 tw0 rfl dX5_fits_20 ?_ (d' := 3) (as := [_, _]) (hst := rfl)
      refine (tw_isFit (k := k) (j := j) h1.1 rfl rfl (plc_id hk).1 (plc_id hj).1 ?_)
      cases hb : fitO S.1 (rwAt S.1.2.1 k) (rwAt S.1.1 j) with
      | true =>
        rw [hb] at kk
        refine V_if_eq 30 dX5_fits_23 (by decide) (fun c23 => absurd c23 (by decide)) (fun _ => ?_)
        refine V_iconstv 1 dX5_fits_26 (by decide) ?_
        refine V_goto 31 dX5_fits_27 (by decide) ?_
        refine V_zreturn dX5_fits_31 rfl rfl ?_
        exact kk _ h1 h2
      | false =>
        rw [hb] at kk
        refine V_if_eq 30 dX5_fits_23 (by decide) (fun _ => ?_) (fun c23 => absurd rfl c23)
        refine V_iconstv 0 dX5_fits_30 (by decide) ?_
        refine V_zreturn dX5_fits_31 rfl rfl ?_
        exact kk _ h1 h2
theorem tw_distance {x y : Int32} (hm : g_B E ≤ m) (h : TwS T S) (kk : ∀ T', TwS T' S → T'.2 5 = (qDis S x y).1 → P (.returned (some (.int (qDis S x y).2))) (g_tG E G m T')) : g_Spc l E mX5_distance 3 [.ref m, .int x, .int y] (g_tG E G m T) P := by
  have hl := h.1.1
  have e5 : T.1 1 5 = S.1.2.2 5 := h.1.2.2.2.2.1 5 (by decide) (by decide)
  have h0 : ∀ c, TwO ((twI T 5 c).1 1) S.1 := fun _ => h.1
  unfold qDis at kk
  have no : (qDis S x y = (1, 0)) → V l E mX5_distance 3 P 21 [(0, .ref m), (1, .int x), (2, .int y)] [.ref m] (g_tG E G m T) := by
    intro e
    unfold qDis at e
    rw [e] at kk
    refine V_iconstv 0 dX5_distance_21 (by decide) ?_
    refine V_callV (q := (RX5, TX5, 23)) kX5_checked q2986 q2988 qs83 tw0 rfl dX5_distance_22 ?_ (d' := 0) (as := [_]) (hst := rfl)
    refine (tw_checked (b := false) hm ?_)
    refine V_if_le 30 dX5_distance_25 (by decide) (fun c25 => absurd c25 (by decide)) (fun _ => ?_)
    refine V_iconstv 0 dX5_distance_28 (by decide) ?_
    refine V_ireturn dX5_distance_29 rfl ?_
    exact kk _ (h.q _) rfl
  refine V_intro (plainFor_of_name plX5) (Nat.le_of_ble_eq_true rfl) ?_
  refine V_aload_n dX5_distance_0 rfl (Or.inl ⟨_, rfl⟩) ?_
  refine V_aload_n dX5_distance_1 rfl (Or.inl ⟨_, rfl⟩) ?_
  refine V_iload_n dX5_distance_2 rfl ?_
  refine V_callV (q := (RX5, TX5, 23)) kX5_colour q2856 q2858 qs60 tw0 rfl dX5_distance_3 ?_ (d' := 2) (as := [_]) (hst := rfl)
  refine (tw_colour h.1 ?_)
  cases hk : plc x S.1.1 with
  | none =>
    refine V_if_lt 21 dX5_distance_6 (by decide) (fun _ => ?_) (fun c6 => absurd (show plI none < 0 by decide) c6)
    exact V_subk (no (by unfold qDis; rw [hk])) ⟨rfl, rfl, rfl, trivial⟩
  | some k =>
    have hk1 := plc_lt hk
    refine V_if_lt 21 dX5_distance_6 (by decide) (fun c6 => absurd c6 (nI_pos (show k < 2 ^ 31 by omega))) (fun _ => ?_)
    refine V_aload_n dX5_distance_9 rfl (Or.inl ⟨_, rfl⟩) ?_
    refine V_iload_n dX5_distance_10 rfl ?_
    refine V_callV (q := (RX5, TX5, 23)) kX5_colour q2856 q2858 qs60 tw0 rfl dX5_distance_11 ?_ (d' := 2) (as := [_]) (hst := rfl)
    refine (tw_colour h.1 ?_)
    cases hj : plc y S.1.1 with
    | none =>
      refine V_if_lt 21 dX5_distance_14 (by decide) (fun _ => ?_) (fun c14 => absurd (show plI none < 0 by decide) c14)
      exact V_subk (no (by unfold qDis; rw [hk, hj])) ⟨rfl, rfl, rfl, trivial⟩
    | some j =>
      have hj1 := plc_lt hj
      obtain ⟨hr, -⟩ := plc_id hk
      obtain ⟨hc, -⟩ := plc_id hj
      rw [hk, hj] at kk
      refine V_if_lt 21 dX5_distance_14 (by decide) (fun c14 => absurd c14 (nI_pos (show j < 2 ^ 31 by omega))) (fun _ => ?_)
      refine V_iconstv 1 dX5_distance_17 (by decide) ?_
      refine V_goto 22 dX5_distance_18 (by decide) ?_
      refine V_callV (q := (RX5, TX5, 23)) kX5_checked q2986 q2988 qs83 tw0 rfl dX5_distance_22 ?_ (d' := 0) (as := [_]) (hst := rfl)
      refine (tw_checked (b := true) hm ?_)
      refine V_if_le 30 dX5_distance_25 (by decide) (fun _ => ?_) (fun c25 => absurd (by decide) c25)
      refine V_aload_n dX5_distance_30 rfl (Or.inl ⟨_, rfl⟩) ?_
      refine V_aload_n dX5_distance_31 rfl (Or.inl ⟨_, rfl⟩) ?_
      refine V_iload_n dX5_distance_32 rfl ?_
      refine V_callV (q := (RX5, TX5, 23)) kX5_colour q2856 q2858 qs60 tw0 rfl dX5_distance_33 ?_ (d' := 2) (as := [_]) (hst := rfl)
      refine (tw_colour (h0 _) ?_)
      rw [hk]
      refine V_callS kX5_colourRow q2802 q2803 dX5_distance_36 ?_ (d' := 0) (as := [_]) (hst := rfl)
      refine (tw_colourRow (k := k) rfl ?_)
      refine V_aload_n dX5_distance_39 rfl (Or.inl ⟨_, rfl⟩) ?_
      refine V_iload_n dX5_distance_40 rfl ?_
      refine V_callV (q := (RX5, TX5, 23)) kX5_colour q2856 q2858 qs60 tw0 rfl dX5_distance_41 ?_ (d' := 2) (as := [_]) (hst := rfl)
      refine (tw_colour (h0 _) ?_)
      rw [hj]
      refine V_callS kX5_colourRow q2802 q2803 dX5_distance_44 ?_ (d' := 0) (as := [_]) (hst := rfl)
      refine (tw_colourRow (k := j) rfl ?_)
      refine V_callV (q := (RX5, TX5, 23)) kX5_apart q2895 q2897 qs67 tw0 rfl dX5_distance_47 ?_ (d' := 1) (as := [_, _]) (hst := rfl)
      refine (tw_apart (a := 8 + 8 * k) (b := 8 + 8 * j) rfl rfl (by omega) (by omega) ?_)
      refine V_ireturn dX5_distance_50 rfl ?_
      rw [(h0 _).tnC hr, (h0 _).tnC hc, show (twI T 5 (b2i (!true))).1 1 5 = S.1.2.2 5 from e5]
      exact kk _ (h.q _) rfl
theorem tw_nearestFor {x : Int32} (hm : g_B E ≤ m) (h : TwS T S) (kk : ∀ T', TwS T' S → T'.2 5 = (qNf S x).1 → P (.returned (some (.int (qNf S x).2))) (g_tG E G m T')) : g_Spc l E mX5_nearestFor 3 [.ref m, .int x] (g_tG E G m T) P := by
  have hl := h.1.1
  have hl2 := h.1.2.1
  have h0 : ∀ c, TwO ((twI T 5 c).1 1) S.1 := fun _ => h.1
  have no : (qNf S x = (1, 0)) → V l E mX5_nearestFor 3 P 22 [(0, .ref m), (1, .int x)] [.ref m] (g_tG E G m T) := by
    intro e
    rw [e] at kk
    refine V_iconstv 0 dX5_nearestFor_22 (by decide) ?_
    refine V_callV (q := (RX5, TX5, 23)) kX5_checked q2986 q2988 qs83 tw0 rfl dX5_nearestFor_23 ?_ (d' := 0) (as := [_]) (hst := rfl)
    refine (tw_checked (b := false) hm ?_)
    refine V_if_le 31 dX5_nearestFor_26 (by decide) (fun c26 => absurd c26 (by decide)) (fun _ => ?_)
    refine V_iconstv 0 dX5_nearestFor_29 (by decide) ?_
    refine V_ireturn dX5_nearestFor_30 rfl ?_
    exact kk _ (h.q _) rfl
  refine V_intro (plainFor_of_name plX5) (Nat.le_of_ble_eq_true rfl) ?_
  refine V_aload_n dX5_nearestFor_0 rfl (Or.inl ⟨_, rfl⟩) ?_
  refine V_aload_n dX5_nearestFor_1 rfl (Or.inl ⟨_, rfl⟩) ?_
  refine V_iload_n dX5_nearestFor_2 rfl ?_
  refine V_callV (q := (RX5, TX5, 23)) kX5_openReport q2832 q2834 qs55 tw0 rfl dX5_nearestFor_3 ?_ (d' := 2) (as := [_]) (hst := rfl)
  refine (tw_openReport h.1 ?_)
  cases hk : plc x S.1.2.1 with
  | none =>
    refine V_if_lt 22 dX5_nearestFor_6 (by decide) (fun _ => ?_) (fun c6 => absurd (show plI none < 0 by decide) c6)
    exact V_subk (no (by unfold qNf; rw [hk])) ⟨rfl, rfl, trivial⟩
  | some k =>
    have hk1 := plc_lt hk
    obtain ⟨hr, -⟩ := plc_id hk
    refine V_if_lt 22 dX5_nearestFor_6 (by decide) (fun c6 => absurd c6 (nI_pos (show k < 2 ^ 31 by omega))) (fun _ => ?_)
    refine V_aload_n dX5_nearestFor_9 rfl (Or.inl ⟨_, rfl⟩) ?_
    refine V_get ckX5 tw0 0 (by decide) q2699 rfl rfl dX5_nearestFor_10 ?_
    refine V_iconstv 0 dX5_nearestFor_13 (by decide) ?_
    refine tw_ld 1 (0) (by decide) (by decide) rfl (show _ < 136 from by omega) (by decide) dX5_nearestFor_14 ?_
    rw [h.1.2.2.1]
    cases hn : nst S.1 (rwAt S.1.2.1 k).2.1 with
    | none =>
      have e0 := nst_none.mp hn
      rw [e0]
      refine V_if_le 22 dX5_nearestFor_15 (by decide) (fun _ => ?_) (fun c15 => absurd (show nI 0 ≤ 0 by decide) c15)
      exact V_subk (no (by unfold qNf; rw [hk]; dsimp only; rw [hn])) ⟨rfl, rfl, trivial⟩
    | some j =>
      have hj1 := nst_lt hn
      unfold qNf at kk
      rw [hk] at kk
      dsimp only at kk
      rw [hn] at kk
      refine V_if_le 22 dX5_nearestFor_15 (by decide) (fun c15 => absurd c15 (nI_nle (by omega) (by omega))) (fun _ => ?_)
      refine V_iconstv 1 dX5_nearestFor_18 (by decide) ?_
      refine V_goto 23 dX5_nearestFor_19 (by decide) ?_
      refine V_callV (q := (RX5, TX5, 23)) kX5_checked q2986 q2988 qs83 tw0 rfl dX5_nearestFor_23 ?_ (d' := 0) (as := [_]) (hst := rfl)
      refine (tw_checked (b := true) hm ?_)
      refine V_if_le 31 dX5_nearestFor_26 (by decide) (fun _ => ?_) (fun c26 => absurd (by decide) c26)
      refine V_aload_n dX5_nearestFor_31 rfl (Or.inl ⟨_, rfl⟩) ?_
      refine V_aload_n dX5_nearestFor_32 rfl (Or.inl ⟨_, rfl⟩) ?_
      refine V_aload_n dX5_nearestFor_33 rfl (Or.inl ⟨_, rfl⟩) ?_
      refine V_iload_n dX5_nearestFor_34 rfl ?_
      refine V_callV (q := (RX5, TX5, 23)) kX5_openReport q2832 q2834 qs55 tw0 rfl dX5_nearestFor_35 ?_ (d' := 2) (as := [_]) (hst := rfl)
      refine (tw_openReport (h0 _) ?_)
      rw [hk]
      refine V_callS kX5_reportRow q2825 q2826 dX5_nearestFor_38 ?_ (d' := 0) (as := [_]) (hst := rfl)
      refine (tw_reportRow (k := k) rfl ?_)
      refine V_callV (q := (RX5, TX5, 23)) kX5_nearestTo q2891 q2893 qs66 tw0 rfl dX5_nearestFor_41 ?_ (d' := 2) (as := [_]) (hst := rfl)
      refine (tw_nearestTo (a := 88 + 8 * k) (h0 _) rfl (by omega) ?_)
      rw [(h0 _).tnR hr, hn]
      refine V_iconstv 0 dX5_nearestFor_44 (by decide) ?_
      refine V_callV (q := (RX5, TX5, 23)) kX5_c q2860 q2862 qs61 tw0 rfl dX5_nearestFor_45 ?_ (d' := 1) (as := [_, _]) (hst := rfl)
      refine (tw_c (k := j) (j := 0) (h0 _) rfl rfl (at_of hj1) (by decide) ?_)
      refine V_ireturn dX5_nearestFor_48 rfl ?_
      exact kk _ (h.q _) rfl
end TW9
