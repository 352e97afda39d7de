/-! MODULE ColourOffice: commit, change -/
set_option maxRecDepth 100000
abbrev frK (K : Nat → Prop) : Nat → Prop := fun z => ¬ K z
section CHANGE
variable {l : Launch} {E : g_E} {P : Outcome → g_G → Prop} {G G' : g_G} {K : Nat → Prop}
theorem noLL_of {q : Nat} {y : va_E} (h : G.1 q = some y) (hi : isO y = true ∨ (∃ ci vs, y = g_ob ci vs ∧ ci ≠ 20 ∧ ci ≠ 23)) : noLL G q := fun vs => by
  rcases hi with hi | ⟨ci, ws, e, h1, h2⟩
  · refine ⟨fun e => ?_, fun e => ?_⟩
    · rw [h] at e
      cases e
      cases hi
    · rw [h] at e
      cases e
      cases hi
  · subst e
    refine ⟨fun e => ?_, fun e => ?_⟩
    · rw [h] at e
      cases e
      exact h1 rfl
    · rw [h] at e
      cases e
      exact h2 rfl
/-- the office's object and the list of the past change -/
theorem Kp.px {x n sb : Nat} {vs : List Value} {w : List Int32} (hx : G.1 x = some (g_ob 0 vs)) (hs : SbAt E n G sb w) (k : g_ke (fun q => q ≠ x ∧ noLL G q) G G') : Kp K G G' sb := by
  obtain ⟨ar, ml, hsc⟩ := hs.cell
  refine ⟨fun q y _ hy hi _ => k q y ⟨?_, noLL_of hy (Or.inl hi)⟩ hy, fun q ws hy => k q _ ⟨g_apart hy hx (by intro e; cases e), noLL_of hy (Or.inr ⟨_, _, rfl, by decide, by decide⟩)⟩ hy, fun q _ e => hs.back (fun y hy => ?_) e⟩
  · intro e
    subst e
    rw [hx] at hy
    cases hy
    cases hi
  · rw [hsc] at hy
    cases hy
    exact k sb _ ⟨g_apart hsc hx (by intro e; cases e), noLL_of hsc (Or.inr ⟨_, _, rfl, by decide, by decide⟩)⟩ hsc
theorem KOk.px {x : Nat} {vs : List Value} (h : KOk K G) (hx : G.1 x = some (g_ob 0 vs)) (k : g_ke (fun q => q ≠ x ∧ noLL G q) G G') : g_ke (frK K) G G' := fun z y hz hy => by
  have hKx := h.ob hx (by decide)
  refine k z y ⟨fun e => hz (by rw [e]; exact hKx), fun ws => ⟨fun e => hz (h.ob e (by decide)), fun e => hz (h.ob e (by decide))⟩⟩ hy
theorem PoAt.push {sb b : Nat} {as : List Nat} {H : List Of} {o : Of} (h : PoAt E K G sb as H) (hb : OfK E K G sb b o) : PoAt E K G sb ((if as.length = 8 then as.drop 1 else as) ++ [b]) (ofPush H o) := by
  obtain ⟨h1, h2, h3⟩ := h
  unfold ofPush
  rw [← h1]
  have g : ∀ (as' : List Nat) (H' : List Of), as'.length = H'.length → H'.length ≤ 7 → (∀ (k b : Nat) (o : Of), as'[k]? = some b → H'[k]? = some o → OfK E K G sb b o) → PoAt E K G sb (as' ++ [b]) (H' ++ [o]) := fun as' H' e1 e2 e3 => by
    refine ⟨by rw [List.length_append, List.length_append, e1]; rfl, by rw [List.length_append]; exact Nat.succ_le_succ e2, fun k c r hc hr => ?_⟩
    rcases at_push hc with e | ⟨e, e'⟩
    · rcases at_push hr with f | ⟨f, f'⟩
      · exact e3 k c r e f
      · have := lt_of_at e
        omega
    · rcases at_push hr with f | ⟨f, f'⟩
      · have := lt_of_at f
        omega
      · subst e'
        subst f'
        exact hb
  by_cases h8 : as.length = 8
  · rw [if_pos h8, if_pos h8]
    refine g _ _ (by rw [List.length_drop, List.length_drop, h1]) (by rw [List.length_drop]; omega) fun k c r hc hr => ?_
    rw [List.getElem?_drop] at hc hr
    exact h3 _ c r hc hr
  · rw [if_neg h8, if_neg h8]
    exact g _ _ h1 (by omega) h3
theorem SbAt.ar_lt {n sb q : Nat} {w : List Int32} (h : SbAt E n G sb w) (wf : g_wf G) (hq : SbAr G sb q) : q < G.2.1 := by
  obtain ⟨ml, cap, f, ⟨-, ar, -, hc, ha, -⟩, -⟩ := h
  obtain ⟨c, m, t, e⟩ := hq
  rw [hc] at e
  cases e
  exact wf _ _ ha
theorem cx_commit {x a ps sb out b : Nat} {sn : Value} {as : List Nat} {S : St} {o : Of} {r : Int32} (h : CXc E K G x S a sn ps sb out as) (hb : OfK E K G sb b o) (hf : g_fit E G 1 3) (kk : ∀ G', g_mod (frK K) G G' 1 3 → CX E K G' x (sPush S o) → P (.returned (some (.int r))) G') : g_Spc l E mX1_commit 5 [.ref x, .ref b, .int r] G P := by
  obtain ⟨hf1, hf2⟩ := hf
  obtain ⟨h1, h2, h3, h4, h5, h6, h7, h8, h9, h10⟩ := id h
  obtain ⟨-, ll, hpc, -⟩ := id h6
  obtain ⟨ar, ml, hsc⟩ := h8.cell
  have hpx : ps ≠ x := g_apart hpc h3 (by intro e; cases e)
  have hsx : sb ≠ x := g_apart hsc h3 (by intro e; cases e)
  refine V_intro (plainFor_of_name plX1) (Nat.le_of_ble_eq_true rfl) ?_
  refine V_wf (fun wf hBG => ?_)
  refine V_aload_n dX1_commit_0 rfl (Or.inl ⟨_, rfl⟩) ?_
  refine V_get ckX1 h3 2 (by decide) q326 rfl (by rfl) dX1_commit_1 ?_
  refine V_aload_n dX1_commit_4 rfl (Or.inl ⟨_, rfl⟩) ?_
  refine V_get ckX1 h3 0 (by decide) q324 rfl (by rfl) dX1_commit_5 ?_
  refine V_callV (q := (RX4, TX4, 1)) kX4_add q1521 q1522 q1523 hpc rfl dX1_commit_8 ?_ (d' := 4) (as := [_]) (hst := rfl)
  refine (ps_add h6 (Nat.le_refl _) hBG (by rw [h7.1]; exact h7.2.1) ⟨by omega, by omega⟩ (fun G1 m1 hP1 => ?_))
  obtain ⟨a1, a2, a3, a4, a5⟩ := m1
  have hx1 : G1.1 x = some (clO a sn ps sb S.2.2.2.1 out) := a1 _ _ (noLL_of h3 (Or.inr ⟨_, _, rfl, by decide, by decide⟩)) h3
  refine V_aload_n dX1_commit_11 rfl (Or.inl ⟨_, rfl⟩) ?_
  refine V_aload_n dX1_commit_12 rfl (Or.inl ⟨_, rfl⟩) ?_
  refine V_put ckX1 hx1 (by first | assumption | omega | (simp only [g_new, g_up]; omega) | (simp only [g_new, g_up, g_B] at *; omega)) 0 (by decide) q324 rfl rfl rfl rfl (Nat.le_of_ble_eq_true rfl) dX1_commit_13 ?_
  refine V_iload_n dX1_commit_16 rfl ?_
  refine V_ireturn dX1_commit_17 rfl ?_
  have kU : g_ke (fun q => q ≠ x) G1 (g_up G1 x (clO b sn ps sb S.2.2.2.1 out)) := g_ke.up (fun q => q rfl) _
  have kA : g_ke (fun q => q ≠ x ∧ noLL G q) G (g_up G1 x (clO b sn ps sb S.2.2.2.1 out)) := fun q y hq hy => kU q y hq.1 (a1 q y hq.2 hy)
  have kp : Kp K G (g_up G1 x (clO b sn ps sb S.2.2.2.1 out)) sb := Kp.px h3 h8 kA
  have kf : g_ke (frK K) G (g_up G1 x (clO b sn ps sb S.2.2.2.1 out)) := h2.px h3 kA
  have hsc' : ∀ y, G.1 sb = some y → (g_up G1 x (clO b sn ps sb S.2.2.2.1 out)).1 sb = some y := fun y hy => by
    rw [hsc] at hy
    cases hy
    exact kA sb _ ⟨hsx, noLL_of hsc (Or.inr ⟨_, _, rfl, by decide, by decide⟩)⟩ hsc
  refine kk _ ⟨kf, by simp only [g_up]; omega, by simp only [g_up]; omega, by simp only [g_up]; omega, by simp only [g_up]; omega⟩ ⟨b, sn, ps, sb, out, _, h1, h2.kp kf, g_up_at, hb.kp wf kp, h5.kp wf kp, hP1.ke2 kU hpx (fun q vs e => ?_), (h7.kp wf kp).push (h4.kp wf kp), h8.ke2 kA ⟨hsx, noLL_of hsc (Or.inr ⟨_, _, rfl, by decide, by decide⟩)⟩ (fun ar' e => ?_), fun ar' e => h9 ar' (h8.back hsc' e), h10.kp wf kp⟩
  · rcases e with e | e
    · exact g_apart e hx1 (by intro q; cases q)
    · exact g_apart e hx1 (by intro q; cases q)
  · obtain ⟨ml', cap, f, ⟨-, ar2, -, hc2, ha2, -⟩, -⟩ := id h8
    obtain ⟨c, m, t, e⟩ := e
    rw [hc2] at e
    cases e
    exact ⟨g_apart ha2 h3 (by intro q; cases q), noLL_of ha2 (Or.inl rfl)⟩
theorem kd4_why {o : Of} {kind : Nat} {f : Nat → Int32} (h : cmK o kind f ≠ 0) : kd4 (cmK o kind f) := by
  have k1 : ∀ w a b : Int32, kd4 a → kd4 b → kOf w a b ≠ 0 → kd4 (kOf w a b) := fun w a b ha hb hn => by
    unfold kOf at hn ⊢
    by_cases e : w = 0
    · rw [if_pos e] at hn
      exact absurd rfl hn
    · rw [if_neg e]
      by_cases e2 : w = 1
      · rw [if_pos e2]; exact ha
      · rw [if_neg e2]; exact hb
  have k2 : ∀ (c : Prop) [Decidable c] (a : Int32), kd4 a → (if c then a else 0) ≠ 0 → kd4 (if c then a else 0) := fun c _ a ha hn => by
    by_cases e : c
    · rw [if_pos e]; exact ha
    · rw [if_neg e] at hn
      exact absurd rfl hn
  have k3 : ∀ (c : Prop) [Decidable c] (a : Int32), kd4 a → (if c then 0 else a) ≠ 0 → kd4 (if c then 0 else a) := fun c _ a ha hn => by
    by_cases e : c
    · rw [if_pos e] at hn
      exact absurd rfl hn
    · rw [if_neg e]; exact ha
  unfold cmK at h ⊢
  by_cases e4 : kind = 4
  · rw [if_pos e4] at h ⊢
    exact k3 _ _ (Or.inl rfl) h
  · rw [if_neg e4] at h ⊢
    unfold whyK at h ⊢
    split at h
    · exact k1 _ _ _ (Or.inl rfl) (Or.inr (Or.inr (Or.inl rfl))) h
    · exact k1 _ _ _ (Or.inl rfl) (Or.inr (Or.inr (Or.inl rfl))) h
    · exact k2 _ _ (Or.inr (Or.inl rfl)) h
    · exact k2 _ _ (Or.inr (Or.inl rfl)) h
    · exact k1 _ _ _ (Or.inr (Or.inl rfl)) (Or.inr (Or.inr (Or.inr rfl))) h
    · exact k1 _ _ _ (Or.inr (Or.inl rfl)) (Or.inl rfl) h
    · exact k3 _ _ (Or.inl rfl) h
    · exact absurd rfl h
/-- a copy that has been changed is an office beside the others -/
theorem OfK.fresh {b n sb : Nat} {o : Of} {G3 : g_G} {w : List Int32} (hB : g_B E ≤ n) (h2 : KOk K G) (wf : g_wf G) (h8 : SbAt E (g_B E) G sb w) (hn : n = G.2.1) (hs : ∀ y, G.1 sb = some y → G3.1 sb = some y) (hO : OffAt E (fun q => Oc K G sb q ∨ G.2.1 ≤ q) n G3 b o) : OfK E K G3 sb b o := OffAt.tr hO hB fun q y hq hy hi => by
  refine ⟨hy, ?_⟩
  rcases hq with ⟨k1, -, k3⟩ | hq
  · exact ⟨k1, ⟨y, hy, hi⟩, fun e => k3 (h8.back hs e)⟩
  · exact ⟨h2.new wf q hq, ⟨y, hy, hi⟩, fun e => by
      have := h8.ar_lt wf (h8.back hs e)
      omega⟩
theorem OfK.wide {a sb : Nat} {o : Of} (h : OfK E K G sb a o) : OffAt E (fun q => Oc K G sb q ∨ G.2.1 ≤ q) (g_B E) G a o := OffAt.tr h (Nat.le_refl _) fun q y hq hy _ => ⟨hy, Or.inl hq⟩
theorem cx_change {x wa ar n kind : Nat} {w0 : List Int32} {h0 z : Int32} {f : Nat → Int32} {S : St} (hk9 : kind < 9) (h : CX E K G x S) (hw : StrR E G wa w0 h0 z) (hw0 : w0 = cmW kind) (hh0 : h0 = hsh (cmW kind)) (har : G.1 ar = some (g_ai E n f)) (hn1 : nAr kind ≤ n) (hn2 : n ≤ 5) (ha : AppOK S.1) (hch : kind = 4 → ((f 0).toUInt32 % 65536).toInt32 = f 0) (hf : g_fit E G 2150 8750) (kt : cmK S.1 kind f = 0 → ∀ G', g_mod (frK K) G G' 2150 8750 → CX E K G' x (sPush S (doO S.1 kind (f 0) (f 1) (f 2) (f 3) (f 4))) → P (.returned (some (.int (cmR S.1 kind f)))) G') (kf : cmK S.1 kind f ≠ 0 → ∀ q G', g_mod (frK K) G G' 2150 8750 → CX E K G' x S → ExAt G' q (exC (cmK S.1 kind f)) → P (.threw q) G') : g_Spc l E mX1_change 19 [.ref x, .ref wa, .ref ar] G P := by
  obtain ⟨hf1, hf2⟩ := hf
  subst hw0 hh0
  obtain ⟨a, sn, ps, sb, out, as, h⟩ := h
  obtain ⟨h1, h2, h3, h4, h5, h6, h7, h8, h9, h10⟩ := id h
  obtain ⟨s, pa, fs, al, rs, hO⟩ := h4.wide
  refine V_intro (plainFor_of_name plX1) (Nat.le_of_ble_eq_true rfl) ?_
  refine V_wf (fun wf hBG => ?_)
  refine V_aload_n dX1_change_0 rfl (Or.inl ⟨_, rfl⟩) ?_
  refine V_get ckX1 h3 0 (by decide) q324 rfl (by rfl) dX1_change_1 ?_
  refine V_callV (q := (RX2, TX2, 10)) kX2_copy q359 q360 q361 hO.2.2.2.1 rfl dX1_change_4 ?_ (d' := 7) (as := []) (hst := rfl)
  refine (off_copy hO (fun q hq => Or.inr hq) ⟨by omega, by omega⟩ (fun G1 b m1 hb1 hN => ?_))
  refine V_astore_n dX1_change_7 (Or.inl ⟨_, rfl⟩) (by decide) ?_
  refine V_aload_n dX1_change_8 rfl (Or.inl ⟨_, rfl⟩) ?_
  refine V_aload_n dX1_change_9 rfl (Or.inl ⟨_, rfl⟩) ?_
  obtain ⟨a1, a2, a3, a4, a5⟩ := m1
  have hx1 := a1 _ _ trivial h3
  refine V_wf (fun wf1 _ => ?_)
  refine V_new ckX8 q936 dX1_change_10 (by first | omega | (simp only [g_new, g_up]; omega)) (by first | omega | (simp only [g_new, g_up]; omega)) ?_
  refine V_dup dX1_change_13 rfl ?_
  refine V_aload_n dX1_change_14 rfl (Or.inl ⟨_, rfl⟩) ?_
  refine V_aload_n dX1_change_15 rfl (Or.inl ⟨_, rfl⟩) ?_
  refine V_callI kX8_init rfl rfl q938 q939 dX1_change_16 ?_ (d' := 1) (as := [_, _]) (hst := rfl)
  refine (cmm_init (g_new_at rfl) (by omega) ?_)
  rw [g_new_up rfl]
  refine V_aload_n dX1_change_19 rfl (Or.inl ⟨_, rfl⟩) ?_
  have k2 : g_ke g_all G1 (g_new G1 (g_ob 7 [.ref wa, .ref ar]) 2) := g_ke.new wf1 _ _
  have hC : CmdAt E (g_new G1 (g_ob 7 [.ref wa, .ref ar]) 2) G1.2.1 kind f := ⟨wa, ar, n, z, g_new_at rfl, (hw.keep a1).keep k2, k2 _ _ trivial (a1 _ _ trivial har), hn1, hn2⟩
  obtain ⟨s2, pa2, fs2, al2, rs2, hN2⟩ := hN.keep (k2.mono fun _ _ => trivial)
  have kL : ∀ {G3 : g_G} {c s : Nat}, g_mod (fun q => q < G.2.1) (g_new G1 (g_ob 7 [.ref wa, .ref ar]) 2) G3 c s → g_ke g_all G G3 := fun m => g_ke.low wf fun q y hq hy => m.1 q y hq (k2 q y trivial (a1 q y trivial hy))
  refine V_callV (q := (RX8, TX8, 2)) kX8_applyTo q949 q950 q951 (g_new_at rfl) rfl dX1_change_20 ?_ (d' := 18) (as := [_]) (hst := rfl)
  refine (cmd_apply hk9 hC hN2 hBG (by simp only [g_new]; omega) (fun q hq => Or.inr (by simp only [g_new] at hq; omega)) ha hch ⟨by simp only [g_new]; omega, by simp only [g_new]; omega⟩ (fun hk G3 m3 hO3 => ?_) (fun hk q G3 m3 hcf => ?_))
  · have kA := kL m3
    obtain ⟨b1, b2, b3, b4, b5⟩ := m3
    simp only [g_new] at b2 b3 b4 b5
    have hb : OfK E K G3 sb b _ := OfK.fresh hBG h2 wf h8 rfl (fun y hy => kA _ _ trivial hy) hO3
    refine V_callV (q := (RX1, TX1, 8)) kX1_commit q1517 q1519 qs19 (by first | assumption | (repeat (first | exact g_up_at | exact g_new_at rfl | assumption | refine g_up_of (by first | assumption | (simp only [g_new, g_up]; omega) | omega) ?_ | refine g_new_of (by first | assumption | (simp only [g_new, g_up]; omega) | omega) ?_))) rfl dX1_change_23 ?_ (d' := 5) (as := [_, _]) (hst := rfl)
    refine (cx_commit (h.all wf kA) hb ⟨by omega, by omega⟩ (fun G4 m4 hX => ?_))
    refine V_ireturn dX1_change_26 rfl ?_
    obtain ⟨c1, c2, c3, c4, c5⟩ := m4
    exact kt hk G4 ⟨(kA.mono fun _ _ => trivial).trans c1, by omega, by omega, by omega, by omega⟩ hX
  · have kA := kL m3
    obtain ⟨b1, b2, b3, b4, b5⟩ := m3
    simp only [g_new] at b2 b3 b4 b5
    obtain ⟨v1, v2, v3, v4, v5, v6, hcc⟩ := id hcf
    refine VX_catch (r := (RX10, TX10, 7)) hcc rfl [] (8, 26, 27, 1) [] rfl (fun z hz => by cases hz) rfl (Or.inr ⟨by decide, _, q358, Or.inr rfl⟩) ?_
    refine V_astore dX1_change_27 (Or.inl ⟨_, rfl⟩) (by decide) ?_
    refine V_aload dX1_change_29 rfl (Or.inl ⟨_, rfl⟩) ?_
    refine V_callV (q := (RX10, TX10, 7)) kX10_asPublicException q1540 q1541 q1542 hcc rfl dX1_change_31 ?_ (d' := 7) (as := []) (hst := rfl)
    refine (cf_public hcf (kd4_why hk) ⟨by omega, by omega⟩ (fun q' G4 m4 hE => ?_))
    refine V_athrow dX1_change_34 ?_
    obtain ⟨c1, c2, c3, c4, c5⟩ := m4
    have kB : g_ke g_all G G4 := kA.trans c1
    exact VX_out (ci := 0) (fs := []) rfl (kf hk q' G4 ⟨kB.mono fun _ _ => trivial, by omega, by omega, by omega, by omega⟩ ⟨a, sn, ps, sb, out, as, h.all wf kB⟩ hE)
end CHANGE
