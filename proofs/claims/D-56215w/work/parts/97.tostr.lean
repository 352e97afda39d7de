/-! MODULE toString of Tint, Found, Report -/
set_option maxRecDepth 100000
theorem nn_of {x : Int32} (h : ¬ x < 0) : ∃ m, m < 2 ^ 31 ∧ x = nI m := by
  have h1 := g_nn h
  have h2 := x.toInt_lt
  refine ⟨x.toNatClampNeg, by omega, ?_⟩
  apply Int32.toInt_inj.mp
  rw [nI_toInt (by omega), h1]
theorem allC {L : List Int32} (h : L.all (fun c => decide (0 ≤ c) && decide (c < 128)) = true) : ∀ c ∈ L, isC c := fun c hc => by
  have h1 := List.all_eq_true.mp h c hc
  rw [Bool.and_eq_true] at h1
  have h2 := Int32.le_iff_toInt_le.mp (of_decide_eq_true h1.1)
  have h3 := Int32.lt_iff_toInt_lt.mp (of_decide_eq_true h1.2)
  have h2 : 0 ≤ c.toInt := h2
  have h3 : c.toInt < 128 := h3
  refine ⟨c.toInt.toNat, by omega, ?_⟩
  apply Int32.toInt_inj.mp
  rw [nI_toInt (by omega)]
  omega
section TOSTR
variable {l : Launch} {E : g_E} {P : Outcome → g_G → Prop} {G G0 : g_G}
/-- a StringBuilder made since G0 -/
def SbF (E : g_E) (G0 G : g_G) (a : Nat) (w : List Int32) (c s : Nat) : Prop := G0.2.1 ≤ a ∧ g_wf G0 ∧ g_B E ≤ G0.2.1 ∧ SbAt E G0.2.1 G a w ∧ g_mod g_all G0 G c s ∧ ∀ z, SbAr G a z → G0.2.1 ≤ z
theorem SbF.ke {a c s : Nat} {w : List Int32} (H : SbF E G0 G a w c s) : g_ke g_all G0 G := H.2.2.2.2.1.1
theorem SbF.next {a c s c1 s1 : Nat} {w w' : List Int32} {G' : g_G} (H : SbF E G0 G a w c s) (m : g_mod (fun z => z ≠ a ∧ ¬ SbAr G a z) G G' c1 s1) (h : ∀ z, SbAr G' a z → SbAr G a z ∨ G.2.1 ≤ z) (hw : SbAt E G0.2.1 G' a w') : SbF E G0 G' a w' (c + c1) (s + s1) := by
  obtain ⟨h1, h2, h3, h4, ⟨m1, m2, m3, m4, m5⟩, h6⟩ := H
  obtain ⟨n1, n2, n3, n4, n5⟩ := m
  refine ⟨h1, h2, h3, hw, ⟨fun z x _ hx => ?_, by omega, by omega, by omega, by omega⟩, fun z hz => (h z hz).elim (h6 z) (fun q => by omega)⟩
  have hz := h2 _ _ hx
  exact n1 z x ⟨by omega, fun q => by have := h6 z q; omega⟩ (m1 z x trivial hx)
theorem sbf_init (wf0 : g_wf G0) (hB0 : g_B E ≤ G0.2.1) (hf : g_fit E G0 2 20) (kk : ∀ G', SbF E G0 G' G0.2.1 [] 2 20 → P (.returned none) G') : g_Spc l E mJ6_init 2 [.ref G0.2.1] (g_new G0 (g_ob 21 [.null, .int 0, .int 0, .int 0]) 4) P := by
  obtain ⟨hf1, hf2⟩ := hf
  have S := @sb_init l E P (g_new G0 (g_ob 21 [.null, .int 0, .int 0, .int 0]) 4) G0.2.1 (g_new_at rfl) hB0 ⟨by simp only [g_new]; omega, by simp only [g_new]; omega⟩
  refine S (fun G' m h => ?_)
  obtain ⟨m1, m2, m3, m4, m5⟩ := m
  simp only [g_new] at m2 m3 m4 m5
  have hw := h G0.2.1 (Nat.le_refl _) (by simp only [g_new]; omega)
  refine kk G' ⟨Nat.le_refl _, wf0, hB0, hw, ⟨fun z x _ hx => ?_, by omega, by omega, by omega, by omega⟩, fun z hz => ?_⟩
  · have hz := wf0 _ _ hx
    exact m1 z x (by omega) (g_new_of (by omega) hx)
  · obtain ⟨ml, cap, f, ⟨a1, ar, a2, a3, -⟩, -⟩ := hw
    obtain ⟨_, _, _, hz⟩ := hz
    rw [a3] at hz
    cases hz
    exact a2
theorem sbf_C {a c s : Nat} {w : List Int32} {x : Int32} (H : SbF E G0 G a w c s) (hx : isC x) (hl : w.length ≤ 140) (hf : g_fit E G0 (c + 1) (s + 310)) (kk : ∀ G', SbF E G0 G' a (w ++ [x]) (c + 1) (s + 310) → P (.returned (some (.ref a))) G') : g_Spc l E mJ6_append_3 5 [.ref a, .int x] G P := by
  obtain ⟨hf1, hf2⟩ := hf
  have hm := H.2.2.2.2.1
  obtain ⟨m1, m2, m3, m4, m5⟩ := hm
  exact sb_appendC H.2.2.2.1 H.2.2.1 m2 hx hl ⟨by omega, by omega⟩ (fun G' m h hw => kk G' (H.next m h hw))
theorem sbf_S {a b c s : Nat} {w u : List Int32} {h z : Int32} (H : SbF E G0 G a w c s) (K : StrR E G b u h z) (hu : ∀ c ∈ u, isC c) (hl : w.length + u.length ≤ 150) (hf : g_fit E G0 (c + 1) (s + 310)) (kk : ∀ G', SbF E G0 G' a (w ++ u) (c + 1) (s + 310) → P (.returned (some (.ref a))) G') : g_Spc l E mJ6_append 5 [.ref a, .ref b] G P := by
  obtain ⟨hf1, hf2⟩ := hf
  have hm := H.2.2.2.2.1
  obtain ⟨m1, m2, m3, m4, m5⟩ := hm
  exact sb_appendS H.2.2.2.1 K hu H.2.2.1 m2 hl ⟨by omega, by omega⟩ (fun G' m h hw => kk G' (H.next m h hw))
theorem sbf_I {a c s : Nat} {w : List Int32} {x : Int32} (H : SbF E G0 G a w c s) (hx : ¬ x < 0) (hl : w.length ≤ 140) (hf : g_fit E G0 (c + 1) (s + 310)) (kk : ∀ G', SbF E G0 G' a (w ++ dgs x) (c + 1) (s + 310) → P (.returned (some (.ref a))) G') : g_Spc l E mJ6_append_2 5 [.ref a, .int x] G P := by
  obtain ⟨hf1, hf2⟩ := hf
  have hm := H.2.2.2.2.1
  obtain ⟨m1, m2, m3, m4, m5⟩ := hm
  obtain ⟨m, hm, he⟩ := nn_of hx
  exact sb_appendI H.2.2.2.1 he hm H.2.2.1 m2 hl ⟨by omega, by omega⟩ (fun G' m h hw => kk G' (H.next m h hw))
theorem sbf_str {a c s : Nat} {w : List Int32} (H : SbF E G0 G a w c s) (hf : g_fit E G0 (c + 2) (s + 314)) (kk : ∀ G' q, g_mod g_all G0 G' (c + 2) (s + 314) → StrN E G' q w → (∀ x ∈ w, isC x) → G0.2.1 ≤ q → P (.returned (some (.ref q))) G') : g_Spc l E mJ6_toString 5 [.ref a] G P := by
  obtain ⟨hf1, hf2⟩ := hf
  have hm := H.2.2.2.2.1
  obtain ⟨m1, m2, m3, m4, m5⟩ := id hm
  exact sb_toString H.2.2.2.1 ⟨by omega, by omega⟩ (fun G' m hw => kk G' _ (hm.trans m) hw H.2.2.2.1.isC m2)
theorem SbF.cell {a c s : Nat} {w : List Int32} (H : SbF E G0 G a w c s) : ∃ (ar : Nat) (ml : Int32), G.1 a = some (g_ob 21 [.ref ar, .int 0, .int ml, .int (nI w.length)]) := H.2.2.2.1.cell
def TnP (t : Tn) : Prop := ¬ t.1 < 0 ∧ ¬ t.2.1 < 0 ∧ ¬ t.2.2 < 0
theorem tint_toString {A : Nat → Prop} {a : Nat} {t : Tn} (h : TintAt E A G a t) (hp : TnP t) (hf : g_fit E G 9 1900) (kk : ∀ G' q, g_mod g_all G G' 9 1900 → StrN E G' q (tnS t) → (∀ x ∈ tnS t, isC x) → G.2.1 ≤ q → P (.returned (some (.ref q))) G') : g_Spc l E mX11_toString 6 [.ref a] G P := by
  obtain ⟨p1, p2, p3⟩ := hp
  obtain ⟨hf1, hf2⟩ := hf
  have l1 := dgs_len (x := t.1)
  have l2 := dgs_len (x := t.2.1)
  have h9 := h
  obtain ⟨-, pa, f, -, h1, h2, h3⟩ := h
  have e0 : f (0 : Int32).toNatClampNeg = t.1 := h3 0 (by decide)
  have e1 : f (1 : Int32).toNatClampNeg = t.2.1 := h3 1 (by decide)
  have e2 : f (2 : Int32).toNatClampNeg = t.2.2 := h3 2 (by decide)
  refine V_intro (plainFor_of_name plX11) (Nat.le_of_ble_eq_true rfl) ?_
  refine V_wf (fun wf hBG => ?_)
  refine V_new ckJ6 q2184 dX11_toString_0 (by first | omega | (simp only [g_new, g_up]; omega)) (by first | omega | (simp only [g_new, g_up]; omega)) ?_
  refine V_dup dX11_toString_3 rfl ?_
  refine V_callI kJ6_init rfl rfl q2185 q293 dX11_toString_4 ?_ (d' := 2) (as := []) (hst := rfl)
  refine (sbf_init wf hBG ⟨by omega, by omega⟩ (fun G1 H1 => ?_))
  refine V_aload_n dX11_toString_7 rfl (Or.inl ⟨_, rfl⟩) ?_
  refine V_get ckX11 (H1.ke _ _ trivial h1) 0 (by decide) q1083 rfl (by rfl) dX11_toString_8 ?_
  refine V_iconstv 0 dX11_toString_11 (by decide) ?_
  refine V_iaload (H1.ke _ _ trivial h2) (by first | assumption | exact g_in (by decide)) q388 dX11_toString_12 ?_
  rw [e0]
  obtain ⟨ar1, ml1, x1⟩ := H1.cell
  refine V_callV (q := (RJ6, TJ6, 4)) kJ6_append_2 q2186 q710 q711 x1 rfl dX11_toString_13 ?_ (d' := 5) (as := [_]) (hst := rfl)
  refine (sbf_I H1 p1 (by decide) ⟨by omega, by omega⟩ (fun G2 H2 => ?_))
  obtain ⟨ar2, ml2, x2⟩ := H2.cell
  refine V_sc scX11_43 q2187 dX11_toString_16 (by decide) rfl (fun hS16 => ?_)
  refine V_callV (q := (RJ6, TJ6, 4)) kJ6_append q2188 q590 q591 x2 rfl dX11_toString_18 ?_ (d' := 5) (as := [_]) (hst := rfl)
  refine (sbf_S H2 hS16 (allC (by decide +kernel)) (by simp only [List.length_append, List.length_cons, List.length_nil]; omega) ⟨by omega, by omega⟩ (fun G3 H3 => ?_))
  refine V_aload_n dX11_toString_21 rfl (Or.inl ⟨_, rfl⟩) ?_
  refine V_get ckX11 (H3.ke _ _ trivial h1) 0 (by decide) q1083 rfl (by rfl) dX11_toString_22 ?_
  refine V_iconstv 1 dX11_toString_25 (by decide) ?_
  refine V_iaload (H3.ke _ _ trivial h2) (by first | assumption | exact g_in (by decide)) q388 dX11_toString_26 ?_
  rw [e1]
  obtain ⟨ar3, ml3, x3⟩ := H3.cell
  refine V_callV (q := (RJ6, TJ6, 4)) kJ6_append_2 q2186 q710 q711 x3 rfl dX11_toString_27 ?_ (d' := 5) (as := [_]) (hst := rfl)
  refine (sbf_I H3 p2 (by simp only [List.length_append, List.length_cons, List.length_nil]; omega) ⟨by omega, by omega⟩ (fun G4 H4 => ?_))
  obtain ⟨ar4, ml4, x4⟩ := H4.cell
  refine V_sc scX11_43 q2187 dX11_toString_30 (by decide) rfl (fun hS30 => ?_)
  refine V_callV (q := (RJ6, TJ6, 4)) kJ6_append q2188 q590 q591 x4 rfl dX11_toString_32 ?_ (d' := 5) (as := [_]) (hst := rfl)
  refine (sbf_S H4 hS30 (allC (by decide +kernel)) (by simp only [List.length_append, List.length_cons, List.length_nil]; omega) ⟨by omega, by omega⟩ (fun G5 H5 => ?_))
  refine V_aload_n dX11_toString_35 rfl (Or.inl ⟨_, rfl⟩) ?_
  refine V_get ckX11 (H5.ke _ _ trivial h1) 0 (by decide) q1083 rfl (by rfl) dX11_toString_36 ?_
  refine V_iconstv 2 dX11_toString_39 (by decide) ?_
  refine V_iaload (H5.ke _ _ trivial h2) (by first | assumption | exact g_in (by decide)) q388 dX11_toString_40 ?_
  rw [e2]
  obtain ⟨ar5, ml5, x5⟩ := H5.cell
  refine V_callV (q := (RJ6, TJ6, 4)) kJ6_append_2 q2186 q710 q711 x5 rfl dX11_toString_41 ?_ (d' := 5) (as := [_]) (hst := rfl)
  refine (sbf_I H5 p3 (by simp only [List.length_append, List.length_cons, List.length_nil]; omega) ⟨by omega, by omega⟩ (fun G6 H6 => ?_))
  obtain ⟨ar6, ml6, x6⟩ := H6.cell
  refine V_callV (q := (RJ6, TJ6, 4)) kJ6_toString q2189 q736 q737 x6 rfl dX11_toString_44 ?_ (d' := 5) (as := []) (hst := rfl)
  refine (sbf_str H6 ⟨by omega, by omega⟩ (fun G7 q m hN hC hq => ?_))
  refine V_areturnO dX11_toString_47 rfl ?_
  exact kk G7 q (m.wide (fun _ _ => trivial) (by decide) (by decide)) hN hC hq
theorem fnd_toString {A : Nat → Prop} {n a : Nat} {r : Rw} (h : FndAt E A n G a r) (hp : TnP r.2.1) (p1 : ¬ r.1 < 0) (p2 : ¬ r.2.2.1 < 0) (p3 : ¬ r.2.2.2 < 0) (hf : g_fit E G 30 6000) (kk : ∀ G' q w, w = dgs r.1 ++ [35] ++ tnS r.2.1 ++ [102] ++ dgs r.2.2.1 ++ [100] ++ dgs r.2.2.2 ++ (if isGr r then [103] else []) → g_mod g_all G G' 30 6000 → StrN E G' q w → (∀ x ∈ w, isC x) → G.2.1 ≤ q → P (.returned (some (.ref q))) G') : g_Spc l E mX7_toString 7 [.ref a] G P := by
  obtain ⟨hf1, hf2⟩ := hf
  have l1 := dgs_len (x := r.1)
  have l2 := dgs_len (x := r.2.2.1)
  have l3 := dgs_len (x := r.2.2.2)
  have l4 := tnS_len (t := r.2.1)
  obtain ⟨-, -, ta, hc, ht⟩ := h
  obtain ⟨pt, hpt⟩ := ht.obj
  refine V_intro (plainFor_of_name plX7) (Nat.le_of_ble_eq_true rfl) ?_
  refine V_wf (fun wf hBG => ?_)
  refine V_new ckJ6 q2175 dX7_toString_0 (by first | omega | (simp only [g_new, g_up]; omega)) (by first | omega | (simp only [g_new, g_up]; omega)) ?_
  refine V_dup dX7_toString_3 rfl ?_
  refine V_callI kJ6_init rfl rfl q2176 q293 dX7_toString_4 ?_ (d' := 2) (as := []) (hst := rfl)
  refine (sbf_init wf hBG ⟨by omega, by omega⟩ (fun G1 H1 => ?_))
  obtain ⟨ar1, ml1, x1⟩ := H1.cell
  refine V_aload_n dX7_toString_7 rfl (Or.inl ⟨_, rfl⟩) ?_
  refine V_get ckX7 (H1.ke _ _ trivial hc) 0 (by decide) q495 rfl (by rfl) dX7_toString_8 ?_
  refine V_callV (q := (RJ6, TJ6, 4)) kJ6_append_2 q2177 q710 q711 x1 rfl dX7_toString_11 ?_ (d' := 5) (as := [_]) (hst := rfl)
  refine (sbf_I H1 p1 (by decide) ⟨by omega, by omega⟩ (fun G2 H2 => ?_))
  obtain ⟨ar2, ml2, x2⟩ := H2.cell
  refine V_sc scX7_47 q2178 dX7_toString_14 (by decide) rfl (fun hS14 => ?_)
  refine V_callV (q := (RJ6, TJ6, 4)) kJ6_append q2179 q590 q591 x2 rfl dX7_toString_16 ?_ (d' := 5) (as := [_]) (hst := rfl)
  refine (sbf_S H2 hS14 (allC (by decide +kernel)) (by simp only [List.length_append, List.length_cons, List.length_nil]; omega) ⟨by omega, by omega⟩ (fun G3 H3 => ?_))
  obtain ⟨ar3, ml3, x3⟩ := H3.cell
  have hke3 := H3.ke
  obtain ⟨m31, m32, m33, m34, m35⟩ := H3.2.2.2.2.1
  refine V_aload_n dX7_toString_19 rfl (Or.inl ⟨_, rfl⟩) ?_
  refine V_get ckX7 (hke3 _ _ trivial hc) 2 (by decide) q506 rfl (by rfl) dX7_toString_20 ?_
  refine V_callV (q := (RX11, TX11, 1)) kX11_toString q2180 q2181 q2182 (hke3 _ _ trivial hpt) rfl dX7_toString_23 ?_ (d' := 6) (as := []) (hst := rfl)
  refine (tint_toString (ht.keep (hke3.mono fun _ _ => trivial)) hp ⟨by omega, by omega⟩ (fun G4 qs m4 hN4 hC4 hq4 => ?_))
  have H5 := H3.next (G' := G4) (w' := [] ++ dgs r.1 ++ [35]) ⟨fun z x _ hx => m4.1 z x trivial hx, m4.2⟩ (fun z hz => by
    obtain ⟨c9, k9, n9, hz⟩ := hz
    have := m4.1 _ _ trivial x3
    rw [this] at hz
    cases hz
    exact Or.inl ⟨_, _, _, x3⟩) (H3.2.2.2.1.ke2 m4.1 trivial (fun _ _ => trivial))
  obtain ⟨ar5, ml5, x5⟩ := H5.cell
  refine V_callV (q := (RJ6, TJ6, 4)) kJ6_append q2179 q590 q591 x5 rfl dX7_toString_26 ?_ (d' := 5) (as := [_]) (hst := rfl)
  refine (sbf_S H5 hN4.R hC4 (by simp only [List.length_append, List.length_cons, List.length_nil]; omega) ⟨by omega, by omega⟩ (fun G6 H6 => ?_))
  obtain ⟨ar6, ml6, x6⟩ := H6.cell
  refine V_sc scX7_56 q2190 dX7_toString_29 (by decide) rfl (fun hS29 => ?_)
  refine V_callV (q := (RJ6, TJ6, 4)) kJ6_append q2179 q590 q591 x6 rfl dX7_toString_31 ?_ (d' := 5) (as := [_]) (hst := rfl)
  refine (sbf_S H6 hS29 (allC (by decide +kernel)) (by simp only [List.length_append, List.length_cons, List.length_nil]; omega) ⟨by omega, by omega⟩ (fun G7 H7 => ?_))
  obtain ⟨ar7, ml7, x7⟩ := H7.cell
  refine V_aload_n dX7_toString_34 rfl (Or.inl ⟨_, rfl⟩) ?_
  refine V_get ckX7 (H7.ke _ _ trivial hc) 1 (by decide) q500 rfl (by rfl) dX7_toString_35 ?_
  refine V_callV (q := (RJ6, TJ6, 4)) kJ6_append_2 q2177 q710 q711 x7 rfl dX7_toString_38 ?_ (d' := 5) (as := [_]) (hst := rfl)
  refine (sbf_I H7 p2 (by simp only [List.length_append, List.length_cons, List.length_nil]; omega) ⟨by omega, by omega⟩ (fun G8 H8 => ?_))
  obtain ⟨ar8, ml8, x8⟩ := H8.cell
  refine V_sc scX7_58 q2191 dX7_toString_41 (by decide) rfl (fun hS41 => ?_)
  refine V_callV (q := (RJ6, TJ6, 4)) kJ6_append q2179 q590 q591 x8 rfl dX7_toString_43 ?_ (d' := 5) (as := [_]) (hst := rfl)
  refine (sbf_S H8 hS41 (allC (by decide +kernel)) (by simp only [List.length_append, List.length_cons, List.length_nil]; omega) ⟨by omega, by omega⟩ (fun G9 H9 => ?_))
  obtain ⟨ar9, ml9, x9⟩ := H9.cell
  refine V_aload_n dX7_toString_46 rfl (Or.inl ⟨_, rfl⟩) ?_
  refine V_get ckX7 (H9.ke _ _ trivial hc) 3 (by decide) q510 rfl (by rfl) dX7_toString_47 ?_
  refine V_callV (q := (RJ6, TJ6, 4)) kJ6_append_2 q2177 q710 q711 x9 rfl dX7_toString_50 ?_ (d' := 5) (as := [_]) (hst := rfl)
  refine (sbf_I H9 p3 (by simp only [List.length_append, List.length_cons, List.length_nil]; omega) ⟨by omega, by omega⟩ (fun Ga Ha => ?_))
  obtain ⟨ara, mla, xa⟩ := Ha.cell
  have hta := ht.keep (Ha.ke.mono fun _ _ => trivial)
  refine V_aload_n dX7_toString_53 rfl (Or.inl ⟨_, rfl⟩) ?_
  refine V_get ckX7 (Ha.ke _ _ trivial hc) 2 (by decide) q506 rfl (by rfl) dX7_toString_54 ?_
  refine V_callV (q := (RX11, TX11, 1)) kX11_isGrey q1496 q1497 q1498 (Ha.ke _ _ trivial hpt) rfl dX7_toString_57 ?_ (d' := 0) (as := []) (hst := rfl)
  refine (tint_isGrey hta ?_)
  have fin : ∀ (u : List Int32) (hh zz : Int32) (b : Nat), StrR E Ga b u hh zz → (∀ c ∈ u, isC c) → u.length ≤ 1 → u = (if isGr r then [103] else []) → V l E mX7_toString 7 P 70 (lv_args 0 [.ref a]) [.ref b, .ref G.2.1] Ga := by
    intro u hh zz b K hu hul eu
    refine V_callV (q := (RJ6, TJ6, 4)) kJ6_append q2179 q590 q591 xa rfl dX7_toString_70 ?_ (d' := 5) (as := [_]) (hst := rfl)
    refine (sbf_S Ha K hu (by simp only [List.length_append, List.length_cons, List.length_nil]; omega) ⟨by omega, by omega⟩ (fun Gb Hb => ?_))
    obtain ⟨arb, mlb, xb⟩ := Hb.cell
    refine V_callV (q := (RJ6, TJ6, 4)) kJ6_toString q2194 q736 q737 xb rfl dX7_toString_73 ?_ (d' := 5) (as := []) (hst := rfl)
    refine (sbf_str Hb ⟨by omega, by omega⟩ (fun Gc q m hN hC hq => ?_))
    refine V_areturnO dX7_toString_76 rfl ?_
    exact kk Gc q _ (by rw [eu]; rfl) (m.wide (fun _ _ => trivial) (by decide) (by decide)) hN hC hq
  cases hg : decide (r.2.1 = (50, 50, 50)) with
  | true =>
    refine V_if_eq 68 dX7_toString_60 (by decide) (fun c60 => absurd c60 (by decide)) (fun _ => ?_)
    refine V_sc scX7_60 q2192 dX7_toString_63 (by decide) rfl (fun hS63 => ?_)
    refine V_goto 70 dX7_toString_65 (by decide) ?_
    exact V_subk (fin _ _ _ _ hS63 (allC (by decide +kernel)) (Nat.le_refl _) (by unfold isGr; rw [hg]; rfl)) ⟨rfl, trivial⟩
  | false =>
    refine V_if_eq 68 dX7_toString_60 (by decide) (fun _ => ?_) (fun c60 => absurd rfl c60)
    refine V_sc scX7_62 q2193 dX7_toString_68 (by decide) rfl (fun hS68 => ?_)
    exact V_subk (fin _ _ _ _ hS68 (allC (by decide +kernel)) (Nat.zero_le _) (by unfold isGr; rw [hg]; rfl)) ⟨rfl, trivial⟩
theorem rpt_toString {A : Nat → Prop} {a : Nat} {r : Rw} (h : RptAt E A G a r) (hp : TnP r.2.1) (p1 : ¬ r.1 < 0) (p2 : ¬ r.2.2.1 < 0) (p3 : ¬ r.2.2.2 < 0) (hf : g_fit E G 30 6000) (kk : ∀ G' q, g_mod g_all G G' 30 6000 → StrN E G' q (rnR r) → (∀ x ∈ rnR r, isC x) → G.2.1 ≤ q → P (.returned (some (.ref q))) G') : g_Spc l E mX12_toString 7 [.ref a] G P := by
  obtain ⟨hf1, hf2⟩ := hf
  have l1 := dgs_len (x := r.1)
  have l2 := dgs_len (x := r.2.2.1)
  have l3 := dgs_len (x := r.2.2.2)
  have l4 := tnS_len (t := r.2.1)
  obtain ⟨-, ta, hc, ht⟩ := h
  obtain ⟨pt, hpt⟩ := ht.obj
  refine V_intro (plainFor_of_name plX12) (Nat.le_of_ble_eq_true rfl) ?_
  refine V_wf (fun wf hBG => ?_)
  refine V_new ckJ6 q2211 dX12_toString_0 (by first | omega | (simp only [g_new, g_up]; omega)) (by first | omega | (simp only [g_new, g_up]; omega)) ?_
  refine V_dup dX12_toString_3 rfl ?_
  refine V_callI kJ6_init rfl rfl q2212 q293 dX12_toString_4 ?_ (d' := 2) (as := []) (hst := rfl)
  refine (sbf_init wf hBG ⟨by omega, by omega⟩ (fun G1 H1 => ?_))
  obtain ⟨ar1, ml1, x1⟩ := H1.cell
  refine V_aload_n dX12_toString_7 rfl (Or.inl ⟨_, rfl⟩) ?_
  refine V_get ckX12 (H1.ke _ _ trivial hc) 0 (by decide) q1111 rfl (by rfl) dX12_toString_8 ?_
  refine V_callV (q := (RJ6, TJ6, 4)) kJ6_append_2 q2213 q710 q711 x1 rfl dX12_toString_11 ?_ (d' := 5) (as := [_]) (hst := rfl)
  refine (sbf_I H1 p1 (by decide) ⟨by omega, by omega⟩ (fun G2 H2 => ?_))
  obtain ⟨ar2, ml2, x2⟩ := H2.cell
  refine V_sc scX12_30 q2214 dX12_toString_14 (by decide) rfl (fun hS14 => ?_)
  refine V_callV (q := (RJ6, TJ6, 4)) kJ6_append q2215 q590 q591 x2 rfl dX12_toString_16 ?_ (d' := 5) (as := [_]) (hst := rfl)
  refine (sbf_S H2 hS14 (allC (by decide +kernel)) (by simp only [List.length_append, List.length_cons, List.length_nil]; omega) ⟨by omega, by omega⟩ (fun G3 H3 => ?_))
  obtain ⟨ar3, ml3, x3⟩ := H3.cell
  have hke3 := H3.ke
  obtain ⟨m31, m32, m33, m34, m35⟩ := H3.2.2.2.2.1
  refine V_aload_n dX12_toString_19 rfl (Or.inl ⟨_, rfl⟩) ?_
  refine V_get ckX12 (hke3 _ _ trivial hc) 1 (by decide) q1114 rfl (by rfl) dX12_toString_20 ?_
  refine V_callV (q := (RX11, TX11, 1)) kX11_toString q2216 q2181 q2182 (hke3 _ _ trivial hpt) rfl dX12_toString_23 ?_ (d' := 6) (as := []) (hst := rfl)
  refine (tint_toString (ht.keep (hke3.mono fun _ _ => trivial)) hp ⟨by omega, by omega⟩ (fun G4 qs m4 hN4 hC4 hq4 => ?_))
  have H5 := H3.next (G' := G4) (w' := [] ++ dgs r.1 ++ [63]) ⟨fun z x _ hx => m4.1 z x trivial hx, m4.2⟩ (fun z hz => by
    obtain ⟨c9, k9, n9, hz⟩ := hz
    have := m4.1 _ _ trivial x3
    rw [this] at hz
    cases hz
    exact Or.inl ⟨_, _, _, x3⟩) (H3.2.2.2.1.ke2 m4.1 trivial (fun _ _ => trivial))
  obtain ⟨ar5, ml5, x5⟩ := H5.cell
  refine V_callV (q := (RJ6, TJ6, 4)) kJ6_append q2215 q590 q591 x5 rfl dX12_toString_26 ?_ (d' := 5) (as := [_]) (hst := rfl)
  refine (sbf_S H5 hN4.R hC4 (by simp only [List.length_append, List.length_cons, List.length_nil]; omega) ⟨by omega, by omega⟩ (fun G6 H6 => ?_))
  obtain ⟨ar6, ml6, x6⟩ := H6.cell
  refine V_sc scX12_41 q2217 dX12_toString_29 (by decide) rfl (fun hS29 => ?_)
  refine V_callV (q := (RJ6, TJ6, 4)) kJ6_append q2215 q590 q591 x6 rfl dX12_toString_31 ?_ (d' := 5) (as := [_]) (hst := rfl)
  refine (sbf_S H6 hS29 (allC (by decide +kernel)) (by simp only [List.length_append, List.length_cons, List.length_nil]; omega) ⟨by omega, by omega⟩ (fun G7 H7 => ?_))
  obtain ⟨ar7, ml7, x7⟩ := H7.cell
  refine V_aload_n dX12_toString_34 rfl (Or.inl ⟨_, rfl⟩) ?_
  refine V_get ckX12 (H7.ke _ _ trivial hc) 2 (by decide) q1118 rfl (by rfl) dX12_toString_35 ?_
  refine V_callV (q := (RJ6, TJ6, 4)) kJ6_append_2 q2213 q710 q711 x7 rfl dX12_toString_38 ?_ (d' := 5) (as := [_]) (hst := rfl)
  refine (sbf_I H7 p2 (by simp only [List.length_append, List.length_cons, List.length_nil]; omega) ⟨by omega, by omega⟩ (fun G8 H8 => ?_))
  obtain ⟨ar8, ml8, x8⟩ := H8.cell
  refine V_sc scX12_43 q2218 dX12_toString_41 (by decide) rfl (fun hS41 => ?_)
  refine V_callV (q := (RJ6, TJ6, 4)) kJ6_append q2215 q590 q591 x8 rfl dX12_toString_43 ?_ (d' := 5) (as := [_]) (hst := rfl)
  refine (sbf_S H8 hS41 (allC (by decide +kernel)) (by simp only [List.length_append, List.length_cons, List.length_nil]; omega) ⟨by omega, by omega⟩ (fun G9 H9 => ?_))
  obtain ⟨ar9, ml9, x9⟩ := H9.cell
  refine V_aload_n dX12_toString_46 rfl (Or.inl ⟨_, rfl⟩) ?_
  refine V_get ckX12 (H9.ke _ _ trivial hc) 3 (by decide) q1122 rfl (by rfl) dX12_toString_47 ?_
  refine V_callV (q := (RJ6, TJ6, 4)) kJ6_append_2 q2213 q710 q711 x9 rfl dX12_toString_50 ?_ (d' := 5) (as := [_]) (hst := rfl)
  refine (sbf_I H9 p3 (by simp only [List.length_append, List.length_cons, List.length_nil]; omega) ⟨by omega, by omega⟩ (fun Ga Ha => ?_))
  obtain ⟨ara, mla, xa⟩ := Ha.cell
  refine V_callV (q := (RJ6, TJ6, 4)) kJ6_toString q2219 q736 q737 xa rfl dX12_toString_53 ?_ (d' := 5) (as := []) (hst := rfl)
  refine (sbf_str Ha ⟨by omega, by omega⟩ (fun Gc q m hN hC hq => ?_))
  refine V_areturnO dX12_toString_56 rfl ?_
  exact kk Gc q (m.wide (fun _ _ => trivial) (by decide) (by decide)) hN hC hq
end TOSTR
