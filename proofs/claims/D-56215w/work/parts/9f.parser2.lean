/-! MODULE Parser: colour, metric, word -/
set_option maxRecDepth 100000
/-- the words of the parser -/
def WRD : List Int32 := [32, 102, 105, 110, 100, 32, 114, 101, 112, 111, 114, 116, 32, 100, 114, 111, 112, 32, 100, 105, 115, 99, 97, 114, 100, 32, 109, 101, 116, 114, 105, 99, 32, 114, 101, 116, 117, 114, 110, 32, 115, 101, 116, 116, 108, 101, 32, 109, 105, 120, 32, 100, 97, 121, 32]
def seg (L : List Int32) (i k : Nat) : List Int32 := (L.drop i).take k
def isL (c : Int32) : Bool := isb c 97 122
/-- the word at i, k characters in: where it ends, whether it's wrong -/
def wkC (L : List Int32) (i : Nat) : Nat → Nat → Nat × Bool
  | 0, k => (k, true)
  | f + 1, k => if isL (curC L (i + k)) = true then (if hasS (32 :: seg L i k ++ [curC L (i + k)]) WRD = true then wkC L i f (k + 1) else (k, true)) else (k, !(decide (0 < k) && hasS (32 :: seg L i k ++ [32]) WRD))
theorem wkC_s {L : List Int32} {i f k : Nat} : wkC L i (f + 1) k = if isL (curC L (i + k)) = true then (if hasS (32 :: seg L i k ++ [curC L (i + k)]) WRD = true then wkC L i f (k + 1) else (k, true)) else (k, !(decide (0 < k) && hasS (32 :: seg L i k ++ [32]) WRD)) := rfl
theorem seg_len {L : List Int32} {i k : Nat} (h : i + k ≤ L.length) : (seg L i k).length = k := by
  unfold seg
  rw [List.length_take, List.length_drop]
  omega
theorem seg_push {L : List Int32} {i k : Nat} (h : i + k < L.length) : seg L i (k + 1) = seg L i k ++ [curC L (i + k)] := by
  obtain ⟨x, hx, -⟩ := drop_at h
  unfold seg curC
  rw [take_push (r := x) (by rw [List.getElem?_drop]; exact hx), hx]
  rfl
section PARSER2
variable {l : Launch} {E : g_E} {P : Outcome → g_G → Prop} {G G0 : g_G}
theorem SbF.same {a c s c1 s1 : Nat} {w : List Int32} {G' : g_G} (H : SbF E G0 G a w c s) (m : g_mod g_all G G' c1 s1) : SbF E G0 G' a w (c + c1) (s + s1) := by
  obtain ⟨ar, ml, x⟩ := H.cell
  exact H.next ⟨fun z y _ hy => m.1 z y trivial hy, m.2⟩ (fun z hz => by
    obtain ⟨c9, k9, n9, hz⟩ := hz
    have := m.1 _ _ trivial x
    rw [this] at hz
    cases hz
    exact Or.inl ⟨_, _, _, x⟩) (H.2.2.2.1.ke2 m.1 trivial (fun _ _ => trivial))
theorem SbAt.keep {n a : Nat} {w : List Int32} {G' : g_G} (h : SbAt E n G a w) (hk : g_ke g_all G G') : SbAt E n G' a w := h.ke2 hk trivial (fun _ _ => trivial)
theorem sb_valueOf {n b : Nat} {u : List Int32} (K : SbAt E n G b u) (hf : g_fit E G 2 314) (kk : ∀ G', g_mod g_all G G' 2 314 → StrN E G' G.2.1 u → P (.returned (some (.ref G.2.1))) G') : g_Spc l E mJ7_valueOf 6 [.ref b] G P := by
  obtain ⟨ar, ml, x⟩ := K.cell
  refine V_intro (plainFor_of_name plJ7) (Nat.le_of_ble_eq_true rfl) ?_
  refine V_aload_n dJ7_valueOf_0 rfl (Or.inl ⟨_, rfl⟩) ?_
  refine V_ifnonnull 10 dJ7_valueOf_1 (by decide) ?_
  refine V_aload_n dJ7_valueOf_10 rfl (Or.inl ⟨_, rfl⟩) ?_
  refine V_callU (q := (RJ6, TJ6, 4)) (x := ⟨"java/lang/Object", "toString", "()Ljava/lang/String;"⟩) (owner := "java/lang/Object") kJ6_toString q2352 q2354 (Or.inl q2351) ⟨by decide +kernel, by decide +kernel⟩ (by decide +kernel) q736 q2420 x rfl dJ7_valueOf_11 ?_ (d' := 5) (as := []) (hst := rfl)
  refine (sb_toString K hf (fun G' m h => ?_))
  refine V_areturnO dJ7_valueOf_14 rfl ?_
  exact kk G' m h
theorem sbf_O {a b n c s : Nat} {w u : List Int32} (H : SbF E G0 G a w c s) (K : SbAt E n G b u) (hl : w.length + u.length ≤ 150) (hf : g_fit E G0 (c + 3) (s + 624)) (kk : ∀ G', SbF E G0 G' a (w ++ u) (c + 3) (s + 624) → P (.returned (some (.ref a))) G') : g_Spc l E mJ6_append_4 7 [.ref a, .ref b] G P := by
  obtain ⟨hf1, hf2⟩ := hf
  obtain ⟨m1, m2, m3, m4, m5⟩ := id H.2.2.2.2.1
  refine V_intro (plainFor_of_name plJ6) (Nat.le_of_ble_eq_true rfl) ?_
  refine V_aload_n dJ6_append_4_0 rfl (Or.inl ⟨_, rfl⟩) ?_
  refine V_aload_n dJ6_append_4_1 rfl (Or.inl ⟨_, rfl⟩) ?_
  refine V_callS kJ7_valueOf q2347 q2348 dJ6_append_4_2 ?_ (d' := 6) (as := [_]) (hst := rfl)
  refine (sb_valueOf K ⟨by omega, by omega⟩ (fun G1 m hN => ?_))
  have H1 := H.same m
  obtain ⟨ar1, ml1, x1⟩ := H1.cell
  refine V_callV (q := (RJ6, TJ6, 4)) kJ6_append q2424 q590 q591 x1 rfl dJ6_append_4_5 ?_ (d' := 5) (as := [_]) (hst := rfl)
  refine (sbf_S H1 hN.R K.isC hl ⟨by omega, by omega⟩ (fun G2 H2 => ?_))
  refine V_areturnO dJ6_append_4_8 rfl ?_
  exact kk G2 H2
/-- what a step of the parser leaves -/
theorem pa_colour {pr ta i : Nat} {L : List Int32} (h : PaAt E G pr ta L i) (hB : g_B E ≤ pr) (hT : TxC L) (hi : i ≤ L.length) (hf : g_fit E G 2 10) (kt : ∀ v1 v2 v3 j1 j2 j3, rdR false L i 32 = (v1, j1, false) → rdR false L j1 47 = (v2, j2, false) → rdR false L j2 47 = (v3, j3, false) → j3 ≤ L.length → ∀ G', g_mod (fun q => q ≠ pr) G G' 1 3 → G'.1 G.2.1 = some (g_ai E 3 (upd (upd (upd (fun _ => 0) 0 v1) 1 v2) 2 v3)) → PaAt E G' pr ta L j3 → P (.returned (some (.ref G.2.1))) G') (kf : ∀ j, (∀ A, (rs L 0 47 2 (rs L 0 47 1 (rs L 0 32 0 (i, false, A)))).1 = j ∧ (rs L 0 47 2 (rs L 0 47 1 (rs L 0 32 0 (i, false, A)))).2.1 = true) → ∀ q G', g_mod (fun q => q ≠ pr) G G' 2 10 → SyAt G' q (nI j) → P (.threw q) G') : g_Spc l E mX18_colour 9 [.ref pr] G P := by
  obtain ⟨hf1, hf2⟩ := hf
  have h1 := h.1
  refine V_intro (plainFor_of_name plX18) (Nat.le_of_ble_eq_true rfl) ?_
  refine V_wf (fun wf hBG => ?_)
  have hpg := wf.ne h1
  have k0 : ∀ f, g_ke g_all G (g_new G (g_ai E 3 f) 3) := fun f => g_ke.new wf _ _
  have hP0 : ∀ f, PaAt E (g_new G (g_ai E 3 f) 3) pr ta L i := fun f => h.keep (k0 f)
  have fitn : ∀ f (j : Nat), g_fit E (g_up (g_new G (g_ai E 3 f) 3) pr (g_ob 16 [.ref ta, .int (nI j)])) 1 7 := fun f j => ⟨by simp only [g_new, g_up]; omega, by simp only [g_new, g_up]; omega⟩
  have mU : ∀ f (j : Nat) G', g_mod (fun q => q ≠ pr) (g_up (g_new G (g_ai E 3 f) 3) pr (g_ob 16 [.ref ta, .int (nI j)])) G' 1 7 → g_mod (fun q => q ≠ pr) G G' 2 10 := fun f j G' m => by
    obtain ⟨m1, m2, m3, m4, m5⟩ := m
    simp only [g_new, g_up] at m2 m3 m4 m5
    exact ⟨fun q x hq hx => m1 q x hq (g_up_of hq (g_new_of (wf.ne hx) hx)), by omega, by omega, by omega, by omega⟩
  have rsj : ∀ {w : Bool} {c : Int32} {o' : Nat} {i' : Nat} {A : Nat → Int32} {v : Int32} {j : Nat} {b : Bool}, rdR w L i' c = (v, j, b) → rs L 0 c o' (i', w, A) = (j, b, upd A (8 * 0 + o') v) := fun e => by
    show ((rdR _ L _ _).2.1, (rdR _ L _ _).2.2, upd _ _ (rdR _ L _ _).1) = _
    rw [e]
  refine V_iconstv 3 dX18_colour_0 (by decide) ?_
  refine V_newarray_int 3 rfl (by decide) q388 dX18_colour_1 (by first | omega | (simp only [g_new, g_up]; omega)) (by first | omega | (simp only [g_new, g_up]; omega)) ?_
  refine V_astore_n dX18_colour_3 (Or.inl ⟨_, rfl⟩) (by decide) ?_
  refine V_aload_n dX18_colour_4 rfl (Or.inl ⟨_, rfl⟩) ?_
  refine V_iconstv 0 dX18_colour_5 (by decide) ?_
  refine V_aload_n dX18_colour_6 rfl (Or.inl ⟨_, rfl⟩) ?_
  refine V_bipushv 32 dX18_colour_7 (by decide) ?_
  refine V_callV (q := (RX18, TX18, 2)) kX18_numberAfter q2501 q2503 qs41 (hP0 _).1 rfl dX18_colour_9 ?_ (d' := 8) (as := [_]) (hst := rfl)
  refine (pa_number (hP0 _) hB hT hi (Or.inl rfl) ⟨by simp only [g_new]; omega, by simp only [g_new]; omega⟩ (fun v1 j1 e1 hj1 => ?_) (fun v1 j1 e1 q G' m hs => ?_))
  rotate_left
  · obtain ⟨m1, m2, m3, m4, m5⟩ := m
    simp only [g_new] at m2 m3 m4 m5
    refine VX_out (ci := 0) (fs := []) rfl (kf j1 (fun A => ?_) q G' ⟨fun q x hq hx => m1 q x hq (g_new_of (wf.ne hx) hx), by omega, by omega, by omega, by omega⟩ hs)
    rw [rsj e1, rsj (rdR_t (L := L) (i := j1) (c := 47)), rsj (rdR_t (L := L) (i := j1) (c := 47))]
    exact ⟨rfl, rfl⟩
  have hgp : G.2.1 ≠ pr := Ne.symm hpg
  have swap : ∀ f (j : Nat) (g : Nat → Int32), g_up (g_up (g_new G (g_ai E 3 f) 3) pr (g_ob 16 [.ref ta, .int (nI j)])) G.2.1 (g_ai E 3 g) = g_up (g_new G (g_ai E 3 g) 3) pr (g_ob 16 [.ref ta, .int (nI j)]) := by
    intro f j g
    refine Prod.ext ?_ rfl
    funext q
    show va_up (va_up (va_up G.1 G.2.1 _) pr _) G.2.1 _ q = va_up (va_up G.1 G.2.1 _) pr _ q
    by_cases e : q = G.2.1
    · subst e
      rw [va_up_self, va_up_ne _ _ hgp, va_up_self]
    · rw [va_up_ne _ _ e]
      by_cases e2 : q = pr
      · subst e2; rw [va_up_self, va_up_self]
      · rw [va_up_ne _ _ e2, va_up_ne _ _ e2, va_up_ne _ _ e, va_up_ne _ _ e]
  refine V_iastore (g_up_of hgp (g_new_at rfl)) hBG (by first | assumption | exact g_in (by decide)) q388 dX18_colour_12 ?_
  refine V_aload_n dX18_colour_13 rfl (Or.inl ⟨_, rfl⟩) ?_
  refine V_iconstv 1 dX18_colour_14 (by decide) ?_
  refine V_aload_n dX18_colour_15 rfl (Or.inl ⟨_, rfl⟩) ?_
  refine V_bipushv 47 dX18_colour_16 (by decide) ?_
  rw [swap]
  have hP1 : ∀ f, PaAt E (g_up (g_new G (g_ai E 3 f) 3) pr (g_ob 16 [.ref ta, .int (nI j1)])) pr ta L j1 := fun f => (hP0 f).up
  refine V_callV (q := (RX18, TX18, 2)) kX18_numberAfter q2501 q2503 qs41 (hP1 _).1 rfl dX18_colour_18 ?_ (d' := 8) (as := [_]) (hst := rfl)
  refine (pa_number (hP1 _) hB hT hj1 (Or.inr rfl) (fitn _ _) (fun v2 j2 e2 hj2 => ?_) (fun v2 j2 e2 q G' m hs => ?_))
  rotate_left
  · refine VX_out (ci := 0) (fs := []) rfl (kf j2 (fun A => ?_) q G' (mU _ _ _ m) hs)
    rw [rsj e1, rsj e2, rsj (rdR_t (L := L) (i := j2) (c := 47))]
    exact ⟨rfl, rfl⟩
  rw [g_up_up]
  refine V_iastore (g_up_of hgp (g_new_at rfl)) hBG (by first | assumption | exact g_in (by decide)) q388 dX18_colour_21 ?_
  refine V_aload_n dX18_colour_22 rfl (Or.inl ⟨_, rfl⟩) ?_
  refine V_iconstv 2 dX18_colour_23 (by decide) ?_
  refine V_aload_n dX18_colour_24 rfl (Or.inl ⟨_, rfl⟩) ?_
  refine V_bipushv 47 dX18_colour_25 (by decide) ?_
  rw [swap]
  have hP2 : ∀ f, PaAt E (g_up (g_new G (g_ai E 3 f) 3) pr (g_ob 16 [.ref ta, .int (nI j2)])) pr ta L j2 := fun f => (hP0 f).up
  refine V_callV (q := (RX18, TX18, 2)) kX18_numberAfter q2501 q2503 qs41 (hP2 _).1 rfl dX18_colour_27 ?_ (d' := 8) (as := [_]) (hst := rfl)
  refine (pa_number (hP2 _) hB hT hj2 (Or.inr rfl) (fitn _ _) (fun v3 j3 e3 hj3 => ?_) (fun v3 j3 e3 q G' m hs => ?_))
  rotate_left
  · refine VX_out (ci := 0) (fs := []) rfl (kf j3 (fun A => ?_) q G' (mU _ _ _ m) hs)
    rw [rsj e1, rsj e2, rsj e3]
    exact ⟨rfl, rfl⟩
  rw [g_up_up]
  refine V_iastore (g_up_of hgp (g_new_at rfl)) hBG (by first | assumption | exact g_in (by decide)) q388 dX18_colour_30 ?_
  refine V_aload_n dX18_colour_31 rfl (Or.inl ⟨_, rfl⟩) ?_
  refine V_areturnA dX18_colour_32 rfl ?_
  rw [swap]
  refine kt v1 v2 v3 j1 j2 j3 e1 e2 e3 hj3 _ ⟨fun q x hq hx => g_up_of hq (g_new_of (wf.ne hx) hx), ?_, ?_, ?_, ?_⟩ (g_up_of hgp (g_new_at rfl)) (hP0 _).up
  · simp only [g_new, g_up]; omega
  · simp only [g_new, g_up]; omega
  · simp only [g_new, g_up]; omega
  · simp only [g_new, g_up]; omega
theorem pa_metric {pr ta i : Nat} {L : List Int32} (h : PaAt E G pr ta L i) (hB : g_B E ≤ pr) (hT : TxC L) (hi : i ≤ L.length) (hf : g_fit E G 1 7) (kt : mkC L i = 32 → isM (mkC L (i + 1)) = true → i + 2 ≤ L.length → P (.returned (some (.int (mkC L (i + 1))))) (g_up G pr (g_ob 16 [.ref ta, .int (nI (i + 2))]))) (kf : ∀ j, (∀ A, (rsM L 0 (i, false, A)).1 = j ∧ (rsM L 0 (i, false, A)).2.1 = true) → ∀ q G', g_mod (fun q => q ≠ pr) G G' 1 7 → SyAt G' q (nI j) → P (.threw q) G') : g_Spc l E mX18_metricName 8 [.ref pr] G P := by
  have h0 := h
  obtain ⟨h1, h2⟩ := h
  have h60 := hT.1
  refine V_intro (plainFor_of_name plX18) (Nat.le_of_ble_eq_true rfl) ?_
  have rest2 : ∀ b : Bool, b = isM (mkC L (i + 1)) → mkC L i = 32 → V l E mX18_metricName 8 P 46 (lv_args 0 [.ref pr]) [.int (b2i b), .ref pr] (g_up G pr (g_ob 16 [.ref ta, .int (nI (i + 1))])) := by
    intro b hb hm
    have hP : PaAt E (g_up G pr (g_ob 16 [.ref ta, .int (nI (i + 1))])) pr ta L (i + 1) := h0.up
    refine V_callV (q := (RX18, TX18, 2)) kX18_require q2465 q2467 qs39 hP.1 rfl dX18_metricName_46 ?_ (d' := 7) (as := [_]) (hst := rfl)
    refine (pa_require hP hf (fun ht => ?_) (fun ht q G' m hs => ?_))
    · rw [hb] at ht
      have hil : i + 1 < L.length := mkC_in rfl (fun q => by rw [q] at ht; exact absurd ht (by decide))
      obtain ⟨x, hx, -⟩ := drop_at hil
      have em : mkC L (i + 1) = x := by unfold mkC; rw [hx]; rfl
      have hPn : PaAt E (g_up G pr (g_ob 16 [.ref ta, .int (nI (i + 2))])) pr ta L (i + 2) := h0.up
      obtain ⟨va, hcs, -⟩ := id hPn.2
      refine V_aload_n dX18_metricName_49 rfl (Or.inl ⟨_, rfl⟩) ?_
      refine V_dup dX18_metricName_50 rfl ?_
      refine V_get ckX18 hP.1 1 (by decide) q2312 rfl (by rfl) dX18_metricName_51 ?_
      refine V_iconstv 1 dX18_metricName_54 (by decide) ?_
      refine V_iadd dX18_metricName_55 ?_
      refine V_put ckX18 hP.1 (by first | assumption | omega | (simp only [g_new, g_up]; omega) | (simp only [g_new, g_up, g_B] at *; omega)) 1 (by decide) q2312 rfl rfl rfl rfl (Nat.le_of_ble_eq_true rfl) dX18_metricName_56 ?_
      rw [g_up_up, show nI (i + 1) + 1 = nI (i + 2) from nI_1 _]
      refine V_aload_n dX18_metricName_59 rfl (Or.inl ⟨_, rfl⟩) ?_
      refine V_get ckX18 hPn.1 0 (by decide) q2311 rfl (by rfl) dX18_metricName_60 ?_
      refine V_aload_n dX18_metricName_63 rfl (Or.inl ⟨_, rfl⟩) ?_
      refine V_get ckX18 hPn.1 1 (by decide) q2312 rfl (by rfl) dX18_metricName_64 ?_
      refine V_iconstv 1 dX18_metricName_67 (by decide) ?_
      refine V_isub dX18_metricName_68 ?_
      rw [show nI (i + 2) - 1 = nI (i + 1) from nI_pred _]
      refine V_callV (q := (RJ7, TJ7, 4)) kJ7_charAt q2339 q2252 q2253 hcs rfl dX18_metricName_69 ?_ (d' := 3) (as := [_]) (hst := rfl)
      refine (str_charAt hPn.2.R (by omega) rfl hx (hT.isC x (List.mem_of_getElem? hx)) ?_)
      refine V_ireturn dX18_metricName_72 rfl ?_
      rw [em] at kt
      exact kt hm (by rw [em] at ht; exact ht) (by omega)
    · rw [hb] at ht
      obtain ⟨m1, m2, m3, m4, m5⟩ := m
      refine VX_out (ci := 0) (fs := []) rfl (kf (i + 1) (fun A => ?_) q G' ⟨fun z x hz hx => m1 z x trivial (g_up_of hz hx), m2, m3, m4, m5⟩ hs)
      have e1 : rdW false L i 32 = false := by
        unfold rdW
        rw [show mkW false L i = mkC L i from rfl, hm]
        rfl
      unfold rsM
      simp only [e1]
      have e2 : mkW false L (i + 1) = mkC L (i + 1) := rfl
      simp [e2, ht]
  have rest1 : ∀ b : Bool, b = decide (mkC L i = 32) → V l E mX18_metricName 8 P 15 (lv_args 0 [.ref pr]) [.int (b2i b), .ref pr] G := by
    intro b hb
    refine V_callV (q := (RX18, TX18, 2)) kX18_require q2465 q2467 qs39 (by first | assumption | (repeat (first | exact g_up_at | exact g_new_at rfl | assumption | refine g_up_of (by first | assumption | (simp only [g_new, g_up]; omega) | omega) ?_ | refine g_new_of (by first | assumption | (simp only [g_new, g_up]; omega) | omega) ?_))) rfl dX18_metricName_15 ?_ (d' := 7) (as := [_]) (hst := rfl)
    refine (pa_require h0 hf (fun ht => ?_) (fun ht q G' m hs => ?_))
    · rw [hb] at ht
      have em := of_decide_eq_true ht
      have hil : i < L.length := mkC_in em (by decide)
      have hP : PaAt E (g_up G pr (g_ob 16 [.ref ta, .int (nI (i + 1))])) pr ta L (i + 1) := h0.up
      refine V_aload_n dX18_metricName_18 rfl (Or.inl ⟨_, rfl⟩) ?_
      refine V_dup dX18_metricName_19 rfl ?_
      refine V_get ckX18 (by first | assumption | (repeat (first | exact g_up_at | exact g_new_at rfl | assumption | refine g_up_of (by first | assumption | (simp only [g_new, g_up]; omega) | omega) ?_ | refine g_new_of (by first | assumption | (simp only [g_new, g_up]; omega) | omega) ?_))) 1 (by decide) q2312 rfl (by rfl) dX18_metricName_20 ?_
      refine V_iconstv 1 dX18_metricName_23 (by decide) ?_
      refine V_iadd dX18_metricName_24 ?_
      refine V_put ckX18 (by first | assumption | (repeat (first | exact g_up_at | exact g_new_at rfl | assumption | refine g_up_of (by first | assumption | (simp only [g_new, g_up]; omega) | omega) ?_ | refine g_new_of (by first | assumption | (simp only [g_new, g_up]; omega) | omega) ?_))) (by first | assumption | omega | (simp only [g_new, g_up]; omega) | (simp only [g_new, g_up, g_B] at *; omega)) 1 (by decide) q2312 rfl rfl rfl rfl (Nat.le_of_ble_eq_true rfl) dX18_metricName_25 ?_
      rw [show nI i + 1 = nI (i + 1) from nI_1 i]
      refine V_aload_n dX18_metricName_28 rfl (Or.inl ⟨_, rfl⟩) ?_
      refine V_sc scX18_50 q2515 dX18_metricName_29 (by decide) rfl (fun hS29 => ?_)
      refine V_aload_n dX18_metricName_31 rfl (Or.inl ⟨_, rfl⟩) ?_
      refine V_callV (q := (RX18, TX18, 2)) kX18_current q2334 q2336 qs38 hP.1 rfl dX18_metricName_32 ?_ (d' := 4) (as := []) (hst := rfl)
      refine (pa_current hP hT (by omega) ?_)
      obtain ⟨va, hx, -⟩ := id hS29
      refine V_callVR (q := (RJ7, TJ7, 4)) kJ7_indexOf q2516 q1193 q1194 hx rfl dX18_metricName_35 ?_ (d' := 3) (as := [_]) (hst := rfl)
      refine (str_indexOf hS29 (allC (by decide +kernel)) (by decide) ?_)
      cases hm : isM (curC L (i + 1)) with
      | true =>
        refine V_if_lt 45 dX18_metricName_38 (by decide) (fun c38 => absurd c38 (idxM.mpr hm)) (fun _ => ?_)
        refine V_iconstv 1 dX18_metricName_41 (by decide) ?_
        refine V_goto 46 dX18_metricName_42 (by decide) ?_
        exact V_subk (rest2 true (by rw [← cur_isM]; exact hm.symm) em) ⟨rfl, trivial⟩
      | false =>
        have hlt : idxF (curC L (i + 1)) 0 [109, 115, 103] < 0 := by
          refine Decidable.not_not.mp fun q => ?_
          rw [idxM.mp q] at hm
          cases hm
        refine V_if_lt 45 dX18_metricName_38 (by decide) (fun _ => ?_) (fun c38 => absurd hlt c38)
        refine V_iconstv 0 dX18_metricName_45 (by decide) ?_
        exact V_subk (rest2 false (by rw [← cur_isM]; exact hm.symm) em) ⟨rfl, trivial⟩
    · rw [hb] at ht
      have em := of_decide_eq_false ht
      refine VX_out (ci := 0) (fs := []) rfl (kf i (fun A => ?_) q G' (m.wide (fun _ _ => trivial) (Nat.le_refl _) (Nat.le_refl _)) hs)
      have e1 : rdW false L i 32 = true := by
        unfold rdW
        rw [show mkW false L i = mkC L i from rfl, decide_eq_false em]
        rfl
      unfold rsM
      simp [e1]
  refine V_aload_n dX18_metricName_0 rfl (Or.inl ⟨_, rfl⟩) ?_
  refine V_aload_n dX18_metricName_1 rfl (Or.inl ⟨_, rfl⟩) ?_
  refine V_callV (q := (RX18, TX18, 2)) kX18_current q2334 q2336 qs38 (by first | assumption | (repeat (first | exact g_up_at | exact g_new_at rfl | assumption | refine g_up_of (by first | assumption | (simp only [g_new, g_up]; omega) | omega) ?_ | refine g_new_of (by first | assumption | (simp only [g_new, g_up]; omega) | omega) ?_))) rfl dX18_metricName_2 ?_ (d' := 4) (as := []) (hst := rfl)
  refine (pa_current h0 hT hi ?_)
  refine V_bipushv 32 dX18_metricName_5 (by decide) ?_
  refine V_icmp_ne 14 dX18_metricName_7 (by decide) (fun c7 => ?_) (fun c7 => ?_)
  · refine V_iconstv 0 dX18_metricName_14 (by decide) ?_
    exact V_subk (rest1 false (decide_eq_false (fun q => c7 ((cur_mk (by decide) (by decide)).mpr q))).symm) ⟨rfl, trivial⟩
  · refine V_iconstv 1 dX18_metricName_10 (by decide) ?_
    refine V_goto 15 dX18_metricName_11 (by decide) ?_
    exact V_subk (rest1 true (decide_eq_true ((cur_mk (by decide) (by decide)).mp c7)).symm) ⟨rfl, trivial⟩
end PARSER2
