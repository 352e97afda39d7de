/-! MODULE Parser: word -/
set_option maxRecDepth 100000
theorem seg_isC {L : List Int32} {i k : Nat} (hT : TxC L) : ∀ c ∈ seg L i k, isC c := fun c hc => hT.isC c (List.mem_of_mem_drop (List.mem_of_mem_take hc))
section WORD
variable {l : Launch} {E : g_E} {P : Outcome → g_G → Prop} {G G0 : g_G}
def SbP (E : g_E) (G0 : g_G) (pr : Nat) (G : g_G) (a : Nat) (w : List Int32) (c s : Nat) : Prop := G0.2.1 ≤ a ∧ g_wf G0 ∧ g_B E ≤ G0.2.1 ∧ pr < G0.2.1 ∧ SbAt E G0.2.1 G a w ∧ g_mod (fun q => q ≠ pr) G0 G c s ∧ ∀ z, SbAr G a z → G0.2.1 ≤ z
theorem SbP.cell {a pr c s : Nat} {w : List Int32} (H : SbP E G0 pr G a w c s) : ∃ (ar : Nat) (ml : Int32), G.1 a = some (g_ob 21 [.ref ar, .int 0, .int ml, .int (nI w.length)]) := H.2.2.2.2.1.cell
theorem SbP.same {a pr c s c1 s1 : Nat} {w : List Int32} {G' : g_G} (H : SbP E G0 pr G a w c s) (m : g_mod g_all G G' c1 s1) : SbP E G0 pr G' a w (c + c1) (s + s1) := by
  obtain ⟨ar, ml, x⟩ := H.cell
  obtain ⟨h1, h2, h3, h4, h5, ⟨m1, m2, m3, m4, m5⟩, h6⟩ := H
  obtain ⟨n1, n2, n3, n4, n5⟩ := m
  refine ⟨h1, h2, h3, h4, h5.keep n1, ⟨fun z y hz hy => n1 z y trivial (m1 z y hz hy), by omega, by omega, by omega, by omega⟩, fun z hz => ?_⟩
  obtain ⟨c9, k9, n9, hz⟩ := hz
  have := n1 _ _ trivial x
  rw [this] at hz
  cases hz
  exact h6 _ ⟨_, _, _, x⟩
theorem SbP.next {a pr c s c1 s1 : Nat} {w w' : List Int32} {G' : g_G} (H : SbP E G0 pr G a w c s) (m : g_mod (fun z => z ≠ a ∧ ¬ SbAr G a z) G G' c1 s1) (h : ∀ z, SbAr G' a z → SbAr G a z ∨ G.2.1 ≤ z) (hw : SbAt E G0.2.1 G' a w') : SbP E G0 pr G' a w' (c + c1) (s + s1) := by
  obtain ⟨h1, h2, h3, h4, h5, ⟨m1, m2, m3, m4, m5⟩, h6⟩ := H
  obtain ⟨n1, n2, n3, n4, n5⟩ := m
  refine ⟨h1, h2, h3, h4, hw, ⟨fun z x hz0 hx => ?_, by omega, by omega, by omega, by omega⟩, fun z hz => (h z hz).elim (h6 z) (fun q => by omega)⟩
  have hz := h2 _ _ hx
  exact n1 z x ⟨by omega, fun q => by have := h6 z q; omega⟩ (m1 z x hz0 hx)
theorem SbP.up {a pr c s : Nat} {w : List Int32} {x : va_E} (H : SbP E G0 pr G a w c s) : SbP E G0 pr (g_up G pr x) a w c s := by
  obtain ⟨ar, ml, hc⟩ := H.cell
  obtain ⟨h1, h2, h3, h4, h5, ⟨m1, m2, m3, m4, m5⟩, h6⟩ := H
  have hap : a ≠ pr := by omega
  refine ⟨h1, h2, h3, h4, h5.ke2 (g_ke.up (A := fun q => q ≠ pr) (fun q => q rfl) _) hap (fun ar' hq e => by have := h6 ar' hq; omega), ⟨fun z y hz hy => g_up_of hz (m1 z y hz hy), m2, m3, m4, m5⟩, fun z hz => ?_⟩
  obtain ⟨c9, k9, n9, hz⟩ := hz
  rw [g_up_ne _ _ hap] at hz
  exact h6 _ ⟨_, _, _, hz⟩
theorem SbP.pr {a pr c s c1 s1 : Nat} {w : List Int32} {G' : g_G} {x : va_E} (H : SbP E G0 pr G a w c s) (hx : G.1 pr = some x) (m : g_mod (fun z => z ≠ a ∧ ¬ SbAr G a z) G G' c1 s1) : G'.1 pr = some x :=
  m.1 _ _ ⟨by have := H.1; have := H.2.2.2.1; omega, fun q => by have := H.2.2.2.2.2.2 _ q; have := H.2.2.2.1; omega⟩ hx
theorem SbP.wide {a pr c s c1 s1 : Nat} {w : List Int32} (H : SbP E G0 pr G a w c s) (hc : c ≤ c1) (hs : s ≤ s1) : SbP E G0 pr G a w c1 s1 := by
  obtain ⟨h1, h2, h3, h4, h5, h6, h7⟩ := H
  exact ⟨h1, h2, h3, h4, h5, h6.wide (fun _ h => h) hc hs, h7⟩
theorem pa_word {pr ta i : Nat} {L : List Int32} (h : PaAt E G pr ta L i) (hB : g_B E ≤ pr) (hT : TxC L) (h50 : L.length ≤ 50) (hi : i ≤ L.length) (hf : g_fit E G (30 + 10 * (L.length - i)) (3000 + 1900 * (L.length - i))) (kt : ∀ k, wkC L i 61 0 = (k, false) → i + k ≤ L.length → ∀ G' q, g_mod (fun z => z ≠ pr) G G' (20 + 10 * k) (2300 + 1900 * k) → StrN E G' q (seg L i k) → PaAt E G' pr ta L (i + k) → G.2.1 ≤ q → P (.returned (some (.ref q))) G') (kf : ∀ k, wkC L i 61 0 = (k, true) → i + k ≤ L.length → ∀ q G', g_mod (fun z => z ≠ pr) G G' (30 + 10 * k) (3000 + 1900 * k) → SyAt G' q (nI (i + k)) → P (.threw q) G') : g_Spc l E mX18_word 8 [.ref pr] G P := by
  obtain ⟨hf1, hf2⟩ := hf
  have h60 := hT.1
  refine V_intro (plainFor_of_name plX18) (Nat.le_of_ble_eq_true rfl) ?_
  refine V_wf (fun wf hBG => ?_)
  have hprl := wf _ _ h.1
  have hTx : ∀ {G1 : g_G} {w : List Int32} {c s : Nat}, SbP E G pr G1 G.2.1 w c s → StrN E G1 ta L := fun H => h.2.ke2 H.2.2.2.2.2.1.1 (fun q x hx hi e => by
    subst e
    rw [h.1] at hx
    cases hx
    cases hi)
  -- the text that is sought: a blank, the word, one sign
  have full : ∀ (pc : Nat), True := fun _ => trivial
  have fin : ∀ k, i + k ≤ L.length → ∀ (G1 : g_G), SbP E G pr G1 G.2.1 (seg L i k) (2 + 10 * k) (20 + 1900 * k) → G1.1 pr = some (g_ob 16 [.ref ta, .int (nI (i + k))]) → wkC L i 61 0 = (k, !(decide (0 < k) && hasS (32 :: seg L i k ++ [32]) WRD)) → V l E mX18_word 8 P 83 [(0, .ref pr), (1, .ref G.2.1)] [] G1 := by
    intro k hik G1 H hpr hw
    obtain ⟨ar1, ml1, x1⟩ := H.cell
    have hsl := seg_len hik
    obtain ⟨s1, s2, s3, s4, s5, ⟨m1, m2, m3, m4, m5⟩, s7⟩ := id H
    have rest : ∀ (b : Bool) (G2 : g_G), b = (decide (0 < k) && hasS (32 :: seg L i k ++ [32]) WRD) → SbP E G pr G2 G.2.1 (seg L i k) (11 + 10 * k) (1600 + 1900 * k) → G2.1 pr = some (g_ob 16 [.ref ta, .int (nI (i + k))]) → V l E mX18_word 8 P 128 [(0, .ref pr), (1, .ref G.2.1)] [.int (b2i b), .ref pr] G2 := by
      intro b G2 hb H2 hpr2
      have hP2 : PaAt E G2 pr ta L (i + k) := ⟨hpr2, hTx H2⟩
      obtain ⟨-, -, -, -, -, ⟨p1, p2, p3, p4, p5⟩, -⟩ := id H2
      obtain ⟨ar2, ml2, x2⟩ := H2.cell
      refine V_callV (q := (RX18, TX18, 2)) kX18_require q2465 q2467 qs39 hpr2 rfl dX18_word_128 ?_ (d' := 7) (as := [_]) (hst := rfl)
      refine (pa_require hP2 ⟨by omega, by omega⟩ (fun ht => ?_) (fun ht q G' m hs => ?_))
      · refine V_aload_n dX18_word_131 rfl (Or.inl ⟨_, rfl⟩) ?_
        refine V_callV (q := (RJ6, TJ6, 4)) kJ6_toString q2426 q736 q737 x2 rfl dX18_word_132 ?_ (d' := 5) (as := []) (hst := rfl)
        refine (sb_toString H2.2.2.2.2.1 ⟨by omega, by omega⟩ (fun G3 m hN => ?_))
        refine V_areturnO dX18_word_135 rfl ?_
        rw [hb] at ht
        rw [ht] at hw
        obtain ⟨q1, q2, q3, q4, q5⟩ := m
        exact kt k hw hik G3 _ ⟨fun z x hz hx => q1 z x trivial (p1 z x hz hx), by omega, by omega, by omega, by omega⟩ hN (hP2.keep q1) (by omega)
      · rw [hb] at ht
        rw [ht] at hw
        obtain ⟨q1, q2, q3, q4, q5⟩ := m
        exact VX_out (ci := 0) (fs := []) rfl (kf k hw hik q G' ⟨fun z x hz hx => q1 z x trivial (p1 z x hz hx), by omega, by omega, by omega, by omega⟩ hs)
    by_cases hk0 : k = 0
    · subst hk0
      have e0 : nI (seg L i 0).length ≤ 0 := by rw [hsl]; exact Int32.le_refl _
      refine V_aload_n dX18_word_83 rfl (Or.inl ⟨_, rfl⟩) ?_
      refine V_aload_n dX18_word_84 rfl (Or.inl ⟨_, rfl⟩) ?_
      refine V_callV (q := (RJ6, TJ6, 4)) kJ6_length q2487 q757 q3302 x1 rfl dX18_word_85 ?_ (d' := 1) (as := []) (hst := rfl)
      refine (sb_length H.2.2.2.2.1 ?_)
      refine V_if_le 127 dX18_word_88 (by decide) (fun _ => ?_) (fun c88 => absurd e0 c88)
      refine V_iconstv 0 dX18_word_127 (by decide) ?_
      exact V_subk (rest false G1 rfl (H.wide (by omega) (by omega)) hpr) ⟨rfl, rfl, trivial⟩
    · refine V_wf (fun wf1 hBG1 => ?_)
      have e0 : ¬ nI (seg L i k).length ≤ 0 := by rw [hsl]; exact nI_nle (by omega) (by omega)
      refine V_aload_n dX18_word_83 rfl (Or.inl ⟨_, rfl⟩) ?_
      refine V_aload_n dX18_word_84 rfl (Or.inl ⟨_, rfl⟩) ?_
      refine V_callV (q := (RJ6, TJ6, 4)) kJ6_length q2487 q757 q3302 x1 rfl dX18_word_85 ?_ (d' := 1) (as := []) (hst := rfl)
      refine (sb_length H.2.2.2.2.1 ?_)
      refine V_if_le 127 dX18_word_88 (by decide) (fun c88 => absurd c88 e0) (fun _ => ?_)
      refine V_sc scX18_59 q2340 dX18_word_91 (by decide) rfl (fun hS91 => ?_)
      refine V_new ckJ6 q2332 dX18_word_93 (by first | omega | (simp only [g_new, g_up]; omega)) (by first | omega | (simp only [g_new, g_up]; omega)) ?_
      refine V_dup dX18_word_96 rfl ?_
      refine V_callI kJ6_init rfl rfl q2333 q293 dX18_word_97 ?_ (d' := 2) (as := []) (hst := rfl)
      refine (sbf_init wf1 hBG1 ⟨by omega, by omega⟩ (fun G2 H2 => ?_))
      obtain ⟨ar2, ml2, x2⟩ := H2.cell
      refine V_sc scX18_61 q2341 dX18_word_100 (by decide) rfl (fun hS100 => ?_)
      refine V_callV (q := (RJ6, TJ6, 4)) kJ6_append q2342 q590 q591 x2 rfl dX18_word_102 ?_ (d' := 5) (as := [_]) (hst := rfl)
      refine (sbf_S H2 hS100 (allC (by decide +kernel)) (by decide) ⟨by omega, by omega⟩ (fun G3 H3 => ?_))
      obtain ⟨ar3, ml3, x3⟩ := H3.cell
      refine V_aload_n dX18_word_105 rfl (Or.inl ⟨_, rfl⟩) ?_
      refine V_callV (q := (RJ6, TJ6, 4)) kJ6_append_4 q2343 q2344 q2345 x3 rfl dX18_word_106 ?_ (d' := 7) (as := [_]) (hst := rfl)
      refine (sbf_O H3 (s5.keep H3.ke) (by rw [hsl]; simp only [List.length_append, List.length_cons, List.length_nil]; omega) ⟨by omega, by omega⟩ (fun G4 H4 => ?_))
      obtain ⟨ar4, ml4, x4⟩ := H4.cell
      refine V_sc scX18_61 q2341 dX18_word_109 (by decide) rfl (fun hS109 => ?_)
      refine V_callV (q := (RJ6, TJ6, 4)) kJ6_append q2342 q590 q591 x4 rfl dX18_word_111 ?_ (d' := 5) (as := [_]) (hst := rfl)
      refine (sbf_S H4 hS109 (allC (by decide +kernel)) (by simp only [List.length_append, List.length_cons, List.length_nil, hsl]; omega) ⟨by omega, by omega⟩ (fun G5 H5 => ?_))
      obtain ⟨ar5, ml5, x5⟩ := H5.cell
      refine V_callV (q := (RJ6, TJ6, 4)) kJ6_toString q2426 q736 q737 x5 rfl dX18_word_114 ?_ (d' := 5) (as := []) (hst := rfl)
      refine (sbf_str H5 ⟨by omega, by omega⟩ (fun G6 qs m hN hC hq => ?_))
      have hW := hS91.keep m.1
      obtain ⟨va, hvx, -⟩ := id hW
      obtain ⟨vn, hnx, -⟩ := id hN
      refine V_callVR (q := (RJ7, TJ7, 4)) kJ7_contains q2427 q2428 q2429 hvx rfl dX18_word_117 ?_ (d' := 3) (as := [_]) (hst := rfl)
      refine (str_contains hW hN (by decide) (by simp only [List.length_append, List.length_cons, List.length_nil]; omega) (by simp only [List.length_append, List.length_cons, List.length_nil, hsl]; show _ ≤ 55; omega) ?_)
      have H6 := H.same m
      have H7 := H6.wide (c1 := 11 + 10 * k) (s1 := 1600 + 1900 * k) (by omega) (by omega)
      have hpr6 := m.1 _ _ trivial hpr
      have e9 : [] ++ [32] ++ seg L i k ++ [32] = 32 :: seg L i k ++ [32] := rfl
      rw [e9]
      cases hb : hasS (32 :: seg L i k ++ [32]) WRD with
      | true =>
        have hb' : hasS (32 :: seg L i k ++ [32]) [32, 102, 105, 110, 100, 32, 114, 101, 112, 111, 114, 116, 32, 100, 114, 111, 112, 32, 100, 105, 115, 99, 97, 114, 100, 32, 109, 101, 116, 114, 105, 99, 32, 114, 101, 116, 117, 114, 110, 32, 115, 101, 116, 116, 108, 101, 32, 109, 105, 120, 32, 100, 97, 121, 32] = true := hb
        rw [hb']
        refine V_if_eq 127 dX18_word_120 (by decide) (fun c120 => absurd c120 (by decide)) (fun _ => ?_)
        refine V_iconstv 1 dX18_word_123 (by decide) ?_
        refine V_goto 128 dX18_word_124 (by decide) ?_
        exact V_subk (rest true G6 (by rw [hb, decide_eq_true (show 0 < k by omega)]; rfl) H7 hpr6) ⟨rfl, rfl, trivial⟩
      | false =>
        have hb' : hasS (32 :: seg L i k ++ [32]) [32, 102, 105, 110, 100, 32, 114, 101, 112, 111, 114, 116, 32, 100, 114, 111, 112, 32, 100, 105, 115, 99, 97, 114, 100, 32, 109, 101, 116, 114, 105, 99, 32, 114, 101, 116, 117, 114, 110, 32, 115, 101, 116, 116, 108, 101, 32, 109, 105, 120, 32, 100, 97, 121, 32] = false := hb
        rw [hb']
        refine V_if_eq 127 dX18_word_120 (by decide) (fun _ => ?_) (fun c120 => absurd rfl c120)
        refine V_iconstv 0 dX18_word_127 (by decide) ?_
        exact V_subk (rest false G6 (by rw [hb, Bool.and_false]) H7 hpr6) ⟨rfl, rfl, trivial⟩
  have loop : ∀ f k, k + f = 61 → i + k ≤ L.length → wkC L i 61 0 = wkC L i f k → ∀ (G1 : g_G), SbP E G pr G1 G.2.1 (seg L i k) (2 + 10 * k) (20 + 1900 * k) → G1.1 pr = some (g_ob 16 [.ref ta, .int (nI (i + k))]) → V l E mX18_word 8 P 8 [(0, .ref pr), (1, .ref G.2.1)] [] G1 := by
    intro f
    induction f with
    | zero => intro k hk hik; omega
    | succ f ih =>
      intro k hk hik hw G1 H hpr
      have hP1 : PaAt E G1 pr ta L (i + k) := ⟨hpr, hTx H⟩
      have hw := hw.trans wkC_s
      have hsl := seg_len hik
      obtain ⟨s1, s2, s3, s4, s5, ⟨m1, m2, m3, m4, m5⟩, s7⟩ := id H
      have stop : isL (curC L (i + k)) = false → V l E mX18_word 8 P 83 [(0, .ref pr), (1, .ref G.2.1)] [] G1 := fun e => fin k hik G1 H hpr (by rw [e] at hw; exact hw)
      refine V_aload_n dX18_word_8 rfl (Or.inl ⟨_, rfl⟩) ?_
      refine V_callV (q := (RX18, TX18, 2)) kX18_current q2334 q2336 qs38 hpr rfl dX18_word_9 ?_ (d' := 4) (as := []) (hst := rfl)
      refine (pa_current hP1 hT hik ?_)
      refine V_bipushv 97 dX18_word_12 (by decide) ?_
      refine V_icmp_lt 83 dX18_word_14 (by decide) (fun c14 => ?_) (fun c14 => ?_)
      · exact V_subk (stop (by unfold isL isb; rw [decide_eq_false (Int32.not_le.mpr c14)]; rfl)) ⟨rfl, rfl, trivial⟩
      · refine V_aload_n dX18_word_17 rfl (Or.inl ⟨_, rfl⟩) ?_
        refine V_callV (q := (RX18, TX18, 2)) kX18_current q2334 q2336 qs38 hpr rfl dX18_word_18 ?_ (d' := 4) (as := []) (hst := rfl)
        refine (pa_current hP1 hT hik ?_)
        refine V_bipushv 122 dX18_word_21 (by decide) ?_
        refine V_icmp_gt 83 dX18_word_23 (by decide) (fun c23 => ?_) (fun c23 => ?_)
        · exact V_subk (stop (by unfold isL isb; rw [decide_eq_false (p := curC L (i + k) ≤ 122) (Int32.not_le.mpr c23), Bool.and_false])) ⟨rfl, rfl, trivial⟩
        · have hL : isL (curC L (i + k)) = true := by unfold isL isb; rw [decide_eq_true (Int32.not_lt.mp c14), decide_eq_true (p := curC L (i + k) ≤ 122) (Int32.not_lt.mp c23)]; rfl
          rw [if_pos hL] at hw
          have hil : i + k < L.length := by
            refine Nat.lt_of_not_le fun q => ?_
            have e : curC L (i + k) = 10 := by unfold curC; rw [List.getElem?_eq_none q]; rfl
            rw [e] at hL
            exact absurd hL (by decide)
          have hcc := curC_C (i := i + k) hT
          refine V_wf (fun wf1 hBG1 => ?_)
          refine V_aload_n dX18_word_26 rfl (Or.inl ⟨_, rfl⟩) ?_
          refine V_sc scX18_59 q2340 dX18_word_27 (by decide) rfl (fun hS27 => ?_)
          refine V_new ckJ6 q2332 dX18_word_29 (by first | omega | (simp only [g_new, g_up]; omega)) (by first | omega | (simp only [g_new, g_up]; omega)) ?_
          refine V_dup dX18_word_32 rfl ?_
          refine V_callI kJ6_init rfl rfl q2333 q293 dX18_word_33 ?_ (d' := 2) (as := []) (hst := rfl)
          refine (sbf_init wf1 hBG1 ⟨by omega, by omega⟩ (fun G2 H2 => ?_))
          obtain ⟨ar2, ml2, x2⟩ := H2.cell
          refine V_sc scX18_61 q2341 dX18_word_36 (by decide) rfl (fun hS36 => ?_)
          refine V_callV (q := (RJ6, TJ6, 4)) kJ6_append q2342 q590 q591 x2 rfl dX18_word_38 ?_ (d' := 5) (as := [_]) (hst := rfl)
          refine (sbf_S H2 hS36 (allC (by decide +kernel)) (by decide) ⟨by omega, by omega⟩ (fun G3 H3 => ?_))
          obtain ⟨ar3, ml3, x3⟩ := H3.cell
          refine V_aload_n dX18_word_41 rfl (Or.inl ⟨_, rfl⟩) ?_
          refine V_callV (q := (RJ6, TJ6, 4)) kJ6_append_4 q2343 q2344 q2345 x3 rfl dX18_word_42 ?_ (d' := 7) (as := [_]) (hst := rfl)
          refine (sbf_O H3 (s5.keep H3.ke) (by rw [hsl]; simp only [List.length_append, List.length_cons, List.length_nil]; omega) ⟨by omega, by omega⟩ (fun G4 H4 => ?_))
          obtain ⟨ar4, ml4, x4⟩ := H4.cell
          have hP4 := hP1.keep H4.ke
          refine V_aload_n dX18_word_45 rfl (Or.inl ⟨_, rfl⟩) ?_
          refine V_callV (q := (RX18, TX18, 2)) kX18_current q2334 q2336 qs38 hP4.1 rfl dX18_word_46 ?_ (d' := 4) (as := []) (hst := rfl)
          refine (pa_current hP4 hT hik ?_)
          refine V_callV (q := (RJ6, TJ6, 4)) kJ6_append_3 q2425 q2283 q2284 x4 rfl dX18_word_49 ?_ (d' := 5) (as := [_]) (hst := rfl)
          refine (sbf_C H4 hcc (by simp only [List.length_append, List.length_cons, List.length_nil, hsl]; omega) ⟨by omega, by omega⟩ (fun G5 H5 => ?_))
          obtain ⟨ar5, ml5, x5⟩ := H5.cell
          refine V_callV (q := (RJ6, TJ6, 4)) kJ6_toString q2426 q736 q737 x5 rfl dX18_word_52 ?_ (d' := 5) (as := []) (hst := rfl)
          refine (sbf_str H5 ⟨by omega, by omega⟩ (fun G6 qs m hN hC hq => ?_))
          have hW := hS27.keep m.1
          obtain ⟨va, hvx, -⟩ := id hW
          refine V_callVR (q := (RJ7, TJ7, 4)) kJ7_contains q2427 q2428 q2429 hvx rfl dX18_word_55 ?_ (d' := 3) (as := [_]) (hst := rfl)
          refine (str_contains hW hN (by decide) (by simp only [List.length_append, List.length_cons, List.length_nil]; omega) (by simp only [List.length_append, List.length_cons, List.length_nil, hsl]; show _ ≤ 55; omega) ?_)
          have H6 := H.same m
          have hP6 := hP1.keep m.1
          have m0 := m
          obtain ⟨n1, n2, n3, n4, n5⟩ := m
          have e9 : [] ++ [32] ++ seg L i k ++ [curC L (i + k)] = 32 :: seg L i k ++ [curC L (i + k)] := rfl
          rw [e9, show hasS (32 :: seg L i k ++ [curC L (i + k)]) [32, 102, 105, 110, 100, 32, 114, 101, 112, 111, 114, 116, 32, 100, 114, 111, 112, 32, 100, 105, 115, 99, 97, 114, 100, 32, 109, 101, 116, 114, 105, 99, 32, 114, 101, 116, 117, 114, 110, 32, 115, 101, 116, 116, 108, 101, 32, 109, 105, 120, 32, 100, 97, 121, 32] = hasS (32 :: seg L i k ++ [curC L (i + k)]) WRD from rfl]
          refine V_callV (q := (RX18, TX18, 2)) kX18_require q2465 q2467 qs39 hP6.1 rfl dX18_word_58 ?_ (d' := 7) (as := [_]) (hst := rfl)
          refine (pa_require hP6 ⟨by omega, by omega⟩ (fun ht => ?_) (fun ht q G' mm hs => ?_))
          · rw [if_pos ht] at hw
            obtain ⟨ar6, ml6, x6⟩ := H6.cell
            obtain ⟨-, -, -, -, t5, ⟨p1, p2, p3, p4, p5⟩, -⟩ := id H6
            refine V_aload_n dX18_word_61 rfl (Or.inl ⟨_, rfl⟩) ?_
            refine V_aload_n dX18_word_62 rfl (Or.inl ⟨_, rfl⟩) ?_
            refine V_callV (q := (RX18, TX18, 2)) kX18_current q2334 q2336 qs38 hP6.1 rfl dX18_word_63 ?_ (d' := 4) (as := []) (hst := rfl)
            refine (pa_current hP6 hT hik ?_)
            refine V_callV (q := (RJ6, TJ6, 4)) kJ6_append_3 q2425 q2283 q2284 x6 rfl dX18_word_66 ?_ (d' := 5) (as := [_]) (hst := rfl)
            refine (sb_appendC t5 hBG (by omega) hcc (by rw [hsl]; omega) ⟨by omega, by omega⟩ (fun G7 m7 h7 hA7 => ?_))
            have H7 := H6.next m7 h7 hA7
            have hpr7 := H6.pr hP6.1 m7
            refine V_pop dX18_word_69 rfl ?_
            refine V_aload_n dX18_word_70 rfl (Or.inl ⟨_, rfl⟩) ?_
            refine V_dup dX18_word_71 rfl ?_
            refine V_get ckX18 (by first | assumption | (repeat (first | exact g_up_at | exact g_new_at rfl | assumption | refine g_up_of (by first | assumption | (simp only [g_new, g_up]; omega) | omega) ?_ | refine g_new_of (by first | assumption | (simp only [g_new, g_up]; omega) | omega) ?_))) 1 (by decide) q2312 rfl (by rfl) dX18_word_72 ?_
            refine V_iconstv 1 dX18_word_75 (by decide) ?_
            refine V_iadd dX18_word_76 ?_
            refine V_put ckX18 hpr7 (by first | assumption | omega | (simp only [g_new, g_up]; omega) | (simp only [g_new, g_up, g_B] at *; omega)) 1 (by decide) q2312 rfl rfl rfl rfl (Nat.le_of_ble_eq_true rfl) dX18_word_77 ?_
            refine V_goto 8 dX18_word_80 (by decide) ?_
            rw [show nI (i + k) + 1 = nI (i + (k + 1)) from nI_1 _]
            rw [← seg_push hil] at H7
            have H8 := H7.up (x := g_ob 16 [.ref ta, .int (nI (i + (k + 1)))])
            have H9 := H8.wide (c1 := 2 + 10 * (k + 1)) (s1 := 20 + 1900 * (k + 1)) (by omega) (by omega)
            exact V_subk (ih (k + 1) (by omega) (by omega) hw _ H9 g_up_at) ⟨rfl, rfl, trivial⟩
          · rw [if_neg (by rw [ht]; decide)] at hw
            obtain ⟨q1, q2, q3, q4, q5⟩ := mm
            exact VX_out (ci := 0) (fs := []) rfl (kf k hw hik q G' ⟨fun z x hz hx => q1 z x trivial (n1 z x trivial (m1 z x hz hx)), by omega, by omega, by omega, by omega⟩ hs)
  refine V_new ckJ6 q2332 dX18_word_0 (by first | omega | (simp only [g_new, g_up]; omega)) (by first | omega | (simp only [g_new, g_up]; omega)) ?_
  refine V_dup dX18_word_3 rfl ?_
  refine V_callI kJ6_init rfl rfl q2333 q293 dX18_word_4 ?_ (d' := 2) (as := []) (hst := rfl)
  refine (sbf_init wf hBG ⟨by omega, by omega⟩ (fun G1 H1 => ?_))
  refine V_astore_n dX18_word_7 (Or.inl ⟨_, rfl⟩) (by decide) ?_
  obtain ⟨t1, t2, t3, t4, t5, t6⟩ := id H1
  refine V_subk (loop 61 0 rfl hi rfl G1 ⟨t1, t2, t3, hprl, t4, t5.wide (fun _ _ => trivial) (by omega) (by omega), t6⟩ (t5.1 _ _ trivial h.1)) ⟨rfl, rfl, trivial⟩
end WORD
