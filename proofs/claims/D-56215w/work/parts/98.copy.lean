/-! MODULE Office: making, copy, setMetric -/
set_option maxRecDepth 100000
def oZ : Of := ([], [], upd (fun _ => 0) 5 109)
theorem idxM {c : Int32} : (¬ idxF c 0 [109, 115, 103] < 0) ↔ isM c = true := by
  have e : idxF c 0 [109, 115, 103] = if (109 : Int32) = c then 0 else if (115 : Int32) = c then 1 else if (103 : Int32) = c then 2 else -1 := rfl
  rw [e]
  unfold isM
  by_cases h1 : c = 109
  · subst h1; exact ⟨fun _ => rfl, fun _ => by decide⟩
  by_cases h2 : c = 115
  · subst h2; exact ⟨fun _ => rfl, fun _ => by decide⟩
  by_cases h3 : c = 103
  · subst h3; exact ⟨fun _ => rfl, fun _ => by decide⟩
  rw [if_neg (fun q => h1 q.symm), if_neg (fun q => h2 q.symm), if_neg (fun q => h3 q.symm)]
  refine ⟨fun q => absurd (by decide) q, fun q => ?_⟩
  rcases of_decide_eq_true q with q | q | q
  · exact absurd q h1
  · exact absurd q h2
  · exact absurd q h3
theorem isM_C {c : Int32} (h : isM c = true) : isC c := by
  rcases of_decide_eq_true h with q | q | q
  · exact ⟨109, by decide, q⟩
  · exact ⟨115, by decide, q⟩
  · exact ⟨103, by decide, q⟩
section COPY
variable {l : Launch} {E : g_E} {P : Outcome → g_G → Prop} {G G0 : g_G}
theorem off_setMetric {A : Nat → Prop} {n a s pa al : Nat} {fs rs : List Nat} {o : Of} {c : Int32} (h : OffC E A n G a o s pa fs al rs) (hB : g_B E ≤ n) (hn : n ≤ G.2.1) (hf : g_fit E G 5 20) (kt : isM c = true → ∀ G', g_mod (fun q => q < n) G G' 5 20 → OffAt E A n G' a (ofMet o c) → P (.returned (some (.int (o.2.2 5)))) G') (kf : isM c = false → ∀ q G', g_mod (fun q => q < n) G G' 5 20 → CfAt G' q 97 → P (.threw q) G') : g_Spc l E mX2_setMetric 8 [.ref a, .int c] G P := by
  obtain ⟨hf1, hf2⟩ := hf
  have k4 := h.2.2.2.1
  have hBa : g_B E ≤ a := Nat.le_trans hB h.1
  have rest : ∀ b : Bool, b = isM c → V l E mX2_setMetric 8 P 14 (lv_args 0 [.ref a, .int c]) [.int (b2i b)] G := by
    intro b hb
    refine V_bipushv 97 dX2_setMetric_14 (by decide) ?_
    refine V_callSN kX1_demand q1045 q1046 dX2_setMetric_16 ?_ (d' := 7) (as := [_, _]) (hst := rfl)
    refine (co_demand isC_97 ⟨by omega, by omega⟩ (fun hh => ?_) (fun hh q G' m _ hcf => ?_))
    · rw [hb] at hh
      have hc := isM_C hh
      refine V_aload_n dX2_setMetric_19 rfl (Or.inl ⟨_, rfl⟩) ?_
      refine V_get ckX2 (by first | assumption | (repeat (first | exact g_up_at | exact g_new_at rfl | assumption | refine g_up_of (by first | assumption | (simp only [g_new, g_up]; omega) | omega) ?_ | refine g_new_of (by first | assumption | (simp only [g_new, g_up]; omega) | omega) ?_))) 2 (by decide) q227 rfl (by rfl) dX2_setMetric_20 ?_
      refine V_istore_n dX2_setMetric_23 (by decide) ?_
      refine V_aload_n dX2_setMetric_24 rfl (Or.inl ⟨_, rfl⟩) ?_
      refine V_iload_n dX2_setMetric_25 rfl ?_
      refine V_put ckX2 (by first | assumption | (repeat (first | exact g_up_at | exact g_new_at rfl | assumption | refine g_up_of (by first | assumption | (simp only [g_new, g_up]; omega) | omega) ?_ | refine g_new_of (by first | assumption | (simp only [g_new, g_up]; omega) | omega) ?_))) (by first | assumption | omega | (simp only [g_new, g_up]; omega) | (simp only [g_new, g_up, g_B] at *; omega)) 2 (by decide) q227 rfl rfl hc.nar hc.fit (Nat.le_of_ble_eq_true rfl) dX2_setMetric_26 ?_
      refine V_iload_n dX2_setMetric_29 rfl ?_
      refine V_ireturn dX2_setMetric_30 rfl ?_
      have kU : g_ke (fun q => q ≠ a) G (g_up G a (offO (ofMet o c) s al)) := g_ke.up (fun q => q rfl) _
      exact kt hh _ ⟨kU.mono fun q hq e => by have hq : q < n := hq; have := h.1; omega, Nat.le_refl _, Nat.le_add_right _ _, Nat.le_refl _, Nat.le_add_right _ _⟩ ⟨s, pa, fs, al, rs, h.chgO (o' := ofMet o c) kU hc g_up_at rfl rfl⟩
    · rw [hb] at hh
      obtain ⟨m1, m2, m3, m4, m5⟩ := m
      exact VX_out (ci := 0) (fs := []) rfl (kf hh q G' ⟨m1.mono fun _ _ => trivial, by omega, by omega, by omega, by omega⟩ hcf)
  refine V_intro (plainFor_of_name plX2) (Nat.le_of_ble_eq_true rfl) ?_
  refine V_sc scX2_171 q1191 dX2_setMetric_0 (by decide) rfl (fun hS0 => ?_)
  refine V_iload_n dX2_setMetric_2 rfl ?_
  obtain ⟨va, hx, -⟩ := id hS0
  refine V_callVR (q := (RJ7, TJ7, 4)) kJ7_indexOf q1192 q1193 q1194 hx rfl dX2_setMetric_3 ?_ (d' := 3) (as := [_]) (hst := rfl)
  refine (str_indexOf hS0 (allC (by decide +kernel)) (by decide) ?_)
  cases hm : isM c with
  | true =>
    refine V_if_lt 13 dX2_setMetric_6 (by decide) (fun c6 => absurd c6 (idxM.mpr hm)) (fun _ => ?_)
    refine V_iconstv 1 dX2_setMetric_9 (by decide) ?_
    refine V_goto 14 dX2_setMetric_10 (by decide) ?_
    exact V_subk (rest true hm.symm) ⟨rfl, rfl, trivial⟩
  | false =>
    have hlt : idxF c 0 [109, 115, 103] < 0 := by
      refine Decidable.not_not.mp fun q => ?_
      rw [idxM.mp q] at hm
      cases hm
    refine V_if_lt 13 dX2_setMetric_6 (by decide) (fun _ => ?_) (fun c6 => absurd hlt c6)
    refine V_iconstv 0 dX2_setMetric_13 (by decide) ?_
    exact V_subk (rest false hm.symm) ⟨rfl, rfl, trivial⟩
theorem off_new {A : Nat → Prop} (wf0 : g_wf G0) (hB0 : g_B E ≤ G0.2.1) (hA : ∀ q, G0.2.1 ≤ q → A q) (hf : g_fit E G0 4 25) (kk : ∀ G', g_mod g_all G0 G' 4 25 → OffC E A G0.2.1 G' G0.2.1 oZ (G0.2.1 + 1) (G0.2.1 + 2) [] (G0.2.1 + 3) [] → P (.returned none) G') : g_Spc l E mX2_init 4 [.ref G0.2.1] (g_new G0 (g_ob 1 [.null, .null, .int 0, .int 0, .int 0, .int 0, .int 0, .int 0, .int 0, .int 0]) 10) P := by
  obtain ⟨hf1, hf2⟩ := hf
  refine V_intro (plainFor_of_name plX2) (Nat.le_of_ble_eq_true rfl) ?_
  refine V_okk fun ok => ?_
  have hemp : emp E < g_B E := by
    obtain ⟨cell, e1, -⟩ := emp_c ok
    exact (Array.getElem?_eq_some_iff.mp e1).1
  refine V_aload_n dX2_init_0 rfl (Or.inl ⟨_, rfl⟩) ?_
  refine V_objInit q177 q170 q171 dX2_init_1 (by decide) (by decide) ?_
  refine V_aload_n dX2_init_4 rfl (Or.inl ⟨_, rfl⟩) ?_
  refine V_new ckX3 q178 dX2_init_5 (by simp only [g_new]; omega) (by simp only [g_new]; omega) ?_
  refine V_dup dX2_init_8 rfl ?_
  refine V_callIN kX3_init rfl rfl q180 q181 dX2_init_9 ?_ (d' := 1) (as := []) (hst := rfl)
  refine (shf_init (g_new_at rfl) (by simp only [g_new]; omega) ⟨by simp only [g_new]; omega, by simp only [g_new]; omega⟩ ?_)
  refine V_put ckX2 (g_up_of (by simp only [g_new]; omega) (g_new_of (by simp only [g_new]; omega) (g_new_of (by simp only [g_new]; omega) (g_new_at rfl)))) (by first | assumption | omega | (simp only [g_new, g_up]; omega) | (simp only [g_new, g_up, g_B] at *; omega)) 0 (by decide) q223 rfl rfl rfl rfl (Nat.le_of_ble_eq_true rfl) dX2_init_12 ?_
  refine V_aload_n dX2_init_15 rfl (Or.inl ⟨_, rfl⟩) ?_
  refine V_new ckJ2 q195 dX2_init_16 (by simp only [g_new, g_up]; omega) (by simp only [g_new, g_up]; omega) ?_
  refine V_dup dX2_init_19 rfl ?_
  refine V_callI kJ2_init rfl rfl q197 q198 dX2_init_20 ?_ (d' := 3) (as := []) (hst := rfl)
  refine (als_init (g_new_at rfl) (by simp only [g_new, g_up]; omega) ?_)
  refine V_putF ckX2 (g_up_of (by simp only [g_new, g_up]; omega) (g_new_of (by simp only [g_new, g_up]; omega) g_up_at)) (by first | assumption | omega | (simp only [g_new, g_up]; omega) | (simp only [g_new, g_up, g_B] at *; omega)) 1 (by decide) q225 rfl rfl rfl rfl rfl rfl (Nat.le_of_ble_eq_true rfl) dX2_init_23 ?_
  refine V_aload_n dX2_init_26 rfl (Or.inl ⟨_, rfl⟩) ?_
  refine V_bipushv 109 dX2_init_27 (by decide) ?_
  refine V_put ckX2 g_up_at (by first | assumption | omega | (simp only [g_new, g_up]; omega) | (simp only [g_new, g_up, g_B] at *; omega)) 2 (by decide) q227 rfl rfl rfl rfl (Nat.le_of_ble_eq_true rfl) dX2_init_29 ?_
  refine V_return dX2_init_32 rfl ?_
  refine kk _ ⟨?_, ?_, ?_, ?_, ?_⟩ ⟨Nat.le_refl _, hA _ (Nat.le_refl _), ⟨109, by decide, rfl⟩, g_up_at, ⟨by omega, by omega, hA _ (by omega), hA _ (by omega), ?_, Nat.zero_le _, fun _ => none, ?_, fun k a hk => by cases hk⟩, ⟨rfl, List.nodup_nil, fun k a r hk => by cases hk⟩, ⟨by omega, hA _ (by omega), 0, emp E, ?_, Or.inl ⟨rfl, rfl⟩⟩, ⟨rfl, fun k a r hk => by cases hk⟩, Nat.zero_le _, AlsNo.of (ar := emp E) (mc := 0) (sz := nI 0) ?_ (by omega)⟩
  · intro q x _ hx
    have hq := wf0 _ _ hx
    repeat (first | exact g_up_at | exact g_new_at rfl | assumption | refine g_up_of (by first | assumption | (simp only [g_new, g_up]; omega) | omega) ?_ | refine g_new_of (by first | assumption | (simp only [g_new, g_up]; omega) | omega) ?_)
  · simp only [g_new, g_up]; omega
  · simp only [g_new, g_up]; omega
  · simp only [g_new, g_up]; omega
  · simp only [g_new, g_up]; omega
  · repeat (first | exact g_up_at | exact g_new_at rfl | assumption | refine g_up_of (by first | assumption | (simp only [g_new, g_up]; omega) | omega) ?_ | refine g_new_of (by first | assumption | (simp only [g_new, g_up]; omega) | omega) ?_)
  · repeat (first | exact g_up_at | exact g_new_at rfl | assumption | refine g_up_of (by first | assumption | (simp only [g_new, g_up]; omega) | omega) ?_ | refine g_new_of (by first | assumption | (simp only [g_new, g_up]; omega) | omega) ?_)
  · repeat (first | exact g_up_at | exact g_new_at rfl | assumption | refine g_up_of (by first | assumption | (simp only [g_new, g_up]; omega) | omega) ?_ | refine g_new_of (by first | assumption | (simp only [g_new, g_up]; omega) | omega) ?_)
  · repeat (first | exact g_up_at | exact g_new_at rfl | assumption | refine g_up_of (by first | assumption | (simp only [g_new, g_up]; omega) | omega) ?_ | refine g_new_of (by first | assumption | (simp only [g_new, g_up]; omega) | omega) ?_)
theorem off_copy {A : Nat → Prop} {n a s pa al : Nat} {fs rs : List Nat} {o : Of} (h : OffC E A n G a o s pa fs al rs) (hA : ∀ q, G.2.1 ≤ q → A q) (hf : g_fit E G 30 700) (kk : ∀ G' b, g_mod g_all G G' 30 700 → G.2.1 ≤ b → OffAt E A G.2.1 G' b o → P (.returned (some (.ref b))) G') : g_Spc l E mX2_copy 7 [.ref a] G P := by
  obtain ⟨hf1, hf2⟩ := hf
  have hl := h.len
  have hC := h.2.2.1
  refine V_intro (plainFor_of_name plX2) (Nat.le_of_ble_eq_true rfl) ?_
  refine V_wf (fun wf hBG => ?_)
  refine V_new ckX2 q363 dX2_copy_0 (by first | omega | (simp only [g_new, g_up]; omega)) (by first | omega | (simp only [g_new, g_up]; omega)) ?_
  refine V_dup dX2_copy_3 rfl ?_
  refine V_callI kX2_init rfl rfl q364 q175 dX2_copy_4 ?_ (d' := 4) (as := []) (hst := rfl)
  refine (off_new wf hBG hA ⟨by omega, by omega⟩ (fun G1 m1 hN => ?_))
  refine V_astore_n dX2_copy_7 (Or.inl ⟨_, rfl⟩) (by decide) ?_
  refine V_aload_n dX2_copy_8 rfl (Or.inl ⟨_, rfl⟩) ?_
  refine V_aload_n dX2_copy_9 rfl (Or.inl ⟨_, rfl⟩) ?_
  have h1 := h.keep (m1.1.mono fun _ _ => trivial)
  have m1' := m1
  obtain ⟨a1, a2, a3, a4, a5⟩ := m1'
  refine V_okk fun ok => V_wf fun wf1 _ => ?_
  have hemp : emp E < g_B E := by
    obtain ⟨cell, e1, -⟩ := emp_c ok
    exact (Array.getElem?_eq_some_iff.mp e1).1
  refine V_get ckX2 h1.2.2.2.1 0 (by decide) q223 rfl (by rfl) dX2_copy_10 ?_
  refine V_callV (q := (RX3, TX3, 2)) kX3_copy q365 q366 q367 h1.2.2.2.2.1.2.2.2.2.1 rfl dX2_copy_13 ?_ (d' := 3) (as := []) (hst := rfl)
  refine (shf_copy ⟨pa, fs, h1.2.2.2.2.1, h1.2.2.2.2.2.1⟩ (fun q hq => hA q (by omega)) ⟨by omega, by omega⟩ (fun G2 s2 pa2 fs2 m2 hS2 hF2 => ?_))
  have m2' := m2
  obtain ⟨b1, b2, b3, b4, b5⟩ := m2'
  have hN2 := hN.keep (b1.mono fun _ _ => trivial)
  refine V_wf (fun wf2 hBG2 => ?_)
  have hO2 := hN2.2.2.2.1
  obtain ⟨-, -, -, -, hs2c, -, f2, hp2c, -⟩ := id hS2
  have hs2o : s2 ≠ G.2.1 := g_apart hs2c hO2 (by intro e; cases e)
  have hp2o : pa2 ≠ G.2.1 := g_apart hp2c hO2 (by intro e; cases e)
  have halo : G.2.1 + 3 ≠ G.2.1 := by omega
  have hAN : AlsNo G2 (G.2.1 + 3) pa2 := by
    have hpl1 : G1.2.1 ≤ pa2 := hS2.2.1
    obtain ⟨-, -, mc, ar, hc, hor⟩ := hN.2.2.2.2.2.2.1
    refine AlsNo.of (b1 _ _ trivial hc) ?_
    rcases hor with ⟨-, e⟩ | ⟨-, -, cap, f, -, -, -, hg, -⟩
    · omega
    · have := wf1 _ _ hg
      omega
  have kU : g_ke (fun q => q ≠ G.2.1) G2 (g_up G2 G.2.1 (offO oZ s2 (G.2.1 + 3))) := g_ke.up (fun q => q rfl) _
  have nF : ∀ {GG : g_G} {y : va_E} {c : Nat}, GG.1 c = some y → isF y = false → ∀ q x, GG.1 q = some x → isF x = true → q ≠ c := fun hc hy q x hx hi e => by
    subst e
    rw [hc] at hx
    cases hx
    rw [hy] at hi
    cases hi
  have loop : ∀ i, i ≤ o.2.1.length → ∀ (G3 : g_G), g_mod g_all G G3 (17 + i) (79 + 90 * i) → G3.1 G.2.1 = some (offO oZ s2 (G.2.1 + 3)) → ShfS E A G.2.1 G3 s2 pa2 fs2 → FsAt E A G.2.1 G3 fs2 (agL o) → AlsAt E A G.2.1 G3 (G.2.1 + 3) (rs.take i) → RsAt E A G3 (rs.take i) (o.2.1.take i) → AlsNo G3 (G.2.1 + 3) pa2 → V l E mX2_copy 7 P 21 [(0, .ref a), (1, .ref G.2.1), (2, .int (nI i))] [] G3 := by
    refine down _ ?_ ?_
    · intro G3 m3 e1 e2 e3 e4 e5 e6
      have h3 := h.keep (m3.1.mono fun _ _ => trivial)
      have k4 := h3.2.2.2.1
      obtain ⟨mc, ar, hc⟩ := h3.2.2.2.2.2.2.1.cell
      have hne : a ≠ G.2.1 := Nat.ne_of_lt (wf _ _ h.2.2.2.1)
      have hBo : g_B E ≤ G.2.1 := hBG
      rw [List.take_of_length_le (by omega)] at e4
      rw [List.take_of_length_le (by omega), List.take_of_length_le (Nat.le_refl _)] at e5
      refine V_iload_n dX2_copy_21 rfl ?_
      refine V_aload_n dX2_copy_22 rfl (Or.inl ⟨_, rfl⟩) ?_
      refine V_get ckX2 (by first | assumption | (repeat (first | exact g_up_at | exact g_new_at rfl | assumption | refine g_up_of (by first | assumption | (simp only [g_new, g_up]; omega) | omega) ?_ | refine g_new_of (by first | assumption | (simp only [g_new, g_up]; omega) | omega) ?_))) 1 (by decide) q225 rfl (by rfl) dX2_copy_23 ?_
      refine V_callF (q := (RJ2, TJ2, 3)) (x := ⟨"java/util/List", "size", "()I"⟩) kJ2_size q526 ⟨by decide +kernel, by decide +kernel⟩ q528 q527 q533 q531 q529 (by decide +kernel) q532 q530 hc rfl dX2_copy_26 ?_ (d' := 0) (as := []) (hst := rfl)
      refine (h3.2.2.2.2.2.2.1.size ?_)
      refine V_icmp_ge 63 dX2_copy_31 (by decide) (fun _ => ?_) (fun c31 => absurd (by rw [hl.2.1]; exact Int32.le_refl _) c31)
      refine V_aload_n dX2_copy_63 rfl (Or.inl ⟨_, rfl⟩) ?_
      refine V_aload_n dX2_copy_64 rfl (Or.inl ⟨_, rfl⟩) ?_
      refine V_get ckX2 (by first | assumption | (repeat (first | exact g_up_at | exact g_new_at rfl | assumption | refine g_up_of (by first | assumption | (simp only [g_new, g_up]; omega) | omega) ?_ | refine g_new_of (by first | assumption | (simp only [g_new, g_up]; omega) | omega) ?_))) 2 (by decide) q227 rfl (by rfl) dX2_copy_65 ?_
      refine V_put ckX2 (by first | assumption | (repeat (first | exact g_up_at | exact g_new_at rfl | assumption | refine g_up_of (by first | assumption | (simp only [g_new, g_up]; omega) | omega) ?_ | refine g_new_of (by first | assumption | (simp only [g_new, g_up]; omega) | omega) ?_))) (by first | assumption | omega | (simp only [g_new, g_up]; omega) | (simp only [g_new, g_up, g_B] at *; omega)) 2 (by decide) q227 rfl rfl hC.nar hC.fit (Nat.le_of_ble_eq_true rfl) dX2_copy_68 ?_
      refine V_aload_n dX2_copy_71 rfl (Or.inl ⟨_, rfl⟩) ?_
      refine V_aload_n dX2_copy_72 rfl (Or.inl ⟨_, rfl⟩) ?_
      refine V_get ckX2 (g_up_of hne k4) 3 (by decide) q229 rfl (by rfl) dX2_copy_73 ?_
      refine V_put ckX2 g_up_at (by first | assumption | omega | (simp only [g_new, g_up]; omega) | (simp only [g_new, g_up, g_B] at *; omega)) 3 (by decide) q229 rfl rfl rfl rfl (Nat.le_of_ble_eq_true rfl) dX2_copy_76 ?_
      refine V_aload_n dX2_copy_79 rfl (Or.inl ⟨_, rfl⟩) ?_
      refine V_aload_n dX2_copy_80 rfl (Or.inl ⟨_, rfl⟩) ?_
      refine V_get ckX2 (g_up_of hne (g_up_of hne k4)) 4 (by decide) q230 rfl (by rfl) dX2_copy_81 ?_
      rw [g_up_up]
      refine V_put ckX2 g_up_at (by first | assumption | omega | (simp only [g_new, g_up]; omega) | (simp only [g_new, g_up, g_B] at *; omega)) 4 (by decide) q230 rfl rfl rfl rfl (Nat.le_of_ble_eq_true rfl) dX2_copy_84 ?_
      refine V_aload_n dX2_copy_87 rfl (Or.inl ⟨_, rfl⟩) ?_
      refine V_aload_n dX2_copy_88 rfl (Or.inl ⟨_, rfl⟩) ?_
      refine V_get ckX2 (g_up_of hne (g_up_of hne k4)) 5 (by decide) q231 rfl (by rfl) dX2_copy_89 ?_
      rw [g_up_up]
      refine V_put ckX2 g_up_at (by first | assumption | omega | (simp only [g_new, g_up]; omega) | (simp only [g_new, g_up, g_B] at *; omega)) 5 (by decide) q231 rfl rfl rfl rfl (Nat.le_of_ble_eq_true rfl) dX2_copy_92 ?_
      refine V_aload_n dX2_copy_95 rfl (Or.inl ⟨_, rfl⟩) ?_
      refine V_aload_n dX2_copy_96 rfl (Or.inl ⟨_, rfl⟩) ?_
      refine V_get ckX2 (g_up_of hne (g_up_of hne k4)) 6 (by decide) q233 rfl (by rfl) dX2_copy_97 ?_
      rw [g_up_up]
      refine V_put ckX2 g_up_at (by first | assumption | omega | (simp only [g_new, g_up]; omega) | (simp only [g_new, g_up, g_B] at *; omega)) 6 (by decide) q233 rfl rfl rfl rfl (Nat.le_of_ble_eq_true rfl) dX2_copy_100 ?_
      refine V_aload_n dX2_copy_103 rfl (Or.inl ⟨_, rfl⟩) ?_
      refine V_aload_n dX2_copy_104 rfl (Or.inl ⟨_, rfl⟩) ?_
      refine V_get ckX2 (g_up_of hne (g_up_of hne k4)) 7 (by decide) q235 rfl (by rfl) dX2_copy_105 ?_
      rw [g_up_up]
      refine V_put ckX2 g_up_at (by first | assumption | omega | (simp only [g_new, g_up]; omega) | (simp only [g_new, g_up, g_B] at *; omega)) 7 (by decide) q235 rfl rfl rfl rfl (Nat.le_of_ble_eq_true rfl) dX2_copy_108 ?_
      refine V_aload_n dX2_copy_111 rfl (Or.inl ⟨_, rfl⟩) ?_
      refine V_aload_n dX2_copy_112 rfl (Or.inl ⟨_, rfl⟩) ?_
      refine V_get ckX2 (g_up_of hne (g_up_of hne k4)) 8 (by decide) q236 rfl (by rfl) dX2_copy_113 ?_
      rw [g_up_up]
      refine V_put ckX2 g_up_at (by first | assumption | omega | (simp only [g_new, g_up]; omega) | (simp only [g_new, g_up, g_B] at *; omega)) 8 (by decide) q236 rfl rfl rfl rfl (Nat.le_of_ble_eq_true rfl) dX2_copy_116 ?_
      refine V_aload_n dX2_copy_119 rfl (Or.inl ⟨_, rfl⟩) ?_
      refine V_aload_n dX2_copy_120 rfl (Or.inl ⟨_, rfl⟩) ?_
      refine V_get ckX2 (g_up_of hne (g_up_of hne k4)) 9 (by decide) q237 rfl (by rfl) dX2_copy_121 ?_
      rw [g_up_up]
      refine V_put ckX2 g_up_at (by first | assumption | omega | (simp only [g_new, g_up]; omega) | (simp only [g_new, g_up, g_B] at *; omega)) 9 (by decide) q237 rfl rfl rfl rfl (Nat.le_of_ble_eq_true rfl) dX2_copy_124 ?_
      rw [g_up_up]
      refine V_aload_n dX2_copy_127 rfl (Or.inl ⟨_, rfl⟩) ?_
      refine V_areturnO dX2_copy_128 rfl ?_
      have kO : g_ke (fun q => q ≠ G.2.1) G3 (g_up G3 G.2.1 (offO o s2 (G.2.1 + 3))) := g_ke.up (fun q => q rfl) _
      obtain ⟨-, -, -, -, hs3c, -, f3, hp3c, -⟩ := id e2
      have hy : isF (offO oZ s2 (G.2.1 + 3)) = false := rfl
      obtain ⟨n1, n2, n3, n4, n5⟩ := m3
      refine kk (g_up G3 G.2.1 (offO o s2 (G.2.1 + 3))) G.2.1 ⟨fun q x _ hx => g_up_of (Nat.ne_of_lt (wf _ _ hx)) (n1 q x trivial hx), by simp only [g_up]; omega, by simp only [g_up]; omega, by simp only [g_up]; omega, by simp only [g_up]; omega⟩ (Nat.le_refl _) ⟨s2, pa2, fs2, G.2.1 + 3, rs, Nat.le_refl _, hA _ (Nat.le_refl _), hC, g_up_at, e2.ke2 kO hs2o hp2o, e3.ke3 kO (nF e1 hy), e4.ke2 kO halo (fun ar' hq e => ?_), e5.ke3 kO (nF e1 hy), by omega, AlsNo.back e4 (fun x hx => g_up_of halo hx) e6⟩
      subst e
      obtain ⟨-, -, cap, g, hg⟩ := hq
      rw [e1] at hg
      cases hg
    · intro i hi ih G3 m3 e1 e2 e3 e4 e5 e6
      refine V_wf (fun wf3 _ => ?_)
      have h3 := h.keep (m3.1.mono fun _ _ => trivial)
      have k4 := h3.2.2.2.1
      obtain ⟨mc, ar, hc⟩ := h3.2.2.2.2.2.2.1.cell
      obtain ⟨mc3, ar3, hc3⟩ := e4.cell
      obtain ⟨r, hr, -⟩ := drop_at hi
      obtain ⟨q, hq, hR⟩ := h3.2.2.2.2.2.2.2.1.at hr
      obtain ⟨-, tq, hqc, -⟩ := id hR
      have hql : q < G.2.1 := by
        obtain ⟨q', hq', -, tq', hqc', -⟩ := h.2.2.2.2.2.2.2.1.at hr
        rw [hq] at hq'
        cases hq'
        exact wf _ _ hqc'
      have m3' := m3
      obtain ⟨n1, n2, n3, n4, n5⟩ := m3'
      obtain ⟨-, -, -, -, hs3c, -, f3, hp3c, -⟩ := id e2
      refine V_iload_n dX2_copy_21 rfl ?_
      refine V_aload_n dX2_copy_22 rfl (Or.inl ⟨_, rfl⟩) ?_
      refine V_get ckX2 (by first | assumption | (repeat (first | exact g_up_at | exact g_new_at rfl | assumption | refine g_up_of (by first | assumption | (simp only [g_new, g_up]; omega) | omega) ?_ | refine g_new_of (by first | assumption | (simp only [g_new, g_up]; omega) | omega) ?_))) 1 (by decide) q225 rfl (by rfl) dX2_copy_23 ?_
      refine V_callF (q := (RJ2, TJ2, 3)) (x := ⟨"java/util/List", "size", "()I"⟩) kJ2_size q526 ⟨by decide +kernel, by decide +kernel⟩ q528 q527 q533 q531 q529 (by decide +kernel) q532 q530 hc rfl dX2_copy_26 ?_ (d' := 0) (as := []) (hst := rfl)
      refine (h3.2.2.2.2.2.2.1.size ?_)
      refine V_icmp_ge 63 dX2_copy_31 (by decide) (fun c31 => absurd c31 (nI_ge (by omega) (by omega))) (fun _ => ?_)
      refine V_aload_n dX2_copy_34 rfl (Or.inl ⟨_, rfl⟩) ?_
      refine V_get ckX2 (by first | assumption | (repeat (first | exact g_up_at | exact g_new_at rfl | assumption | refine g_up_of (by first | assumption | (simp only [g_new, g_up]; omega) | omega) ?_ | refine g_new_of (by first | assumption | (simp only [g_new, g_up]; omega) | omega) ?_))) 1 (by decide) q225 rfl (by rfl) dX2_copy_35 ?_
      refine V_aload_n dX2_copy_38 rfl (Or.inl ⟨_, rfl⟩) ?_
      refine V_get ckX2 (by first | assumption | (repeat (first | exact g_up_at | exact g_new_at rfl | assumption | refine g_up_of (by first | assumption | (simp only [g_new, g_up]; omega) | omega) ?_ | refine g_new_of (by first | assumption | (simp only [g_new, g_up]; omega) | omega) ?_))) 1 (by decide) q225 rfl (by rfl) dX2_copy_39 ?_
      refine V_iload_n dX2_copy_42 rfl ?_
      refine V_callF (q := (RJ2, TJ2, 3)) (x := ⟨"java/util/List", "get", "(I)Ljava/lang/Object;"⟩) kJ2_get q542 ⟨by decide +kernel, by decide +kernel⟩ q544 q543 q548 q546 q529 (by decide +kernel) q547 q545 hc rfl dX2_copy_43 ?_ (d' := 2) (as := [_]) (hst := rfl)
      refine (als_get (k := i) h3.2.2.2.2.2.2.1 rfl hq ?_)
      refine V_castS (q := (RX12, TX12, 4)) (by first | assumption | (repeat (first | exact g_up_at | exact g_new_at rfl | assumption | refine g_up_of (by first | assumption | (simp only [g_new, g_up]; omega) | omega) ?_ | refine g_new_of (by first | assumption | (simp only [g_new, g_up]; omega) | omega) ?_))) rfl q836 dX2_copy_48 ?_
      refine V_callF (q := (RJ2, TJ2, 3)) (x := ⟨"java/util/List", "add", "(Ljava/lang/Object;)Z"⟩) kJ2_add q838 ⟨by decide +kernel, by decide +kernel⟩ q840 q839 q844 q842 q529 (by decide +kernel) q843 q841 hc3 rfl dX2_copy_51 ?_ (d' := 6) (as := [_]) (hst := rfl)
      refine (als_add e4 hBG n2 (fun z hz => hA z (by omega)) hqc (g_cast_of (q := (RX12, TX12, 4)) rfl q3327) (by omega) (e5.el hc3) (by rw [List.length_take]; omega) ⟨by omega, by omega⟩ (fun G4 m4 hno4 hal4 => ?_))
      refine V_pop dX2_copy_56 rfl ?_
      refine V_iinc dX2_copy_57 rfl (by decide) ?_
      refine V_goto 21 dX2_copy_60 (by decide) ?_
      have m4' := m4
      obtain ⟨p1, p2, p3, p4, p5⟩ := m4'
      have nA : ∀ q x, G3.1 q = some x → isF x = true → q ≠ G.2.1 + 3 ∧ ¬ AlsAr E G.2.1 G3 (G.2.1 + 3) q := fun q x hx hi => by
        refine ⟨nF hc3 rfl q x hx hi, ?_⟩
        intro ⟨_, _, cap, g, hg⟩
        rw [hx] at hg
        cases hg
        cases (show false = true from hi)
      have noO : ∀ {z : Nat} {ci : Nat} {vs : List Value}, G3.1 z = some (g_ob ci vs) → ¬ AlsAr E G.2.1 G3 (G.2.1 + 3) z := fun hz hq => by
        obtain ⟨_, _, cap, g, hg⟩ := hq
        rw [hz] at hg
        cases hg
      have c1 := p1 _ _ ⟨halo.symm, noO e1⟩ e1
      have s1 := e2.ke2 p1 ⟨g_apart hs3c hc3 (by intro e; cases e), noO hs3c⟩ ⟨g_apart hp3c hc3 (by intro e; cases e), AlsNo.ar e6⟩
      have r1 := (e5.ke3 p1 nA)
      have r2 := hR.ke2 p1 (nA _ _ hqc rfl) (fun q x hx hi => nA q x hx (isF_T hi))
      have hpl : pa2 < G3.2.1 := by
        exact wf3 _ _ hp3c
      refine V_subk (ih G4 ⟨fun z x _ hx => p1 z x ⟨by have := wf _ _ hx; omega, fun hq => by have := wf _ _ hx; have := hq.1; omega⟩ (n1 z x trivial hx), by omega, by omega, by omega, by omega⟩ c1 s1 (e3.ke3 p1 nA) (by rw [take_push hq]; exact hal4) (by rw [take_push hq, take_push hr]; exact RsAt.push r1 r2) (hno4 _ hpl e6)) ⟨rfl, rfl, ?_, trivial⟩
      rw [← nI_1 i]; rfl
  refine V_put ckX2 (by first | assumption | (repeat (first | exact g_up_at | exact g_new_at rfl | assumption | refine g_up_of (by first | assumption | (simp only [g_new, g_up]; omega) | omega) ?_ | refine g_new_of (by first | assumption | (simp only [g_new, g_up]; omega) | omega) ?_))) (by first | assumption | omega | (simp only [g_new, g_up]; omega) | (simp only [g_new, g_up, g_B] at *; omega)) 0 (by decide) q223 rfl rfl rfl rfl (Nat.le_of_ble_eq_true rfl) dX2_copy_16 ?_
  refine V_iconstv 0 dX2_copy_19 (by decide) ?_
  refine V_istore_n dX2_copy_20 (by decide) ?_
  have hy : isF (offO oZ (G.2.1 + 1) (G.2.1 + 3)) = false := rfl
  refine V_subk (loop 0 (Nat.zero_le _) _ ⟨fun q x _ hx => g_up_of (Nat.ne_of_lt (wf _ _ hx)) (b1 q x trivial (a1 q x trivial hx)), by simp only [g_up]; omega, by simp only [g_up]; omega, by simp only [g_up]; omega, by simp only [g_up]; omega⟩ g_up_at ((hS2.monoL wf2 a2 (fun _ _ h => h)).ke2 kU hs2o hp2o) ((hF2.monoL wf2 a2 (fun _ _ h => h)).ke3 kU (nF hO2 hy)) (hN2.2.2.2.2.2.2.1.ke2 kU halo (fun ar' hq e => ?_)) ⟨rfl, fun k a r hk => by cases hk⟩ ?_) ⟨rfl, rfl, rfl, trivial⟩
  · subst e
    obtain ⟨-, -, cap, g, hg⟩ := hq
    rw [hO2] at hg
    cases hg
  · exact AlsNo.back hN2.2.2.2.2.2.2.1 (fun x hx => g_up_of halo hx) hAN
end COPY
