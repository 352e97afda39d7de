/-! MODULE Parser: command (printed by wip gen/mk9h.py) -/
set_option maxRecDepth 100000
theorem rs_eq {L : List Int32} {w : Bool} {c : Int32} {o' i' j : Nat} {A : Nat → Int32} {v : Int32} {b : Bool} (e : rdR w L i' c = (v, j, b)) : rs L 0 c o' (i', w, A) = (j, b, upd A (8 * 0 + o') v) := by
  show ((rdR _ L _ _).2.1, (rdR _ L _ _).2.2, upd _ _ (rdR _ L _ _).1) = _
  rw [e]
theorem rs_tt {L : List Int32} {n : Nat} {c : Int32} {o' : Nat} {s : RS} (h : s.2.1 = true) : (rs L n c o' s).1 = s.1 ∧ (rs L n c o' s).2.1 = true := by
  unfold rs
  rw [h, rdR_t]
  exact ⟨rfl, rfl⟩
section PCMD
variable {l : Launch} {E : g_E} {P : Outcome → g_G → Prop} {G : g_G}
theorem PaAt.low {pr ta i n : Nat} {L : List Int32} {G' : g_G} (wf : g_wf G) (h : PaAt E G pr ta L i) (hk : g_ke (fun z => z < n) G G') (hn : G.2.1 ≤ n) : PaAt E G' pr ta L i :=
  ⟨hk _ _ (Nat.lt_of_lt_of_le (wf _ _ h.1) hn) h.1, h.2.ke2 hk fun q x hx _ => Nat.lt_of_lt_of_le (wf q x hx) hn⟩
theorem pc_fin {pr ta q i j N kind : Nat} {L : List Int32} {F0 F : Nat → Int32} {z0 : Int32} (wf : g_wf G) (hP : PaAt E G pr ta L i) (hqp : q ≠ pr) (hql : q < G.2.1) (hR : StrR E G q (cmW kind) (hsh (cmW kind)) z0) (hN : nAr kind ≤ N) (hN5 : N ≤ 5) : ∀ G', G' = g_up (g_up (g_up (g_new (g_new G (g_ob 7 [.null, .null]) 2) (g_ai E N F0) N) pr (g_ob 16 [.ref ta, .int (nI j)])) (G.2.1 + 1) (g_ai E N F)) G.2.1 (g_ob 7 [.ref q, .ref (G.2.1 + 1)]) → g_mod (fun z => z ≠ pr) G G' 2 7 ∧ CmdAt E G' G.2.1 kind F ∧ PaAt E G' pr ta L j := by
  intro G' e
  have hpr := wf _ _ hP.1
  have hm : g_mod (fun z => z ≠ pr) G G' 2 7 := by
    subst e
    refine ⟨fun z x hz hx => ?_, ?_, ?_, ?_, ?_⟩
    · have hzl := wf _ _ hx
      exact g_up_of (by omega) (g_up_of (by omega) (g_up_of hz (g_new_of (by simp only [g_new]; omega) (g_new_of (by omega) hx))))
    · simp only [g_new, g_up]; omega
    · simp only [g_new, g_up]; omega
    · simp only [g_new, g_up]; omega
    · simp only [g_new, g_up]; omega
  have hR' : StrR E G' q (cmW kind) (hsh (cmW kind)) z0 := hR.ke2 hm.1 (fun z y hy hi e => by
    subst e
    rw [hP.1] at hy
    cases hy
    cases hi)
  have hP' : PaAt E G' pr ta L j := by
    refine ⟨?_, hP.2.ke2 hm.1 (fun z y hy hi e => by
      subst e
      rw [hP.1] at hy
      cases hy
      cases hi)⟩
    subst e
    exact g_up_of (by omega) (g_up_of (by omega) g_up_at)
  refine ⟨hm, ⟨q, G.2.1 + 1, N, z0, ?_, hR', ?_, hN, hN5⟩, hP'⟩
  · subst e; exact g_up_at
  · subst e; exact g_up_of (by omega) g_up_at
theorem pc_fin0 {pr ta q i N kind : Nat} {L : List Int32} {F : Nat → Int32} {z0 : Int32} (wf : g_wf G) (hP : PaAt E G pr ta L i) (hql : q < G.2.1) (hR : StrR E G q (cmW kind) (hsh (cmW kind)) z0) (hN : nAr kind ≤ N) (hN5 : N ≤ 5) : ∀ G', G' = g_up (g_new (g_new G (g_ob 7 [.null, .null]) 2) (g_ai E N F) N) G.2.1 (g_ob 7 [.ref q, .ref (G.2.1 + 1)]) → g_mod (fun z => z ≠ pr) G G' 2 7 ∧ CmdAt E G' G.2.1 kind F ∧ PaAt E G' pr ta L i := by
  intro G' e
  have hm : g_mod g_all G G' 2 7 := by
    subst e
    refine ⟨fun z x _ hx => ?_, ?_, ?_, ?_, ?_⟩
    · have hzl := wf _ _ hx
      exact g_up_of (by omega) (g_new_of (by simp only [g_new]; omega) (g_new_of (by omega) hx))
    · simp only [g_new, g_up]; omega
    · simp only [g_new, g_up]; omega
    · simp only [g_new, g_up]; omega
    · simp only [g_new, g_up]; omega
  refine ⟨hm.wide (fun _ _ => trivial) (Nat.le_refl _) (Nat.le_refl _), ⟨q, G.2.1 + 1, N, z0, ?_, hR.keep hm.1, ?_, hN, hN5⟩, hP.keep hm.1⟩
  · subst e; exact g_up_at
  · subst e; exact g_up_of (by omega) (g_new_at (by simp only [g_new]))
theorem pc_0 {pr ta i q : Nat} {L : List Int32} (hN : StrN E G q (cmW 0)) (h : PaAt E G pr ta L i) (hB : g_B E ≤ pr) (hBq : g_B E ≤ q) (hqp : q ≠ pr) (hqt : ta ≠ q) (hT : TxC L) (hi : i ≤ L.length) (hf : g_fit E G 6 40) (kt : ∀ (f A : Nat → Int32) (j : Nat), rsA L 0 0 (i, false, fun _ => 0) = (j, false, A) → (∀ z, z < nAr 0 → f z = A z) → j ≤ L.length → ∀ G' c, g_mod (fun z => z ≠ pr ∧ z ≠ q) G G' 4 30 → CmdAt E G' c 0 f → PaAt E G' pr ta L j → G.2.1 ≤ c → P (.returned (some (.ref c))) G') (kf : ∀ j, (rsA L 0 0 (i, false, fun _ => 0)).1 = j → (rsA L 0 0 (i, false, fun _ => 0)).2.1 = true → ∀ qq G', g_mod (fun z => z ≠ pr ∧ z ≠ q) G G' 6 40 → SyAt G' qq (nI j) → P (.threw qq) G') : V l E mX18_command 10 P 4 [(0, .ref pr)] [.ref q] G := by
  obtain ⟨hf1, hf2⟩ := hf
  refine V_wf (fun wf0 hBG0 => ?_)
  obtain ⟨va0, hq0, -⟩ := id hN
  have hqG := wf0 _ _ hq0
  have go : ∀ G1 : g_G, G1.2 = G.2 → g_ke (fun z => z ≠ q) G G1 → StrR E G1 q (cmW 0) (hsh (cmW 0)) 0 → PaAt E G1 pr ta L i → V l E mX18_command 10 P 220 [(0, .ref pr), (1, .ref q)] [] G1 := by
    intro G1 eG hk1 hR hP
    refine V_wf (fun wf hBG => ?_)
    have hprl := wf _ _ hP.1
    have e21 : G1.2.1 = G.2.1 := by rw [eG]
    have e22 : G1.2.2 = G.2.2 := by rw [eG]
    have hql : q < G1.2.1 := by rw [e21]; exact hqG
    have up : ∀ {G2 : g_G} {c s c1 s1 : Nat}, g_mod (fun z => z ≠ pr) G1 G2 c s → c ≤ c1 → s ≤ s1 → g_mod (fun z => z ≠ pr ∧ z ≠ q) G G2 c1 s1 := fun m hc hs => ⟨fun z y hz hy => m.1 z y hz.1 (hk1 z y hz.2 hy), by have := m.2.1; omega, by have := m.2.2.1; omega, by have := m.2.2.2.1; omega, by have := m.2.2.2.2; omega⟩
    have keepR : ∀ {G2 : g_G}, g_ke (fun z => z ≠ pr) G1 G2 → StrR E G2 q (cmW 0) (hsh (cmW 0)) 0 := fun hk => hR.ke2 hk (fun z y hy hi e => by
      subst e
      rw [hP.1] at hy
      cases hy
      cases hi)
    have fail : ∀ {pc : Nat} {LL : List (Nat × Value)} (j : Nat), (rsA L 0 0 (i, false, fun _ => 0)).1 = j → (rsA L 0 0 (i, false, fun _ => 0)).2.1 = true → ∀ qq G2, g_mod (fun z => z ≠ pr) G1 G2 6 40 → SyAt G2 qq (nI j) → VX l E mX18_command 10 P pc LL qq G2 := fun j h1 h2 qq G2 m hs => VX_out (ci := 0) (fs := []) rfl (kf j h1 h2 qq G2 (up m (Nat.le_refl _) (Nat.le_refl _)) hs)
    refine V_aload_n dX18_command_220 rfl (Or.inl ⟨_, rfl⟩) ?_
    refine V_callV (q := (RX18, TX18, 2)) kX18_colour q2497 q2499 qs40 hP.1 rfl dX18_command_221 ?_ (d' := 9) (as := []) (hst := rfl)
    refine (pa_colour hP hB hT hi ⟨by omega, by omega⟩ (fun v1 v2 v3 j1 j2 j3 q1 q2 q3 hj G2 m hca hP2 => ?_) (fun j hj qq G2 m hs => fail j ?_ ?_ qq G2 (m.wide (fun _ h => h) (by decide) (by decide)) hs))
    rotate_left
    · exact (rs_tt (hj (fun _ => 0)).2).1.trans (hj (fun _ => 0)).1
    · exact (rs_tt (hj (fun _ => 0)).2).2
    obtain ⟨a1, a2, a3, a4, a5⟩ := id m
    refine V_wf (fun wf2 hBG2 => ?_)
    have hcal := wf2 _ _ hca
    have hpr2 := wf2 _ _ hP2.1
    have hR2 := keepR a1
    have hq2 : q < G2.2.1 := by omega
    have e3 : rsA L 0 0 (i, false, fun _ => 0) = rs L 0 32 3 (j3, false, upd (upd (upd (fun _ => 0) (8 * 0 + 0) v1) (8 * 0 + 1) v2) (8 * 0 + 2) v3) := by
      show rs L 0 32 3 (rs L 0 47 2 (rs L 0 47 1 (rs L 0 32 0 (i, false, fun _ => 0)))) = _
      rw [rs_eq q1, rs_eq q2, rs_eq q3]
    refine V_astore dX18_command_224 (Or.inl ⟨_, rfl⟩) (by decide) ?_
    refine V_new ckX8 q2509 dX18_command_226 (by first | omega | (simp only [g_new, g_up]; omega)) (by first | omega | (simp only [g_new, g_up]; omega)) ?_
    refine V_dup dX18_command_229 rfl ?_
    refine V_aload_n dX18_command_230 rfl (Or.inl ⟨_, rfl⟩) ?_
    refine V_iconstv 4 dX18_command_231 (by decide) ?_
    refine V_newarray_int 4 rfl (by decide) q388 dX18_command_232 (by first | omega | (simp only [g_new, g_up]; omega)) (by first | omega | (simp only [g_new, g_up]; omega)) ?_
    refine V_dup dX18_command_234 rfl ?_
    refine V_iconstv 0 dX18_command_235 (by decide) ?_
    refine V_aload dX18_command_236 rfl (Or.inl ⟨_, rfl⟩) ?_
    refine V_iconstv 0 dX18_command_238 (by decide) ?_
    refine V_iaload (by first | assumption | (repeat (first | exact g_up_at | exact g_new_at rfl | assumption | refine g_up_of (by first | assumption | (simp only [g_new, g_up]; omega) | omega) ?_ | refine g_new_of (by first | assumption | (simp only [g_new, g_up]; omega) | omega) ?_))) (by first | assumption | exact g_in (by decide)) q388 dX18_command_239 ?_
    refine V_iastore (g_new_at rfl) (by first | assumption | omega | (simp only [g_new, g_up]; omega) | (simp only [g_new, g_up, g_B] at *; omega)) (by first | assumption | exact g_in (by decide)) q388 dX18_command_240 ?_
    rw [g_new_up rfl]
    refine V_dup dX18_command_241 rfl ?_
    refine V_iconstv 1 dX18_command_242 (by decide) ?_
    refine V_aload dX18_command_243 rfl (Or.inl ⟨_, rfl⟩) ?_
    refine V_iconstv 1 dX18_command_245 (by decide) ?_
    refine V_iaload (by first | assumption | (repeat (first | exact g_up_at | exact g_new_at rfl | assumption | refine g_up_of (by first | assumption | (simp only [g_new, g_up]; omega) | omega) ?_ | refine g_new_of (by first | assumption | (simp only [g_new, g_up]; omega) | omega) ?_))) (by first | assumption | exact g_in (by decide)) q388 dX18_command_246 ?_
    refine V_iastore (g_new_at rfl) (by first | assumption | omega | (simp only [g_new, g_up]; omega) | (simp only [g_new, g_up, g_B] at *; omega)) (by first | assumption | exact g_in (by decide)) q388 dX18_command_247 ?_
    rw [g_new_up rfl]
    refine V_dup dX18_command_248 rfl ?_
    refine V_iconstv 2 dX18_command_249 (by decide) ?_
    refine V_aload dX18_command_250 rfl (Or.inl ⟨_, rfl⟩) ?_
    refine V_iconstv 2 dX18_command_252 (by decide) ?_
    refine V_iaload (by first | assumption | (repeat (first | exact g_up_at | exact g_new_at rfl | assumption | refine g_up_of (by first | assumption | (simp only [g_new, g_up]; omega) | omega) ?_ | refine g_new_of (by first | assumption | (simp only [g_new, g_up]; omega) | omega) ?_))) (by first | assumption | exact g_in (by decide)) q388 dX18_command_253 ?_
    refine V_iastore (g_new_at rfl) (by first | assumption | omega | (simp only [g_new, g_up]; omega) | (simp only [g_new, g_up, g_B] at *; omega)) (by first | assumption | exact g_in (by decide)) q388 dX18_command_254 ?_
    rw [g_new_up rfl]
    have wfa := wf2.new (g_ob 7 [.null, .null]) 2
    have hPn : ∀ F, PaAt E (g_new (g_new G2 (g_ob 7 [.null, .null]) 2) (g_ai E 4 F) 4) pr ta L j3 := fun F => hP2.keep ((g_ke.new wf2 _ _).trans (g_ke.new wfa _ _))
    refine V_dup dX18_command_255 rfl ?_
    refine V_iconstv 3 dX18_command_256 (by decide) ?_
    refine V_aload_n dX18_command_257 rfl (Or.inl ⟨_, rfl⟩) ?_
    refine V_bipushv 32 dX18_command_258 (by decide) ?_
    refine V_callV (q := (RX18, TX18, 2)) kX18_numberAfter q2501 q2503 qs41 (hPn _).1 rfl dX18_command_260 ?_ (d' := 8) (as := [_]) (hst := rfl)
    refine (pa_number (hPn _) hB hT hj (Or.inl rfl) ⟨by simp only [g_new]; omega, by simp only [g_new]; omega⟩ (fun v4 j4 q4 hjn => ?_) (fun v4 j4 q4 qq G4 m4 hs => fail j4 ?_ ?_ qq G4 ?_ hs))
    rotate_left
    · rw [e3, rs_eq q4]
    · rw [e3, rs_eq q4]
    · obtain ⟨c1, c2, c3, c4, c5⟩ := m4
      simp only [g_new] at c2 c3 c4 c5
      obtain ⟨d1, d2, d3, d4, d5⟩ := m
      exact ⟨fun z x hz hx => c1 z x hz (g_new_of (wfa.ne ((g_ke.new (A := g_all) wf2 _ _) z x trivial (d1 z x hz hx))) (g_new_of (wf2.ne (d1 z x hz hx)) (d1 z x hz hx))), by omega, by omega, by omega, by omega⟩
    refine V_iastore (g_up_of (by simp only [g_new]; omega) (g_new_at rfl)) (by first | assumption | omega | (simp only [g_new, g_up]; omega) | (simp only [g_new, g_up, g_B] at *; omega)) (by first | assumption | exact g_in (by decide)) q388 dX18_command_263 ?_
    refine V_callI kX8_init rfl rfl q2510 q939 dX18_command_264 ?_ (d' := 1) (as := [_, _]) (hst := rfl)
    refine (cmm_init (by repeat (first | exact g_up_at | exact g_new_at rfl | assumption | refine g_up_of (by first | assumption | (simp only [g_new, g_up]; omega) | omega) ?_ | refine g_new_of (by first | assumption | (simp only [g_new, g_up]; omega) | omega) ?_)) (by first | assumption | omega | (simp only [g_new, g_up]; omega) | (simp only [g_new, g_up, g_B] at *; omega)) ?_)
    refine V_areturnO dX18_command_267 rfl ?_
    obtain ⟨f1, f2, f3⟩ := pc_fin (kind := 0) (N := 4) wf2 hP2 hqp hq2 hR2 (by decide) (by decide) _ rfl
    refine kt _ _ j4 (by rw [e3, rs_eq q4]) ?_ hjn _ _ (up ((m.trans f1)) (by decide) (by decide)) f2 f3 (by omega)
    intro z hz
    match z, hz with
    | 0, _ => rfl
    | 1, _ => rfl
    | 2, _ => rfl
    | 3, _ => rfl
  refine V_astore_n dX18_command_4 (Or.inl ⟨_, rfl⟩) (by decide) ?_
  refine V_aload_n dX18_command_5 rfl (Or.inl ⟨_, rfl⟩) ?_
  refine V_astore_n dX18_command_6 (Or.inl ⟨_, rfl⟩) (by decide) ?_
  refine V_iconstv (-1) dX18_command_7 (by decide) ?_
  refine V_istore_n dX18_command_8 (by decide) ?_
  refine V_aload_n dX18_command_9 rfl (Or.inl ⟨_, rfl⟩) ?_
  refine V_callV (q := (RJ7, TJ7, 4)) kJ7_hashCode q2488 q954 q955 hq0 rfl dX18_command_10 ?_ (d' := 3) (as := []) (hst := rfl)
  refine (str_hashN hN hBq (allC (by decide +kernel)) (by decide) (by decide) (by decide +kernel) (fun G1 eG hk hR1 => ?_))
  obtain ⟨va1, hx1, -⟩ := id hR1
  have hP1 : PaAt E G1 pr ta L i := by
    obtain ⟨va9, ha9, f9, hb9, hc9⟩ := h.2
    exact ⟨hk _ _ (fun e => hqp e.symm) h.1, va9, hk _ _ hqt ha9, f9, hk _ _ (g_apart hb9 hq0 (by intro e; cases e)) hb9, hc9⟩
  refine V_lookup (off := 67) 80 dX18_command_13 (by decide) (by decide +kernel) (by decide) ?_
  refine V_aload_n dX18_command_80 rfl (Or.inl ⟨_, rfl⟩) ?_
  refine V_sc scX18_88 q2489 dX18_command_81 (by decide) rfl (fun hS81 => ?_)
  refine V_callVR (q := (RJ7, TJ7, 4)) kJ7_equals q2490 q1016 q1017 hx1 rfl dX18_command_83 ?_ (d' := 1) (as := [_]) (hst := rfl)
  refine (str_equals hR1 hS81 (by decide) ?_)
  refine V_if_eq 176 dX18_command_86 (by decide) (fun c86 => absurd c86 (by decide)) (fun _ => ?_)
  refine V_iconstv 0 dX18_command_89 (by decide) ?_
  refine V_istore_n dX18_command_90 (by decide) ?_
  refine V_goto 176 dX18_command_91 (by decide) ?_
  refine V_iload_n dX18_command_176 rfl ?_
  refine V_tableIn 220 dX18_command_177 (by decide) (by decide) rfl (by decide) ?_
  exact V_subk (go G1 eG hk hR1 hP1) ⟨rfl, rfl, trivial⟩
theorem pc_1 {pr ta i q : Nat} {L : List Int32} (hN : StrN E G q (cmW 1)) (h : PaAt E G pr ta L i) (hB : g_B E ≤ pr) (hBq : g_B E ≤ q) (hqp : q ≠ pr) (hqt : ta ≠ q) (hT : TxC L) (hi : i ≤ L.length) (hf : g_fit E G 6 40) (kt : ∀ (f A : Nat → Int32) (j : Nat), rsA L 0 1 (i, false, fun _ => 0) = (j, false, A) → (∀ z, z < nAr 1 → f z = A z) → j ≤ L.length → ∀ G' c, g_mod (fun z => z ≠ pr ∧ z ≠ q) G G' 4 30 → CmdAt E G' c 1 f → PaAt E G' pr ta L j → G.2.1 ≤ c → P (.returned (some (.ref c))) G') (kf : ∀ j, (rsA L 0 1 (i, false, fun _ => 0)).1 = j → (rsA L 0 1 (i, false, fun _ => 0)).2.1 = true → ∀ qq G', g_mod (fun z => z ≠ pr ∧ z ≠ q) G G' 6 40 → SyAt G' qq (nI j) → P (.threw qq) G') : V l E mX18_command 10 P 4 [(0, .ref pr)] [.ref q] G := by
  obtain ⟨hf1, hf2⟩ := hf
  refine V_wf (fun wf0 hBG0 => ?_)
  obtain ⟨va0, hq0, -⟩ := id hN
  have hqG := wf0 _ _ hq0
  have go : ∀ G1 : g_G, G1.2 = G.2 → g_ke (fun z => z ≠ q) G G1 → StrR E G1 q (cmW 1) (hsh (cmW 1)) 0 → PaAt E G1 pr ta L i → V l E mX18_command 10 P 268 [(0, .ref pr), (1, .ref q)] [] G1 := by
    intro G1 eG hk1 hR hP
    refine V_wf (fun wf hBG => ?_)
    have hprl := wf _ _ hP.1
    have e21 : G1.2.1 = G.2.1 := by rw [eG]
    have e22 : G1.2.2 = G.2.2 := by rw [eG]
    have hql : q < G1.2.1 := by rw [e21]; exact hqG
    have up : ∀ {G2 : g_G} {c s c1 s1 : Nat}, g_mod (fun z => z ≠ pr) G1 G2 c s → c ≤ c1 → s ≤ s1 → g_mod (fun z => z ≠ pr ∧ z ≠ q) G G2 c1 s1 := fun m hc hs => ⟨fun z y hz hy => m.1 z y hz.1 (hk1 z y hz.2 hy), by have := m.2.1; omega, by have := m.2.2.1; omega, by have := m.2.2.2.1; omega, by have := m.2.2.2.2; omega⟩
    have keepR : ∀ {G2 : g_G}, g_ke (fun z => z ≠ pr) G1 G2 → StrR E G2 q (cmW 1) (hsh (cmW 1)) 0 := fun hk => hR.ke2 hk (fun z y hy hi e => by
      subst e
      rw [hP.1] at hy
      cases hy
      cases hi)
    have fail : ∀ {pc : Nat} {LL : List (Nat × Value)} (j : Nat), (rsA L 0 1 (i, false, fun _ => 0)).1 = j → (rsA L 0 1 (i, false, fun _ => 0)).2.1 = true → ∀ qq G2, g_mod (fun z => z ≠ pr) G1 G2 6 40 → SyAt G2 qq (nI j) → VX l E mX18_command 10 P pc LL qq G2 := fun j h1 h2 qq G2 m hs => VX_out (ci := 0) (fs := []) rfl (kf j h1 h2 qq G2 (up m (Nat.le_refl _) (Nat.le_refl _)) hs)
    refine V_aload_n dX18_command_268 rfl (Or.inl ⟨_, rfl⟩) ?_
    refine V_callV (q := (RX18, TX18, 2)) kX18_colour q2497 q2499 qs40 hP.1 rfl dX18_command_269 ?_ (d' := 9) (as := []) (hst := rfl)
    refine (pa_colour hP hB hT hi ⟨by omega, by omega⟩ (fun v1 v2 v3 j1 j2 j3 q1 q2 q3 hj G2 m hca hP2 => ?_) (fun j hj qq G2 m hs => fail j ?_ ?_ qq G2 (m.wide (fun _ h => h) (by decide) (by decide)) hs))
    rotate_left
    · exact (rs_tt (rs_tt (hj (fun _ => 0)).2).2).1.trans ((rs_tt (hj (fun _ => 0)).2).1.trans (hj (fun _ => 0)).1)
    · exact (rs_tt (rs_tt (hj (fun _ => 0)).2).2).2
    obtain ⟨a1, a2, a3, a4, a5⟩ := id m
    refine V_wf (fun wf2 hBG2 => ?_)
    have hcal := wf2 _ _ hca
    have hpr2 := wf2 _ _ hP2.1
    have hR2 := keepR a1
    have hq2 : q < G2.2.1 := by omega
    have e3 : rsA L 0 1 (i, false, fun _ => 0) = rs L 0 32 4 (rs L 0 32 3 (j3, false, upd (upd (upd (fun _ => 0) (8 * 0 + 0) v1) (8 * 0 + 1) v2) (8 * 0 + 2) v3)) := by
      show rs L 0 32 4 (rs L 0 32 3 (rs L 0 47 2 (rs L 0 47 1 (rs L 0 32 0 (i, false, fun _ => 0))))) = _
      rw [rs_eq q1, rs_eq q2, rs_eq q3]
    refine V_astore dX18_command_272 (Or.inl ⟨_, rfl⟩) (by decide) ?_
    refine V_aload_n dX18_command_274 rfl (Or.inl ⟨_, rfl⟩) ?_
    refine V_bipushv 32 dX18_command_275 (by decide) ?_
    refine V_callV (q := (RX18, TX18, 2)) kX18_numberAfter q2501 q2503 qs41 hP2.1 rfl dX18_command_277 ?_ (d' := 8) (as := [_]) (hst := rfl)
    refine (pa_number hP2 hB hT hj (Or.inl rfl) ⟨by omega, by omega⟩ (fun v4 j4 q4 hj4 => ?_) (fun v4 j4 q4 qq G3 m3 hs => fail j4 ?_ ?_ qq G3 ?_ hs))
    rotate_left
    · rw [e3, rs_eq q4]; exact (rs_tt rfl).1
    · rw [e3, rs_eq q4]; exact (rs_tt rfl).2
    · exact (m.trans m3).wide (fun _ h => h) (by decide) (by decide)
    have hP3 : PaAt E (g_up G2 pr (g_ob 16 [.ref ta, .int (nI j4)])) pr ta L j4 := hP2.up
    have wf3 : g_wf (g_up G2 pr (g_ob 16 [.ref ta, .int (nI j4)])) := wf2.up hP2.1 _
    have hca3 : (g_up G2 pr (g_ob 16 [.ref ta, .int (nI j4)])).1 G1.2.1 = some (g_ai E 3 (upd (upd (upd (fun _ => 0) 0 v1) 1 v2) 2 v3)) := g_up_of (by omega) hca
    have k3 : g_ke (fun z => z ≠ pr) G2 (g_up G2 pr (g_ob 16 [.ref ta, .int (nI j4)])) := g_ke.up (fun q => q rfl) _
    have hR3 := keepR (a1.trans k3)
    have m3 : g_mod (fun z => z ≠ pr) G1 (g_up G2 pr (g_ob 16 [.ref ta, .int (nI j4)])) 1 3 := ⟨a1.trans k3, a2, a3, a4, a5⟩
    generalize hG3 : g_up G2 pr (g_ob 16 [.ref ta, .int (nI j4)]) = G3 at hP3 wf3 hca3 hR3 m3
    have e31 : G3.2.1 = G2.2.1 := by rw [← hG3]; rfl
    have e32 : G3.2.2 = G2.2.2 := by rw [← hG3]; rfl
    have hcal3 := wf3 _ _ hca3
    have hpr3 := wf3 _ _ hP3.1
    have hq3 : q < G3.2.1 := by omega
    obtain ⟨b1, b2, b3, b4, b5⟩ := id m3
    refine V_istore dX18_command_280 (by decide) ?_
    refine V_new ckX8 q2509 dX18_command_282 (by first | omega | (simp only [g_new, g_up]; omega)) (by first | omega | (simp only [g_new, g_up]; omega)) ?_
    refine V_dup dX18_command_285 rfl ?_
    refine V_aload_n dX18_command_286 rfl (Or.inl ⟨_, rfl⟩) ?_
    refine V_iconstv 5 dX18_command_287 (by decide) ?_
    refine V_newarray_int 5 rfl (by decide) q388 dX18_command_288 (by first | omega | (simp only [g_new, g_up]; omega)) (by first | omega | (simp only [g_new, g_up]; omega)) ?_
    refine V_dup dX18_command_290 rfl ?_
    refine V_iconstv 0 dX18_command_291 (by decide) ?_
    refine V_aload dX18_command_292 rfl (Or.inl ⟨_, rfl⟩) ?_
    refine V_iconstv 0 dX18_command_294 (by decide) ?_
    refine V_iaload (by first | assumption | (repeat (first | exact g_up_at | exact g_new_at rfl | assumption | refine g_up_of (by first | assumption | (simp only [g_new, g_up]; omega) | omega) ?_ | refine g_new_of (by first | assumption | (simp only [g_new, g_up]; omega) | omega) ?_))) (by first | assumption | exact g_in (by decide)) q388 dX18_command_295 ?_
    refine V_iastore (g_new_at rfl) (by first | assumption | omega | (simp only [g_new, g_up]; omega) | (simp only [g_new, g_up, g_B] at *; omega)) (by first | assumption | exact g_in (by decide)) q388 dX18_command_296 ?_
    rw [g_new_up rfl]
    refine V_dup dX18_command_297 rfl ?_
    refine V_iconstv 1 dX18_command_298 (by decide) ?_
    refine V_aload dX18_command_299 rfl (Or.inl ⟨_, rfl⟩) ?_
    refine V_iconstv 1 dX18_command_301 (by decide) ?_
    refine V_iaload (by first | assumption | (repeat (first | exact g_up_at | exact g_new_at rfl | assumption | refine g_up_of (by first | assumption | (simp only [g_new, g_up]; omega) | omega) ?_ | refine g_new_of (by first | assumption | (simp only [g_new, g_up]; omega) | omega) ?_))) (by first | assumption | exact g_in (by decide)) q388 dX18_command_302 ?_
    refine V_iastore (g_new_at rfl) (by first | assumption | omega | (simp only [g_new, g_up]; omega) | (simp only [g_new, g_up, g_B] at *; omega)) (by first | assumption | exact g_in (by decide)) q388 dX18_command_303 ?_
    rw [g_new_up rfl]
    refine V_dup dX18_command_304 rfl ?_
    refine V_iconstv 2 dX18_command_305 (by decide) ?_
    refine V_aload dX18_command_306 rfl (Or.inl ⟨_, rfl⟩) ?_
    refine V_iconstv 2 dX18_command_308 (by decide) ?_
    refine V_iaload (by first | assumption | (repeat (first | exact g_up_at | exact g_new_at rfl | assumption | refine g_up_of (by first | assumption | (simp only [g_new, g_up]; omega) | omega) ?_ | refine g_new_of (by first | assumption | (simp only [g_new, g_up]; omega) | omega) ?_))) (by first | assumption | exact g_in (by decide)) q388 dX18_command_309 ?_
    refine V_iastore (g_new_at rfl) (by first | assumption | omega | (simp only [g_new, g_up]; omega) | (simp only [g_new, g_up, g_B] at *; omega)) (by first | assumption | exact g_in (by decide)) q388 dX18_command_310 ?_
    rw [g_new_up rfl]
    refine V_dup dX18_command_311 rfl ?_
    refine V_iconstv 3 dX18_command_312 (by decide) ?_
    refine V_iload dX18_command_313 rfl ?_
    refine V_iastore (g_new_at rfl) (by first | assumption | omega | (simp only [g_new, g_up]; omega) | (simp only [g_new, g_up, g_B] at *; omega)) (by first | assumption | exact g_in (by decide)) q388 dX18_command_315 ?_
    rw [g_new_up rfl]
    have wfa := wf3.new (g_ob 7 [.null, .null]) 2
    have hPn : ∀ F, PaAt E (g_new (g_new G3 (g_ob 7 [.null, .null]) 2) (g_ai E 5 F) 5) pr ta L j4 := fun F => hP3.keep ((g_ke.new wf3 _ _).trans (g_ke.new wfa _ _))
    refine V_dup dX18_command_316 rfl ?_
    refine V_iconstv 4 dX18_command_317 (by decide) ?_
    refine V_aload_n dX18_command_318 rfl (Or.inl ⟨_, rfl⟩) ?_
    refine V_bipushv 32 dX18_command_319 (by decide) ?_
    refine V_callV (q := (RX18, TX18, 2)) kX18_numberAfter q2501 q2503 qs41 (hPn _).1 rfl dX18_command_321 ?_ (d' := 8) (as := [_]) (hst := rfl)
    refine (pa_number (hPn _) hB hT hj4 (Or.inl rfl) ⟨by simp only [g_new]; omega, by simp only [g_new]; omega⟩ (fun v5 j5 q5 hjn => ?_) (fun v5 j5 q5 qq G4 m4 hs => fail j5 ?_ ?_ qq G4 ?_ hs))
    rotate_left
    · rw [e3, rs_eq q4, rs_eq q5]
    · rw [e3, rs_eq q4, rs_eq q5]
    · obtain ⟨c1, c2, c3, c4, c5⟩ := m4
      simp only [g_new] at c2 c3 c4 c5
      obtain ⟨d1, d2, d3, d4, d5⟩ := m3
      exact ⟨fun z x hz hx => c1 z x hz (g_new_of (wfa.ne ((g_ke.new (A := g_all) wf3 _ _) z x trivial (d1 z x hz hx))) (g_new_of (wf3.ne (d1 z x hz hx)) (d1 z x hz hx))), by omega, by omega, by omega, by omega⟩
    refine V_iastore (g_up_of (by simp only [g_new]; omega) (g_new_at rfl)) (by first | assumption | omega | (simp only [g_new, g_up]; omega) | (simp only [g_new, g_up, g_B] at *; omega)) (by first | assumption | exact g_in (by decide)) q388 dX18_command_324 ?_
    refine V_callI kX8_init rfl rfl q2510 q939 dX18_command_325 ?_ (d' := 1) (as := [_, _]) (hst := rfl)
    refine (cmm_init (by repeat (first | exact g_up_at | exact g_new_at rfl | assumption | refine g_up_of (by first | assumption | (simp only [g_new, g_up]; omega) | omega) ?_ | refine g_new_of (by first | assumption | (simp only [g_new, g_up]; omega) | omega) ?_)) (by first | assumption | omega | (simp only [g_new, g_up]; omega) | (simp only [g_new, g_up, g_B] at *; omega)) ?_)
    refine V_areturnO dX18_command_328 rfl ?_
    obtain ⟨f1, f2, f3⟩ := pc_fin (kind := 1) (N := 5) wf3 hP3 hqp hq3 hR3 (by decide) (by decide) _ rfl
    refine kt _ _ j5 (by rw [e3, rs_eq q4, rs_eq q5]) ?_ hjn _ _ (up ((m3.trans f1)) (by decide) (by decide)) f2 f3 (by omega)
    intro z hz
    match z, hz with
    | 0, _ => rfl
    | 1, _ => rfl
    | 2, _ => rfl
    | 3, _ => rfl
    | 4, _ => rfl
  refine V_astore_n dX18_command_4 (Or.inl ⟨_, rfl⟩) (by decide) ?_
  refine V_aload_n dX18_command_5 rfl (Or.inl ⟨_, rfl⟩) ?_
  refine V_astore_n dX18_command_6 (Or.inl ⟨_, rfl⟩) (by decide) ?_
  refine V_iconstv (-1) dX18_command_7 (by decide) ?_
  refine V_istore_n dX18_command_8 (by decide) ?_
  refine V_aload_n dX18_command_9 rfl (Or.inl ⟨_, rfl⟩) ?_
  refine V_callV (q := (RJ7, TJ7, 4)) kJ7_hashCode q2488 q954 q955 hq0 rfl dX18_command_10 ?_ (d' := 3) (as := []) (hst := rfl)
  refine (str_hashN hN hBq (allC (by decide +kernel)) (by decide) (by decide) (by decide +kernel) (fun G1 eG hk hR1 => ?_))
  obtain ⟨va1, hx1, -⟩ := id hR1
  have hP1 : PaAt E G1 pr ta L i := by
    obtain ⟨va9, ha9, f9, hb9, hc9⟩ := h.2
    exact ⟨hk _ _ (fun e => hqp e.symm) h.1, va9, hk _ _ hqt ha9, f9, hk _ _ (g_apart hb9 hq0 (by intro e; cases e)) hb9, hc9⟩
  refine V_lookup (off := 81) 94 dX18_command_13 (by decide) (by decide +kernel) (by decide) ?_
  refine V_aload_n dX18_command_94 rfl (Or.inl ⟨_, rfl⟩) ?_
  refine V_sc scX18_94 q2491 dX18_command_95 (by decide) rfl (fun hS95 => ?_)
  refine V_callVR (q := (RJ7, TJ7, 4)) kJ7_equals q2490 q1016 q1017 hx1 rfl dX18_command_97 ?_ (d' := 1) (as := [_]) (hst := rfl)
  refine (str_equals hR1 hS95 (by decide) ?_)
  refine V_if_eq 176 dX18_command_100 (by decide) (fun c100 => absurd c100 (by decide)) (fun _ => ?_)
  refine V_iconstv 1 dX18_command_103 (by decide) ?_
  refine V_istore_n dX18_command_104 (by decide) ?_
  refine V_goto 176 dX18_command_105 (by decide) ?_
  refine V_iload_n dX18_command_176 rfl ?_
  refine V_tableIn 268 dX18_command_177 (by decide) (by decide) rfl (by decide) ?_
  exact V_subk (go G1 eG hk hR1 hP1) ⟨rfl, rfl, trivial⟩
theorem pc_2 {pr ta i q : Nat} {L : List Int32} (hN : StrN E G q (cmW 2)) (h : PaAt E G pr ta L i) (hB : g_B E ≤ pr) (hBq : g_B E ≤ q) (hqp : q ≠ pr) (hqt : ta ≠ q) (hT : TxC L) (hi : i ≤ L.length) (hf : g_fit E G 6 40) (kt : ∀ (f A : Nat → Int32) (j : Nat), rsA L 0 2 (i, false, fun _ => 0) = (j, false, A) → (∀ z, z < nAr 2 → f z = A z) → j ≤ L.length → ∀ G' c, g_mod (fun z => z ≠ pr ∧ z ≠ q) G G' 4 30 → CmdAt E G' c 2 f → PaAt E G' pr ta L j → G.2.1 ≤ c → P (.returned (some (.ref c))) G') (kf : ∀ j, (rsA L 0 2 (i, false, fun _ => 0)).1 = j → (rsA L 0 2 (i, false, fun _ => 0)).2.1 = true → ∀ qq G', g_mod (fun z => z ≠ pr ∧ z ≠ q) G G' 6 40 → SyAt G' qq (nI j) → P (.threw qq) G') : V l E mX18_command 10 P 4 [(0, .ref pr)] [.ref q] G := by
  obtain ⟨hf1, hf2⟩ := hf
  refine V_wf (fun wf0 hBG0 => ?_)
  obtain ⟨va0, hq0, -⟩ := id hN
  have hqG := wf0 _ _ hq0
  have go : ∀ G1 : g_G, G1.2 = G.2 → g_ke (fun z => z ≠ q) G G1 → StrR E G1 q (cmW 2) (hsh (cmW 2)) 0 → PaAt E G1 pr ta L i → V l E mX18_command 10 P 428 [(0, .ref pr), (1, .ref q)] [] G1 := by
    intro G1 eG hk1 hR hP
    refine V_wf (fun wf hBG => ?_)
    have hprl := wf _ _ hP.1
    have e21 : G1.2.1 = G.2.1 := by rw [eG]
    have e22 : G1.2.2 = G.2.2 := by rw [eG]
    have hql : q < G1.2.1 := by rw [e21]; exact hqG
    have up : ∀ {G2 : g_G} {c s c1 s1 : Nat}, g_mod (fun z => z ≠ pr) G1 G2 c s → c ≤ c1 → s ≤ s1 → g_mod (fun z => z ≠ pr ∧ z ≠ q) G G2 c1 s1 := fun m hc hs => ⟨fun z y hz hy => m.1 z y hz.1 (hk1 z y hz.2 hy), by have := m.2.1; omega, by have := m.2.2.1; omega, by have := m.2.2.2.1; omega, by have := m.2.2.2.2; omega⟩
    have keepR : ∀ {G2 : g_G}, g_ke (fun z => z ≠ pr) G1 G2 → StrR E G2 q (cmW 2) (hsh (cmW 2)) 0 := fun hk => hR.ke2 hk (fun z y hy hi e => by
      subst e
      rw [hP.1] at hy
      cases hy
      cases hi)
    have fail : ∀ {pc : Nat} {LL : List (Nat × Value)} (j : Nat), (rsA L 0 2 (i, false, fun _ => 0)).1 = j → (rsA L 0 2 (i, false, fun _ => 0)).2.1 = true → ∀ qq G2, g_mod (fun z => z ≠ pr) G1 G2 6 40 → SyAt G2 qq (nI j) → VX l E mX18_command 10 P pc LL qq G2 := fun j h1 h2 qq G2 m hs => VX_out (ci := 0) (fs := []) rfl (kf j h1 h2 qq G2 (up m (Nat.le_refl _) (Nat.le_refl _)) hs)
    have wfa := wf.new (g_ob 7 [.null, .null]) 2
    have hPn : ∀ F, PaAt E (g_new (g_new G1 (g_ob 7 [.null, .null]) 2) (g_ai E 1 F) 1) pr ta L i := fun F => hP.keep ((g_ke.new wf _ _).trans (g_ke.new wfa _ _))
    refine V_new ckX8 q2509 dX18_command_428 (by first | omega | (simp only [g_new, g_up]; omega)) (by first | omega | (simp only [g_new, g_up]; omega)) ?_
    refine V_dup dX18_command_431 rfl ?_
    refine V_aload_n dX18_command_432 rfl (Or.inl ⟨_, rfl⟩) ?_
    refine V_iconstv 1 dX18_command_433 (by decide) ?_
    refine V_newarray_int 1 rfl (by decide) q388 dX18_command_434 (by first | omega | (simp only [g_new, g_up]; omega)) (by first | omega | (simp only [g_new, g_up]; omega)) ?_
    refine V_dup dX18_command_436 rfl ?_
    refine V_iconstv 0 dX18_command_437 (by decide) ?_
    refine V_aload_n dX18_command_438 rfl (Or.inl ⟨_, rfl⟩) ?_
    refine V_bipushv 32 dX18_command_439 (by decide) ?_
    refine V_callV (q := (RX18, TX18, 2)) kX18_numberAfter q2501 q2503 qs41 (hPn _).1 rfl dX18_command_441 ?_ (d' := 8) (as := [_]) (hst := rfl)
    refine (pa_number (hPn _) hB hT hi (Or.inl rfl) ⟨by simp only [g_new]; omega, by simp only [g_new]; omega⟩ (fun v j q1 hjn => ?_) (fun v j q1 qq G4 m4 hs => fail j ?_ ?_ qq G4 ?_ hs))
    rotate_left
    · show (rs L 0 32 0 (i, false, fun _ => 0)).1 = j
      rw [rs_eq q1]
    · show (rs L 0 32 0 (i, false, fun _ => 0)).2.1 = true
      rw [rs_eq q1]
    · obtain ⟨c1, c2, c3, c4, c5⟩ := m4
      simp only [g_new] at c2 c3 c4 c5
      exact ⟨fun z x hz hx => c1 z x hz (g_new_of (wfa.ne ((g_ke.new (A := g_all) wf _ _) z x trivial hx)) (g_new_of (wf.ne hx) hx)), by omega, by omega, by omega, by omega⟩
    refine V_iastore (g_up_of (by simp only [g_new]; omega) (g_new_at rfl)) (by first | assumption | omega | (simp only [g_new, g_up]; omega) | (simp only [g_new, g_up, g_B] at *; omega)) (by first | assumption | exact g_in (by decide)) q388 dX18_command_444 ?_
    refine V_callI kX8_init rfl rfl q2510 q939 dX18_command_445 ?_ (d' := 1) (as := [_, _]) (hst := rfl)
    refine (cmm_init (by repeat (first | exact g_up_at | exact g_new_at rfl | assumption | refine g_up_of (by first | assumption | (simp only [g_new, g_up]; omega) | omega) ?_ | refine g_new_of (by first | assumption | (simp only [g_new, g_up]; omega) | omega) ?_)) (by first | assumption | omega | (simp only [g_new, g_up]; omega) | (simp only [g_new, g_up, g_B] at *; omega)) ?_)
    refine V_areturnO dX18_command_448 rfl ?_
    obtain ⟨f1, f2, f3⟩ := pc_fin (kind := 2) (N := 1) wf hP hqp hql hR (by decide) (by decide) _ rfl
    refine kt _ _ j (show rs L 0 32 0 (i, false, fun _ => 0) = _ from rs_eq q1) ?_ hjn _ _ (up f1 (by decide) (by decide)) f2 f3 (by omega)
    intro z hz
    match z, hz with
    | 0, _ => rfl
  refine V_astore_n dX18_command_4 (Or.inl ⟨_, rfl⟩) (by decide) ?_
  refine V_aload_n dX18_command_5 rfl (Or.inl ⟨_, rfl⟩) ?_
  refine V_astore_n dX18_command_6 (Or.inl ⟨_, rfl⟩) (by decide) ?_
  refine V_iconstv (-1) dX18_command_7 (by decide) ?_
  refine V_istore_n dX18_command_8 (by decide) ?_
  refine V_aload_n dX18_command_9 rfl (Or.inl ⟨_, rfl⟩) ?_
  refine V_callV (q := (RJ7, TJ7, 4)) kJ7_hashCode q2488 q954 q955 hq0 rfl dX18_command_10 ?_ (d' := 3) (as := []) (hst := rfl)
  refine (str_hashN hN hBq (allC (by decide +kernel)) (by decide) (by decide) (by decide +kernel) (fun G1 eG hk hR1 => ?_))
  obtain ⟨va1, hx1, -⟩ := id hR1
  have hP1 : PaAt E G1 pr ta L i := by
    obtain ⟨va9, ha9, f9, hb9, hc9⟩ := h.2
    exact ⟨hk _ _ (fun e => hqp e.symm) h.1, va9, hk _ _ hqt ha9, f9, hk _ _ (g_apart hb9 hq0 (by intro e; cases e)) hb9, hc9⟩
  refine V_lookup (off := 163) 176 dX18_command_13 (by decide) (by decide +kernel) (by decide) ?_
  refine V_iload_n dX18_command_176 rfl ?_
  refine V_tableOut 428 dX18_command_177 (Or.inl (by decide)) (by decide) ?_
  exact V_subk (go G1 eG hk hR1 hP1) ⟨rfl, rfl, trivial⟩
theorem pc_3 {pr ta i q : Nat} {L : List Int32} (hN : StrN E G q (cmW 3)) (h : PaAt E G pr ta L i) (hB : g_B E ≤ pr) (hBq : g_B E ≤ q) (hqp : q ≠ pr) (hqt : ta ≠ q) (hT : TxC L) (hi : i ≤ L.length) (hf : g_fit E G 6 40) (kt : ∀ (f A : Nat → Int32) (j : Nat), rsA L 0 3 (i, false, fun _ => 0) = (j, false, A) → (∀ z, z < nAr 3 → f z = A z) → j ≤ L.length → ∀ G' c, g_mod (fun z => z ≠ pr ∧ z ≠ q) G G' 4 30 → CmdAt E G' c 3 f → PaAt E G' pr ta L j → G.2.1 ≤ c → P (.returned (some (.ref c))) G') (kf : ∀ j, (rsA L 0 3 (i, false, fun _ => 0)).1 = j → (rsA L 0 3 (i, false, fun _ => 0)).2.1 = true → ∀ qq G', g_mod (fun z => z ≠ pr ∧ z ≠ q) G G' 6 40 → SyAt G' qq (nI j) → P (.threw qq) G') : V l E mX18_command 10 P 4 [(0, .ref pr)] [.ref q] G := by
  obtain ⟨hf1, hf2⟩ := hf
  refine V_wf (fun wf0 hBG0 => ?_)
  obtain ⟨va0, hq0, -⟩ := id hN
  have hqG := wf0 _ _ hq0
  have go : ∀ G1 : g_G, G1.2 = G.2 → g_ke (fun z => z ≠ q) G G1 → StrR E G1 q (cmW 3) (hsh (cmW 3)) 0 → PaAt E G1 pr ta L i → V l E mX18_command 10 P 428 [(0, .ref pr), (1, .ref q)] [] G1 := by
    intro G1 eG hk1 hR hP
    refine V_wf (fun wf hBG => ?_)
    have hprl := wf _ _ hP.1
    have e21 : G1.2.1 = G.2.1 := by rw [eG]
    have e22 : G1.2.2 = G.2.2 := by rw [eG]
    have hql : q < G1.2.1 := by rw [e21]; exact hqG
    have up : ∀ {G2 : g_G} {c s c1 s1 : Nat}, g_mod (fun z => z ≠ pr) G1 G2 c s → c ≤ c1 → s ≤ s1 → g_mod (fun z => z ≠ pr ∧ z ≠ q) G G2 c1 s1 := fun m hc hs => ⟨fun z y hz hy => m.1 z y hz.1 (hk1 z y hz.2 hy), by have := m.2.1; omega, by have := m.2.2.1; omega, by have := m.2.2.2.1; omega, by have := m.2.2.2.2; omega⟩
    have keepR : ∀ {G2 : g_G}, g_ke (fun z => z ≠ pr) G1 G2 → StrR E G2 q (cmW 3) (hsh (cmW 3)) 0 := fun hk => hR.ke2 hk (fun z y hy hi e => by
      subst e
      rw [hP.1] at hy
      cases hy
      cases hi)
    have fail : ∀ {pc : Nat} {LL : List (Nat × Value)} (j : Nat), (rsA L 0 3 (i, false, fun _ => 0)).1 = j → (rsA L 0 3 (i, false, fun _ => 0)).2.1 = true → ∀ qq G2, g_mod (fun z => z ≠ pr) G1 G2 6 40 → SyAt G2 qq (nI j) → VX l E mX18_command 10 P pc LL qq G2 := fun j h1 h2 qq G2 m hs => VX_out (ci := 0) (fs := []) rfl (kf j h1 h2 qq G2 (up m (Nat.le_refl _) (Nat.le_refl _)) hs)
    have wfa := wf.new (g_ob 7 [.null, .null]) 2
    have hPn : ∀ F, PaAt E (g_new (g_new G1 (g_ob 7 [.null, .null]) 2) (g_ai E 1 F) 1) pr ta L i := fun F => hP.keep ((g_ke.new wf _ _).trans (g_ke.new wfa _ _))
    refine V_new ckX8 q2509 dX18_command_428 (by first | omega | (simp only [g_new, g_up]; omega)) (by first | omega | (simp only [g_new, g_up]; omega)) ?_
    refine V_dup dX18_command_431 rfl ?_
    refine V_aload_n dX18_command_432 rfl (Or.inl ⟨_, rfl⟩) ?_
    refine V_iconstv 1 dX18_command_433 (by decide) ?_
    refine V_newarray_int 1 rfl (by decide) q388 dX18_command_434 (by first | omega | (simp only [g_new, g_up]; omega)) (by first | omega | (simp only [g_new, g_up]; omega)) ?_
    refine V_dup dX18_command_436 rfl ?_
    refine V_iconstv 0 dX18_command_437 (by decide) ?_
    refine V_aload_n dX18_command_438 rfl (Or.inl ⟨_, rfl⟩) ?_
    refine V_bipushv 32 dX18_command_439 (by decide) ?_
    refine V_callV (q := (RX18, TX18, 2)) kX18_numberAfter q2501 q2503 qs41 (hPn _).1 rfl dX18_command_441 ?_ (d' := 8) (as := [_]) (hst := rfl)
    refine (pa_number (hPn _) hB hT hi (Or.inl rfl) ⟨by simp only [g_new]; omega, by simp only [g_new]; omega⟩ (fun v j q1 hjn => ?_) (fun v j q1 qq G4 m4 hs => fail j ?_ ?_ qq G4 ?_ hs))
    rotate_left
    · show (rs L 0 32 0 (i, false, fun _ => 0)).1 = j
      rw [rs_eq q1]
    · show (rs L 0 32 0 (i, false, fun _ => 0)).2.1 = true
      rw [rs_eq q1]
    · obtain ⟨c1, c2, c3, c4, c5⟩ := m4
      simp only [g_new] at c2 c3 c4 c5
      exact ⟨fun z x hz hx => c1 z x hz (g_new_of (wfa.ne ((g_ke.new (A := g_all) wf _ _) z x trivial hx)) (g_new_of (wf.ne hx) hx)), by omega, by omega, by omega, by omega⟩
    refine V_iastore (g_up_of (by simp only [g_new]; omega) (g_new_at rfl)) (by first | assumption | omega | (simp only [g_new, g_up]; omega) | (simp only [g_new, g_up, g_B] at *; omega)) (by first | assumption | exact g_in (by decide)) q388 dX18_command_444 ?_
    refine V_callI kX8_init rfl rfl q2510 q939 dX18_command_445 ?_ (d' := 1) (as := [_, _]) (hst := rfl)
    refine (cmm_init (by repeat (first | exact g_up_at | exact g_new_at rfl | assumption | refine g_up_of (by first | assumption | (simp only [g_new, g_up]; omega) | omega) ?_ | refine g_new_of (by first | assumption | (simp only [g_new, g_up]; omega) | omega) ?_)) (by first | assumption | omega | (simp only [g_new, g_up]; omega) | (simp only [g_new, g_up, g_B] at *; omega)) ?_)
    refine V_areturnO dX18_command_448 rfl ?_
    obtain ⟨f1, f2, f3⟩ := pc_fin (kind := 3) (N := 1) wf hP hqp hql hR (by decide) (by decide) _ rfl
    refine kt _ _ j (show rs L 0 32 0 (i, false, fun _ => 0) = _ from rs_eq q1) ?_ hjn _ _ (up f1 (by decide) (by decide)) f2 f3 (by omega)
    intro z hz
    match z, hz with
    | 0, _ => rfl
  refine V_astore_n dX18_command_4 (Or.inl ⟨_, rfl⟩) (by decide) ?_
  refine V_aload_n dX18_command_5 rfl (Or.inl ⟨_, rfl⟩) ?_
  refine V_astore_n dX18_command_6 (Or.inl ⟨_, rfl⟩) (by decide) ?_
  refine V_iconstv (-1) dX18_command_7 (by decide) ?_
  refine V_istore_n dX18_command_8 (by decide) ?_
  refine V_aload_n dX18_command_9 rfl (Or.inl ⟨_, rfl⟩) ?_
  refine V_callV (q := (RJ7, TJ7, 4)) kJ7_hashCode q2488 q954 q955 hq0 rfl dX18_command_10 ?_ (d' := 3) (as := []) (hst := rfl)
  refine (str_hashN hN hBq (allC (by decide +kernel)) (by decide) (by decide) (by decide +kernel) (fun G1 eG hk hR1 => ?_))
  obtain ⟨va1, hx1, -⟩ := id hR1
  have hP1 : PaAt E G1 pr ta L i := by
    obtain ⟨va9, ha9, f9, hb9, hc9⟩ := h.2
    exact ⟨hk _ _ (fun e => hqp e.symm) h.1, va9, hk _ _ hqt ha9, f9, hk _ _ (g_apart hb9 hq0 (by intro e; cases e)) hb9, hc9⟩
  refine V_lookup (off := 163) 176 dX18_command_13 (by decide) (by decide +kernel) (by decide) ?_
  refine V_iload_n dX18_command_176 rfl ?_
  refine V_tableOut 428 dX18_command_177 (Or.inl (by decide)) (by decide) ?_
  exact V_subk (go G1 eG hk hR1 hP1) ⟨rfl, rfl, trivial⟩
theorem pc_4 {pr ta i q : Nat} {L : List Int32} (hN : StrN E G q (cmW 4)) (h : PaAt E G pr ta L i) (hB : g_B E ≤ pr) (hBq : g_B E ≤ q) (hqp : q ≠ pr) (hqt : ta ≠ q) (hT : TxC L) (hi : i ≤ L.length) (hf : g_fit E G 6 40) (kt : ∀ (f A : Nat → Int32) (j : Nat), rsA L 0 4 (i, false, fun _ => 0) = (j, false, A) → (∀ z, z < nAr 4 → f z = A z) → j ≤ L.length → ∀ G' c, g_mod (fun z => z ≠ pr ∧ z ≠ q) G G' 4 30 → CmdAt E G' c 4 f → PaAt E G' pr ta L j → G.2.1 ≤ c → P (.returned (some (.ref c))) G') (kf : ∀ j, (rsA L 0 4 (i, false, fun _ => 0)).1 = j → (rsA L 0 4 (i, false, fun _ => 0)).2.1 = true → ∀ qq G', g_mod (fun z => z ≠ pr ∧ z ≠ q) G G' 6 40 → SyAt G' qq (nI j) → P (.threw qq) G') : V l E mX18_command 10 P 4 [(0, .ref pr)] [.ref q] G := by
  obtain ⟨hf1, hf2⟩ := hf
  refine V_wf (fun wf0 hBG0 => ?_)
  obtain ⟨va0, hq0, -⟩ := id hN
  have hqG := wf0 _ _ hq0
  have go : ∀ G1 : g_G, G1.2 = G.2 → g_ke (fun z => z ≠ q) G G1 → StrR E G1 q (cmW 4) (hsh (cmW 4)) 0 → PaAt E G1 pr ta L i → V l E mX18_command 10 P 329 [(0, .ref pr), (1, .ref q)] [] G1 := by
    intro G1 eG hk1 hR hP
    refine V_wf (fun wf hBG => ?_)
    have hprl := wf _ _ hP.1
    have e21 : G1.2.1 = G.2.1 := by rw [eG]
    have e22 : G1.2.2 = G.2.2 := by rw [eG]
    have hql : q < G1.2.1 := by rw [e21]; exact hqG
    have up : ∀ {G2 : g_G} {c s c1 s1 : Nat}, g_mod (fun z => z ≠ pr) G1 G2 c s → c ≤ c1 → s ≤ s1 → g_mod (fun z => z ≠ pr ∧ z ≠ q) G G2 c1 s1 := fun m hc hs => ⟨fun z y hz hy => m.1 z y hz.1 (hk1 z y hz.2 hy), by have := m.2.1; omega, by have := m.2.2.1; omega, by have := m.2.2.2.1; omega, by have := m.2.2.2.2; omega⟩
    have keepR : ∀ {G2 : g_G}, g_ke (fun z => z ≠ pr) G1 G2 → StrR E G2 q (cmW 4) (hsh (cmW 4)) 0 := fun hk => hR.ke2 hk (fun z y hy hi e => by
      subst e
      rw [hP.1] at hy
      cases hy
      cases hi)
    have fail : ∀ {pc : Nat} {LL : List (Nat × Value)} (j : Nat), (rsA L 0 4 (i, false, fun _ => 0)).1 = j → (rsA L 0 4 (i, false, fun _ => 0)).2.1 = true → ∀ qq G2, g_mod (fun z => z ≠ pr) G1 G2 6 40 → SyAt G2 qq (nI j) → VX l E mX18_command 10 P pc LL qq G2 := fun j h1 h2 qq G2 m hs => VX_out (ci := 0) (fs := []) rfl (kf j h1 h2 qq G2 (up m (Nat.le_refl _) (Nat.le_refl _)) hs)
    have wfa := wf.new (g_ob 7 [.null, .null]) 2
    have hPn : ∀ F, PaAt E (g_new (g_new G1 (g_ob 7 [.null, .null]) 2) (g_ai E 1 F) 1) pr ta L i := fun F => hP.keep ((g_ke.new wf _ _).trans (g_ke.new wfa _ _))
    refine V_new ckX8 q2509 dX18_command_329 (by first | omega | (simp only [g_new, g_up]; omega)) (by first | omega | (simp only [g_new, g_up]; omega)) ?_
    refine V_dup dX18_command_332 rfl ?_
    refine V_aload_n dX18_command_333 rfl (Or.inl ⟨_, rfl⟩) ?_
    refine V_iconstv 1 dX18_command_334 (by decide) ?_
    refine V_newarray_int 1 rfl (by decide) q388 dX18_command_335 (by first | omega | (simp only [g_new, g_up]; omega)) (by first | omega | (simp only [g_new, g_up]; omega)) ?_
    refine V_dup dX18_command_337 rfl ?_
    refine V_iconstv 0 dX18_command_338 (by decide) ?_
    refine V_aload_n dX18_command_339 rfl (Or.inl ⟨_, rfl⟩) ?_
    refine V_callV (q := (RX18, TX18, 2)) kX18_metricName q2511 q2513 qs43 (hPn _).1 rfl dX18_command_340 ?_ (d' := 8) (as := []) (hst := rfl)
    refine (pa_metric (hPn _) hB hT hi ⟨by simp only [g_new]; omega, by simp only [g_new]; omega⟩ (fun q1 q2 hjn => ?_) (fun j hj qq G4 m4 hs => fail j (hj _).1 (hj _).2 qq G4 ?_ hs))
    rotate_left
    · obtain ⟨c1, c2, c3, c4, c5⟩ := m4
      simp only [g_new] at c2 c3 c4 c5
      exact ⟨fun z x hz hx => c1 z x hz (g_new_of (wfa.ne ((g_ke.new (A := g_all) wf _ _) z x trivial hx)) (g_new_of (wf.ne hx) hx)), by omega, by omega, by omega, by omega⟩
    refine V_iastore (g_up_of (by simp only [g_new]; omega) (g_new_at rfl)) (by first | assumption | omega | (simp only [g_new, g_up]; omega) | (simp only [g_new, g_up, g_B] at *; omega)) (by first | assumption | exact g_in (by decide)) q388 dX18_command_343 ?_
    refine V_callI kX8_init rfl rfl q2510 q939 dX18_command_344 ?_ (d' := 1) (as := [_, _]) (hst := rfl)
    refine (cmm_init (by repeat (first | exact g_up_at | exact g_new_at rfl | assumption | refine g_up_of (by first | assumption | (simp only [g_new, g_up]; omega) | omega) ?_ | refine g_new_of (by first | assumption | (simp only [g_new, g_up]; omega) | omega) ?_)) (by first | assumption | omega | (simp only [g_new, g_up]; omega) | (simp only [g_new, g_up, g_B] at *; omega)) ?_)
    refine V_areturnO dX18_command_347 rfl ?_
    obtain ⟨f1, f2, f3⟩ := pc_fin (kind := 4) (N := 1) wf hP hqp hql hR (by decide) (by decide) _ rfl
    have er : rsA L 0 4 (i, false, fun _ => 0) = (i + 2, false, upd (fun _ => 0) (8 * 0) (mkC L (i + 1))) := by
      show rsM L 0 (i, false, fun _ => 0) = _
      have e1 : rdW false L i 32 = false := by
        unfold rdW
        rw [show mkW false L i = mkC L i from rfl, q1]
        rfl
      have e2 : mkW false L (i + 1) = mkC L (i + 1) := rfl
      unfold rsM
      simp [e1, e2, q2]
    refine kt _ _ (i + 2) er ?_ hjn _ _ (up f1 (by decide) (by decide)) f2 f3 (by omega)
    intro z hz
    match z, hz with
    | 0, _ => rfl
  refine V_astore_n dX18_command_4 (Or.inl ⟨_, rfl⟩) (by decide) ?_
  refine V_aload_n dX18_command_5 rfl (Or.inl ⟨_, rfl⟩) ?_
  refine V_astore_n dX18_command_6 (Or.inl ⟨_, rfl⟩) (by decide) ?_
  refine V_iconstv (-1) dX18_command_7 (by decide) ?_
  refine V_istore_n dX18_command_8 (by decide) ?_
  refine V_aload_n dX18_command_9 rfl (Or.inl ⟨_, rfl⟩) ?_
  refine V_callV (q := (RJ7, TJ7, 4)) kJ7_hashCode q2488 q954 q955 hq0 rfl dX18_command_10 ?_ (d' := 3) (as := []) (hst := rfl)
  refine (str_hashN hN hBq (allC (by decide +kernel)) (by decide) (by decide) (by decide +kernel) (fun G1 eG hk hR1 => ?_))
  obtain ⟨va1, hx1, -⟩ := id hR1
  have hP1 : PaAt E G1 pr ta L i := by
    obtain ⟨va9, ha9, f9, hb9, hc9⟩ := h.2
    exact ⟨hk _ _ (fun e => hqp e.symm) h.1, va9, hk _ _ hqt ha9, f9, hk _ _ (g_apart hb9 hq0 (by intro e; cases e)) hb9, hc9⟩
  refine V_lookup (off := 95) 108 dX18_command_13 (by decide) (by decide +kernel) (by decide) ?_
  refine V_aload_n dX18_command_108 rfl (Or.inl ⟨_, rfl⟩) ?_
  refine V_sc scX18_96 q2492 dX18_command_109 (by decide) rfl (fun hS109 => ?_)
  refine V_callVR (q := (RJ7, TJ7, 4)) kJ7_equals q2490 q1016 q1017 hx1 rfl dX18_command_111 ?_ (d' := 1) (as := [_]) (hst := rfl)
  refine (str_equals hR1 hS109 (by decide) ?_)
  refine V_if_eq 176 dX18_command_114 (by decide) (fun c114 => absurd c114 (by decide)) (fun _ => ?_)
  refine V_iconstv 2 dX18_command_117 (by decide) ?_
  refine V_istore_n dX18_command_118 (by decide) ?_
  refine V_goto 176 dX18_command_119 (by decide) ?_
  refine V_iload_n dX18_command_176 rfl ?_
  refine V_tableIn 329 dX18_command_177 (by decide) (by decide) rfl (by decide) ?_
  exact V_subk (go G1 eG hk hR1 hP1) ⟨rfl, rfl, trivial⟩
theorem pc_5 {pr ta i q : Nat} {L : List Int32} (hN : StrN E G q (cmW 5)) (h : PaAt E G pr ta L i) (hB : g_B E ≤ pr) (hBq : g_B E ≤ q) (hqp : q ≠ pr) (hqt : ta ≠ q) (hT : TxC L) (hi : i ≤ L.length) (hf : g_fit E G 6 40) (kt : ∀ (f A : Nat → Int32) (j : Nat), rsA L 0 5 (i, false, fun _ => 0) = (j, false, A) → (∀ z, z < nAr 5 → f z = A z) → j ≤ L.length → ∀ G' c, g_mod (fun z => z ≠ pr ∧ z ≠ q) G G' 4 30 → CmdAt E G' c 5 f → PaAt E G' pr ta L j → G.2.1 ≤ c → P (.returned (some (.ref c))) G') (kf : ∀ j, (rsA L 0 5 (i, false, fun _ => 0)).1 = j → (rsA L 0 5 (i, false, fun _ => 0)).2.1 = true → ∀ qq G', g_mod (fun z => z ≠ pr ∧ z ≠ q) G G' 6 40 → SyAt G' qq (nI j) → P (.threw qq) G') : V l E mX18_command 10 P 4 [(0, .ref pr)] [.ref q] G := by
  obtain ⟨hf1, hf2⟩ := hf
  refine V_wf (fun wf0 hBG0 => ?_)
  obtain ⟨va0, hq0, -⟩ := id hN
  have hqG := wf0 _ _ hq0
  have go : ∀ G1 : g_G, G1.2 = G.2 → g_ke (fun z => z ≠ q) G G1 → StrR E G1 q (cmW 5) (hsh (cmW 5)) 0 → PaAt E G1 pr ta L i → V l E mX18_command 10 P 348 [(0, .ref pr), (1, .ref q)] [] G1 := by
    intro G1 eG hk1 hR hP
    refine V_wf (fun wf hBG => ?_)
    have hprl := wf _ _ hP.1
    have e21 : G1.2.1 = G.2.1 := by rw [eG]
    have e22 : G1.2.2 = G.2.2 := by rw [eG]
    have hql : q < G1.2.1 := by rw [e21]; exact hqG
    have up : ∀ {G2 : g_G} {c s c1 s1 : Nat}, g_mod (fun z => z ≠ pr) G1 G2 c s → c ≤ c1 → s ≤ s1 → g_mod (fun z => z ≠ pr ∧ z ≠ q) G G2 c1 s1 := fun m hc hs => ⟨fun z y hz hy => m.1 z y hz.1 (hk1 z y hz.2 hy), by have := m.2.1; omega, by have := m.2.2.1; omega, by have := m.2.2.2.1; omega, by have := m.2.2.2.2; omega⟩
    have keepR : ∀ {G2 : g_G}, g_ke (fun z => z ≠ pr) G1 G2 → StrR E G2 q (cmW 5) (hsh (cmW 5)) 0 := fun hk => hR.ke2 hk (fun z y hy hi e => by
      subst e
      rw [hP.1] at hy
      cases hy
      cases hi)
    have fail : ∀ {pc : Nat} {LL : List (Nat × Value)} (j : Nat), (rsA L 0 5 (i, false, fun _ => 0)).1 = j → (rsA L 0 5 (i, false, fun _ => 0)).2.1 = true → ∀ qq G2, g_mod (fun z => z ≠ pr) G1 G2 6 40 → SyAt G2 qq (nI j) → VX l E mX18_command 10 P pc LL qq G2 := fun j h1 h2 qq G2 m hs => VX_out (ci := 0) (fs := []) rfl (kf j h1 h2 qq G2 (up m (Nat.le_refl _) (Nat.le_refl _)) hs)
    refine V_aload_n dX18_command_348 rfl (Or.inl ⟨_, rfl⟩) ?_
    refine V_bipushv 32 dX18_command_349 (by decide) ?_
    refine V_callV (q := (RX18, TX18, 2)) kX18_numberAfter q2501 q2503 qs41 hP.1 rfl dX18_command_351 ?_ (d' := 8) (as := [_]) (hst := rfl)
    refine (pa_number hP hB hT hi (Or.inl rfl) ⟨by omega, by omega⟩ (fun v4 j4 q4 hj4 => ?_) (fun v4 j4 q4 qq G3 m3 hs => fail j4 ?_ ?_ qq G3 ?_ hs))
    rotate_left
    · show (rs L 0 32 1 (rs L 0 32 0 (i, false, fun _ => 0))).1 = j4
      rw [rs_eq q4]; exact (rs_tt rfl).1
    · show (rs L 0 32 1 (rs L 0 32 0 (i, false, fun _ => 0))).2.1 = true
      rw [rs_eq q4]; exact (rs_tt rfl).2
    · exact m3.wide (fun _ h => h) (by decide) (by decide)
    have hP3 : PaAt E (g_up G1 pr (g_ob 16 [.ref ta, .int (nI j4)])) pr ta L j4 := hP.up
    have wf3 : g_wf (g_up G1 pr (g_ob 16 [.ref ta, .int (nI j4)])) := wf.up hP.1 _
    have k3 : g_ke (fun z => z ≠ pr) G1 (g_up G1 pr (g_ob 16 [.ref ta, .int (nI j4)])) := g_ke.up (fun q => q rfl) _
    have hR3 := keepR k3
    have m3 : g_mod (fun z => z ≠ pr) G1 (g_up G1 pr (g_ob 16 [.ref ta, .int (nI j4)])) 0 0 := ⟨k3, Nat.le_refl _, Nat.le_refl _, Nat.le_refl _, Nat.le_refl _⟩
    generalize hG3 : g_up G1 pr (g_ob 16 [.ref ta, .int (nI j4)]) = G3 at hP3 wf3 hR3 m3
    have e31 : G3.2.1 = G1.2.1 := by rw [← hG3]; rfl
    have e32 : G3.2.2 = G1.2.2 := by rw [← hG3]; rfl
    have hpr3 := wf3 _ _ hP3.1
    have hq3 : q < G3.2.1 := by omega
    have wfa := wf3.new (g_ob 7 [.null, .null]) 2
    have hPn : ∀ F, PaAt E (g_new (g_new G3 (g_ob 7 [.null, .null]) 2) (g_ai E 2 F) 2) pr ta L j4 := fun F => hP3.keep ((g_ke.new wf3 _ _).trans (g_ke.new wfa _ _))
    refine V_istore dX18_command_354 (by decide) ?_
    refine V_new ckX8 q2509 dX18_command_356 (by first | omega | (simp only [g_new, g_up]; omega)) (by first | omega | (simp only [g_new, g_up]; omega)) ?_
    refine V_dup dX18_command_359 rfl ?_
    refine V_aload_n dX18_command_360 rfl (Or.inl ⟨_, rfl⟩) ?_
    refine V_iconstv 2 dX18_command_361 (by decide) ?_
    refine V_newarray_int 2 rfl (by decide) q388 dX18_command_362 (by first | omega | (simp only [g_new, g_up]; omega)) (by first | omega | (simp only [g_new, g_up]; omega)) ?_
    refine V_dup dX18_command_364 rfl ?_
    refine V_iconstv 0 dX18_command_365 (by decide) ?_
    refine V_iload dX18_command_366 rfl ?_
    refine V_iastore (g_new_at rfl) (by first | assumption | omega | (simp only [g_new, g_up]; omega) | (simp only [g_new, g_up, g_B] at *; omega)) (by first | assumption | exact g_in (by decide)) q388 dX18_command_368 ?_
    rw [g_new_up rfl]
    refine V_dup dX18_command_369 rfl ?_
    refine V_iconstv 1 dX18_command_370 (by decide) ?_
    refine V_aload_n dX18_command_371 rfl (Or.inl ⟨_, rfl⟩) ?_
    refine V_bipushv 32 dX18_command_372 (by decide) ?_
    refine V_callV (q := (RX18, TX18, 2)) kX18_numberAfter q2501 q2503 qs41 (hPn _).1 rfl dX18_command_374 ?_ (d' := 8) (as := [_]) (hst := rfl)
    refine (pa_number (hPn _) hB hT hj4 (Or.inl rfl) ⟨by simp only [g_new]; omega, by simp only [g_new]; omega⟩ (fun v5 j5 q5 hjn => ?_) (fun v5 j5 q5 qq G4 m4 hs => fail j5 ?_ ?_ qq G4 ?_ hs))
    rotate_left
    · show (rs L 0 32 1 (rs L 0 32 0 (i, false, fun _ => 0))).1 = j5
      rw [rs_eq q4, rs_eq q5]
    · show (rs L 0 32 1 (rs L 0 32 0 (i, false, fun _ => 0))).2.1 = true
      rw [rs_eq q4, rs_eq q5]
    · obtain ⟨c1, c2, c3, c4, c5⟩ := m4
      simp only [g_new] at c2 c3 c4 c5
      exact ⟨fun z x hz hx => c1 z x hz (g_new_of (wfa.ne ((g_ke.new (A := g_all) wf3 _ _) z x trivial (m3.1 z x hz hx))) (g_new_of (wf3.ne (m3.1 z x hz hx)) (m3.1 z x hz hx))), by omega, by omega, by omega, by omega⟩
    refine V_iastore (g_up_of (by simp only [g_new]; omega) (g_new_at rfl)) (by first | assumption | omega | (simp only [g_new, g_up]; omega) | (simp only [g_new, g_up, g_B] at *; omega)) (by first | assumption | exact g_in (by decide)) q388 dX18_command_377 ?_
    refine V_callI kX8_init rfl rfl q2510 q939 dX18_command_378 ?_ (d' := 1) (as := [_, _]) (hst := rfl)
    refine (cmm_init (by repeat (first | exact g_up_at | exact g_new_at rfl | assumption | refine g_up_of (by first | assumption | (simp only [g_new, g_up]; omega) | omega) ?_ | refine g_new_of (by first | assumption | (simp only [g_new, g_up]; omega) | omega) ?_)) (by first | assumption | omega | (simp only [g_new, g_up]; omega) | (simp only [g_new, g_up, g_B] at *; omega)) ?_)
    refine V_areturnO dX18_command_381 rfl ?_
    obtain ⟨f1, f2, f3⟩ := pc_fin (kind := 5) (N := 2) wf3 hP3 hqp hq3 hR3 (by decide) (by decide) _ rfl
    refine kt _ _ j5 (show rs L 0 32 1 (rs L 0 32 0 (i, false, fun _ => 0)) = _ by rw [rs_eq q4, rs_eq q5]) ?_ hjn _ _ (up (m3.trans f1) (by decide) (by decide)) f2 f3 (by omega)
    intro z hz
    match z, hz with
    | 0, _ => rfl
    | 1, _ => rfl
  refine V_astore_n dX18_command_4 (Or.inl ⟨_, rfl⟩) (by decide) ?_
  refine V_aload_n dX18_command_5 rfl (Or.inl ⟨_, rfl⟩) ?_
  refine V_astore_n dX18_command_6 (Or.inl ⟨_, rfl⟩) (by decide) ?_
  refine V_iconstv (-1) dX18_command_7 (by decide) ?_
  refine V_istore_n dX18_command_8 (by decide) ?_
  refine V_aload_n dX18_command_9 rfl (Or.inl ⟨_, rfl⟩) ?_
  refine V_callV (q := (RJ7, TJ7, 4)) kJ7_hashCode q2488 q954 q955 hq0 rfl dX18_command_10 ?_ (d' := 3) (as := []) (hst := rfl)
  refine (str_hashN hN hBq (allC (by decide +kernel)) (by decide) (by decide) (by decide +kernel) (fun G1 eG hk hR1 => ?_))
  obtain ⟨va1, hx1, -⟩ := id hR1
  have hP1 : PaAt E G1 pr ta L i := by
    obtain ⟨va9, ha9, f9, hb9, hc9⟩ := h.2
    exact ⟨hk _ _ (fun e => hqp e.symm) h.1, va9, hk _ _ hqt ha9, f9, hk _ _ (g_apart hb9 hq0 (by intro e; cases e)) hb9, hc9⟩
  refine V_lookup (off := 109) 122 dX18_command_13 (by decide) (by decide +kernel) (by decide) ?_
  refine V_aload_n dX18_command_122 rfl (Or.inl ⟨_, rfl⟩) ?_
  refine V_sc scX18_98 q2493 dX18_command_123 (by decide) rfl (fun hS123 => ?_)
  refine V_callVR (q := (RJ7, TJ7, 4)) kJ7_equals q2490 q1016 q1017 hx1 rfl dX18_command_125 ?_ (d' := 1) (as := [_]) (hst := rfl)
  refine (str_equals hR1 hS123 (by decide) ?_)
  refine V_if_eq 176 dX18_command_128 (by decide) (fun c128 => absurd c128 (by decide)) (fun _ => ?_)
  refine V_iconstv 3 dX18_command_131 (by decide) ?_
  refine V_istore_n dX18_command_132 (by decide) ?_
  refine V_goto 176 dX18_command_133 (by decide) ?_
  refine V_iload_n dX18_command_176 rfl ?_
  refine V_tableIn 348 dX18_command_177 (by decide) (by decide) rfl (by decide) ?_
  exact V_subk (go G1 eG hk hR1 hP1) ⟨rfl, rfl, trivial⟩
theorem pc_7 {pr ta i q : Nat} {L : List Int32} (hN : StrN E G q (cmW 7)) (h : PaAt E G pr ta L i) (hB : g_B E ≤ pr) (hBq : g_B E ≤ q) (hqp : q ≠ pr) (hqt : ta ≠ q) (hT : TxC L) (hi : i ≤ L.length) (hf : g_fit E G 6 40) (kt : ∀ (f A : Nat → Int32) (j : Nat), rsA L 0 7 (i, false, fun _ => 0) = (j, false, A) → (∀ z, z < nAr 7 → f z = A z) → j ≤ L.length → ∀ G' c, g_mod (fun z => z ≠ pr ∧ z ≠ q) G G' 4 30 → CmdAt E G' c 7 f → PaAt E G' pr ta L j → G.2.1 ≤ c → P (.returned (some (.ref c))) G') (kf : ∀ j, (rsA L 0 7 (i, false, fun _ => 0)).1 = j → (rsA L 0 7 (i, false, fun _ => 0)).2.1 = true → ∀ qq G', g_mod (fun z => z ≠ pr ∧ z ≠ q) G G' 6 40 → SyAt G' qq (nI j) → P (.threw qq) G') : V l E mX18_command 10 P 4 [(0, .ref pr)] [.ref q] G := by
  obtain ⟨hf1, hf2⟩ := hf
  refine V_wf (fun wf0 hBG0 => ?_)
  obtain ⟨va0, hq0, -⟩ := id hN
  have hqG := wf0 _ _ hq0
  have go : ∀ G1 : g_G, G1.2 = G.2 → g_ke (fun z => z ≠ q) G G1 → StrR E G1 q (cmW 7) (hsh (cmW 7)) 0 → PaAt E G1 pr ta L i → V l E mX18_command 10 P 348 [(0, .ref pr), (1, .ref q)] [] G1 := by
    intro G1 eG hk1 hR hP
    refine V_wf (fun wf hBG => ?_)
    have hprl := wf _ _ hP.1
    have e21 : G1.2.1 = G.2.1 := by rw [eG]
    have e22 : G1.2.2 = G.2.2 := by rw [eG]
    have hql : q < G1.2.1 := by rw [e21]; exact hqG
    have up : ∀ {G2 : g_G} {c s c1 s1 : Nat}, g_mod (fun z => z ≠ pr) G1 G2 c s → c ≤ c1 → s ≤ s1 → g_mod (fun z => z ≠ pr ∧ z ≠ q) G G2 c1 s1 := fun m hc hs => ⟨fun z y hz hy => m.1 z y hz.1 (hk1 z y hz.2 hy), by have := m.2.1; omega, by have := m.2.2.1; omega, by have := m.2.2.2.1; omega, by have := m.2.2.2.2; omega⟩
    have keepR : ∀ {G2 : g_G}, g_ke (fun z => z ≠ pr) G1 G2 → StrR E G2 q (cmW 7) (hsh (cmW 7)) 0 := fun hk => hR.ke2 hk (fun z y hy hi e => by
      subst e
      rw [hP.1] at hy
      cases hy
      cases hi)
    have fail : ∀ {pc : Nat} {LL : List (Nat × Value)} (j : Nat), (rsA L 0 7 (i, false, fun _ => 0)).1 = j → (rsA L 0 7 (i, false, fun _ => 0)).2.1 = true → ∀ qq G2, g_mod (fun z => z ≠ pr) G1 G2 6 40 → SyAt G2 qq (nI j) → VX l E mX18_command 10 P pc LL qq G2 := fun j h1 h2 qq G2 m hs => VX_out (ci := 0) (fs := []) rfl (kf j h1 h2 qq G2 (up m (Nat.le_refl _) (Nat.le_refl _)) hs)
    refine V_aload_n dX18_command_348 rfl (Or.inl ⟨_, rfl⟩) ?_
    refine V_bipushv 32 dX18_command_349 (by decide) ?_
    refine V_callV (q := (RX18, TX18, 2)) kX18_numberAfter q2501 q2503 qs41 hP.1 rfl dX18_command_351 ?_ (d' := 8) (as := [_]) (hst := rfl)
    refine (pa_number hP hB hT hi (Or.inl rfl) ⟨by omega, by omega⟩ (fun v4 j4 q4 hj4 => ?_) (fun v4 j4 q4 qq G3 m3 hs => fail j4 ?_ ?_ qq G3 ?_ hs))
    rotate_left
    · show (rs L 0 32 1 (rs L 0 32 0 (i, false, fun _ => 0))).1 = j4
      rw [rs_eq q4]; exact (rs_tt rfl).1
    · show (rs L 0 32 1 (rs L 0 32 0 (i, false, fun _ => 0))).2.1 = true
      rw [rs_eq q4]; exact (rs_tt rfl).2
    · exact m3.wide (fun _ h => h) (by decide) (by decide)
    have hP3 : PaAt E (g_up G1 pr (g_ob 16 [.ref ta, .int (nI j4)])) pr ta L j4 := hP.up
    have wf3 : g_wf (g_up G1 pr (g_ob 16 [.ref ta, .int (nI j4)])) := wf.up hP.1 _
    have k3 : g_ke (fun z => z ≠ pr) G1 (g_up G1 pr (g_ob 16 [.ref ta, .int (nI j4)])) := g_ke.up (fun q => q rfl) _
    have hR3 := keepR k3
    have m3 : g_mod (fun z => z ≠ pr) G1 (g_up G1 pr (g_ob 16 [.ref ta, .int (nI j4)])) 0 0 := ⟨k3, Nat.le_refl _, Nat.le_refl _, Nat.le_refl _, Nat.le_refl _⟩
    generalize hG3 : g_up G1 pr (g_ob 16 [.ref ta, .int (nI j4)]) = G3 at hP3 wf3 hR3 m3
    have e31 : G3.2.1 = G1.2.1 := by rw [← hG3]; rfl
    have e32 : G3.2.2 = G1.2.2 := by rw [← hG3]; rfl
    have hpr3 := wf3 _ _ hP3.1
    have hq3 : q < G3.2.1 := by omega
    have wfa := wf3.new (g_ob 7 [.null, .null]) 2
    have hPn : ∀ F, PaAt E (g_new (g_new G3 (g_ob 7 [.null, .null]) 2) (g_ai E 2 F) 2) pr ta L j4 := fun F => hP3.keep ((g_ke.new wf3 _ _).trans (g_ke.new wfa _ _))
    refine V_istore dX18_command_354 (by decide) ?_
    refine V_new ckX8 q2509 dX18_command_356 (by first | omega | (simp only [g_new, g_up]; omega)) (by first | omega | (simp only [g_new, g_up]; omega)) ?_
    refine V_dup dX18_command_359 rfl ?_
    refine V_aload_n dX18_command_360 rfl (Or.inl ⟨_, rfl⟩) ?_
    refine V_iconstv 2 dX18_command_361 (by decide) ?_
    refine V_newarray_int 2 rfl (by decide) q388 dX18_command_362 (by first | omega | (simp only [g_new, g_up]; omega)) (by first | omega | (simp only [g_new, g_up]; omega)) ?_
    refine V_dup dX18_command_364 rfl ?_
    refine V_iconstv 0 dX18_command_365 (by decide) ?_
    refine V_iload dX18_command_366 rfl ?_
    refine V_iastore (g_new_at rfl) (by first | assumption | omega | (simp only [g_new, g_up]; omega) | (simp only [g_new, g_up, g_B] at *; omega)) (by first | assumption | exact g_in (by decide)) q388 dX18_command_368 ?_
    rw [g_new_up rfl]
    refine V_dup dX18_command_369 rfl ?_
    refine V_iconstv 1 dX18_command_370 (by decide) ?_
    refine V_aload_n dX18_command_371 rfl (Or.inl ⟨_, rfl⟩) ?_
    refine V_bipushv 32 dX18_command_372 (by decide) ?_
    refine V_callV (q := (RX18, TX18, 2)) kX18_numberAfter q2501 q2503 qs41 (hPn _).1 rfl dX18_command_374 ?_ (d' := 8) (as := [_]) (hst := rfl)
    refine (pa_number (hPn _) hB hT hj4 (Or.inl rfl) ⟨by simp only [g_new]; omega, by simp only [g_new]; omega⟩ (fun v5 j5 q5 hjn => ?_) (fun v5 j5 q5 qq G4 m4 hs => fail j5 ?_ ?_ qq G4 ?_ hs))
    rotate_left
    · show (rs L 0 32 1 (rs L 0 32 0 (i, false, fun _ => 0))).1 = j5
      rw [rs_eq q4, rs_eq q5]
    · show (rs L 0 32 1 (rs L 0 32 0 (i, false, fun _ => 0))).2.1 = true
      rw [rs_eq q4, rs_eq q5]
    · obtain ⟨c1, c2, c3, c4, c5⟩ := m4
      simp only [g_new] at c2 c3 c4 c5
      exact ⟨fun z x hz hx => c1 z x hz (g_new_of (wfa.ne ((g_ke.new (A := g_all) wf3 _ _) z x trivial (m3.1 z x hz hx))) (g_new_of (wf3.ne (m3.1 z x hz hx)) (m3.1 z x hz hx))), by omega, by omega, by omega, by omega⟩
    refine V_iastore (g_up_of (by simp only [g_new]; omega) (g_new_at rfl)) (by first | assumption | omega | (simp only [g_new, g_up]; omega) | (simp only [g_new, g_up, g_B] at *; omega)) (by first | assumption | exact g_in (by decide)) q388 dX18_command_377 ?_
    refine V_callI kX8_init rfl rfl q2510 q939 dX18_command_378 ?_ (d' := 1) (as := [_, _]) (hst := rfl)
    refine (cmm_init (by repeat (first | exact g_up_at | exact g_new_at rfl | assumption | refine g_up_of (by first | assumption | (simp only [g_new, g_up]; omega) | omega) ?_ | refine g_new_of (by first | assumption | (simp only [g_new, g_up]; omega) | omega) ?_)) (by first | assumption | omega | (simp only [g_new, g_up]; omega) | (simp only [g_new, g_up, g_B] at *; omega)) ?_)
    refine V_areturnO dX18_command_381 rfl ?_
    obtain ⟨f1, f2, f3⟩ := pc_fin (kind := 7) (N := 2) wf3 hP3 hqp hq3 hR3 (by decide) (by decide) _ rfl
    refine kt _ _ j5 (show rs L 0 32 1 (rs L 0 32 0 (i, false, fun _ => 0)) = _ by rw [rs_eq q4, rs_eq q5]) ?_ hjn _ _ (up (m3.trans f1) (by decide) (by decide)) f2 f3 (by omega)
    intro z hz
    match z, hz with
    | 0, _ => rfl
    | 1, _ => rfl
  refine V_astore_n dX18_command_4 (Or.inl ⟨_, rfl⟩) (by decide) ?_
  refine V_aload_n dX18_command_5 rfl (Or.inl ⟨_, rfl⟩) ?_
  refine V_astore_n dX18_command_6 (Or.inl ⟨_, rfl⟩) (by decide) ?_
  refine V_iconstv (-1) dX18_command_7 (by decide) ?_
  refine V_istore_n dX18_command_8 (by decide) ?_
  refine V_aload_n dX18_command_9 rfl (Or.inl ⟨_, rfl⟩) ?_
  refine V_callV (q := (RJ7, TJ7, 4)) kJ7_hashCode q2488 q954 q955 hq0 rfl dX18_command_10 ?_ (d' := 3) (as := []) (hst := rfl)
  refine (str_hashN hN hBq (allC (by decide +kernel)) (by decide) (by decide) (by decide +kernel) (fun G1 eG hk hR1 => ?_))
  obtain ⟨va1, hx1, -⟩ := id hR1
  have hP1 : PaAt E G1 pr ta L i := by
    obtain ⟨va9, ha9, f9, hb9, hc9⟩ := h.2
    exact ⟨hk _ _ (fun e => hqp e.symm) h.1, va9, hk _ _ hqt ha9, f9, hk _ _ (g_apart hb9 hq0 (by intro e; cases e)) hb9, hc9⟩
  refine V_lookup (off := 123) 136 dX18_command_13 (by decide) (by decide +kernel) (by decide) ?_
  refine V_aload_n dX18_command_136 rfl (Or.inl ⟨_, rfl⟩) ?_
  refine V_sc scX18_100 q2494 dX18_command_137 (by decide) rfl (fun hS137 => ?_)
  refine V_callVR (q := (RJ7, TJ7, 4)) kJ7_equals q2490 q1016 q1017 hx1 rfl dX18_command_139 ?_ (d' := 1) (as := [_]) (hst := rfl)
  refine (str_equals hR1 hS137 (by decide) ?_)
  refine V_if_eq 176 dX18_command_142 (by decide) (fun c142 => absurd c142 (by decide)) (fun _ => ?_)
  refine V_iconstv 4 dX18_command_145 (by decide) ?_
  refine V_istore_n dX18_command_146 (by decide) ?_
  refine V_goto 176 dX18_command_147 (by decide) ?_
  refine V_iload_n dX18_command_176 rfl ?_
  refine V_tableIn 348 dX18_command_177 (by decide) (by decide) rfl (by decide) ?_
  exact V_subk (go G1 eG hk hR1 hP1) ⟨rfl, rfl, trivial⟩
theorem pc_6 {pr ta i q : Nat} {L : List Int32} (hN : StrN E G q (cmW 6)) (h : PaAt E G pr ta L i) (hB : g_B E ≤ pr) (hBq : g_B E ≤ q) (hqp : q ≠ pr) (hqt : ta ≠ q) (hT : TxC L) (hi : i ≤ L.length) (hf : g_fit E G 6 40) (kt : ∀ (f A : Nat → Int32) (j : Nat), rsA L 0 6 (i, false, fun _ => 0) = (j, false, A) → (∀ z, z < nAr 6 → f z = A z) → j ≤ L.length → ∀ G' c, g_mod (fun z => z ≠ pr ∧ z ≠ q) G G' 4 30 → CmdAt E G' c 6 f → PaAt E G' pr ta L j → G.2.1 ≤ c → P (.returned (some (.ref c))) G') (kf : ∀ j, (rsA L 0 6 (i, false, fun _ => 0)).1 = j → (rsA L 0 6 (i, false, fun _ => 0)).2.1 = true → ∀ qq G', g_mod (fun z => z ≠ pr ∧ z ≠ q) G G' 6 40 → SyAt G' qq (nI j) → P (.threw qq) G') : V l E mX18_command 10 P 4 [(0, .ref pr)] [.ref q] G := by
  obtain ⟨hf1, hf2⟩ := hf
  refine V_wf (fun wf0 hBG0 => ?_)
  obtain ⟨va0, hq0, -⟩ := id hN
  have hqG := wf0 _ _ hq0
  have go : ∀ G1 : g_G, G1.2 = G.2 → g_ke (fun z => z ≠ q) G G1 → StrR E G1 q (cmW 6) (hsh (cmW 6)) 0 → PaAt E G1 pr ta L i → V l E mX18_command 10 P 382 [(0, .ref pr), (1, .ref q)] [] G1 := by
    intro G1 eG hk1 hR hP
    refine V_wf (fun wf hBG => ?_)
    have hprl := wf _ _ hP.1
    have e21 : G1.2.1 = G.2.1 := by rw [eG]
    have e22 : G1.2.2 = G.2.2 := by rw [eG]
    have hql : q < G1.2.1 := by rw [e21]; exact hqG
    have up : ∀ {G2 : g_G} {c s c1 s1 : Nat}, g_mod (fun z => z ≠ pr) G1 G2 c s → c ≤ c1 → s ≤ s1 → g_mod (fun z => z ≠ pr ∧ z ≠ q) G G2 c1 s1 := fun m hc hs => ⟨fun z y hz hy => m.1 z y hz.1 (hk1 z y hz.2 hy), by have := m.2.1; omega, by have := m.2.2.1; omega, by have := m.2.2.2.1; omega, by have := m.2.2.2.2; omega⟩
    have keepR : ∀ {G2 : g_G}, g_ke (fun z => z ≠ pr) G1 G2 → StrR E G2 q (cmW 6) (hsh (cmW 6)) 0 := fun hk => hR.ke2 hk (fun z y hy hi e => by
      subst e
      rw [hP.1] at hy
      cases hy
      cases hi)
    have fail : ∀ {pc : Nat} {LL : List (Nat × Value)} (j : Nat), (rsA L 0 6 (i, false, fun _ => 0)).1 = j → (rsA L 0 6 (i, false, fun _ => 0)).2.1 = true → ∀ qq G2, g_mod (fun z => z ≠ pr) G1 G2 6 40 → SyAt G2 qq (nI j) → VX l E mX18_command 10 P pc LL qq G2 := fun j h1 h2 qq G2 m hs => VX_out (ci := 0) (fs := []) rfl (kf j h1 h2 qq G2 (up m (Nat.le_refl _) (Nat.le_refl _)) hs)
    refine V_new ckX8 q2509 dX18_command_382 (by first | omega | (simp only [g_new, g_up]; omega)) (by first | omega | (simp only [g_new, g_up]; omega)) ?_
    refine V_dup dX18_command_385 rfl ?_
    refine V_aload_n dX18_command_386 rfl (Or.inl ⟨_, rfl⟩) ?_
    refine V_iconstv 0 dX18_command_387 (by decide) ?_
    refine V_newarray_int 0 rfl (by decide) q388 dX18_command_388 (by first | omega | (simp only [g_new, g_up]; omega)) (by first | omega | (simp only [g_new, g_up]; omega)) ?_
    refine V_callI kX8_init rfl rfl q2510 q939 dX18_command_390 ?_ (d' := 1) (as := [_, _]) (hst := rfl)
    refine (cmm_init (by repeat (first | exact g_up_at | exact g_new_at rfl | assumption | refine g_up_of (by first | assumption | (simp only [g_new, g_up]; omega) | omega) ?_ | refine g_new_of (by first | assumption | (simp only [g_new, g_up]; omega) | omega) ?_)) (by first | assumption | omega | (simp only [g_new, g_up]; omega) | (simp only [g_new, g_up, g_B] at *; omega)) ?_)
    refine V_areturnO dX18_command_393 rfl ?_
    obtain ⟨f1, f2, f3⟩ := pc_fin0 (kind := 6) (N := 0) wf hP hql hR (by decide) (by decide) _ rfl
    exact kt _ _ i rfl (fun z hz => absurd hz (Nat.not_lt_zero _)) hi _ _ (up f1 (by decide) (by decide)) f2 f3 (by omega)
  refine V_astore_n dX18_command_4 (Or.inl ⟨_, rfl⟩) (by decide) ?_
  refine V_aload_n dX18_command_5 rfl (Or.inl ⟨_, rfl⟩) ?_
  refine V_astore_n dX18_command_6 (Or.inl ⟨_, rfl⟩) (by decide) ?_
  refine V_iconstv (-1) dX18_command_7 (by decide) ?_
  refine V_istore_n dX18_command_8 (by decide) ?_
  refine V_aload_n dX18_command_9 rfl (Or.inl ⟨_, rfl⟩) ?_
  refine V_callV (q := (RJ7, TJ7, 4)) kJ7_hashCode q2488 q954 q955 hq0 rfl dX18_command_10 ?_ (d' := 3) (as := []) (hst := rfl)
  refine (str_hashN hN hBq (allC (by decide +kernel)) (by decide) (by decide) (by decide +kernel) (fun G1 eG hk hR1 => ?_))
  obtain ⟨va1, hx1, -⟩ := id hR1
  have hP1 : PaAt E G1 pr ta L i := by
    obtain ⟨va9, ha9, f9, hb9, hc9⟩ := h.2
    exact ⟨hk _ _ (fun e => hqp e.symm) h.1, va9, hk _ _ hqt ha9, f9, hk _ _ (g_apart hb9 hq0 (by intro e; cases e)) hb9, hc9⟩
  refine V_lookup (off := 137) 150 dX18_command_13 (by decide) (by decide +kernel) (by decide) ?_
  refine V_aload_n dX18_command_150 rfl (Or.inl ⟨_, rfl⟩) ?_
  refine V_sc scX18_102 q2495 dX18_command_151 (by decide) rfl (fun hS151 => ?_)
  refine V_callVR (q := (RJ7, TJ7, 4)) kJ7_equals q2490 q1016 q1017 hx1 rfl dX18_command_153 ?_ (d' := 1) (as := [_]) (hst := rfl)
  refine (str_equals hR1 hS151 (by decide) ?_)
  refine V_if_eq 176 dX18_command_156 (by decide) (fun c156 => absurd c156 (by decide)) (fun _ => ?_)
  refine V_iconstv 5 dX18_command_159 (by decide) ?_
  refine V_istore_n dX18_command_160 (by decide) ?_
  refine V_goto 176 dX18_command_161 (by decide) ?_
  refine V_iload_n dX18_command_176 rfl ?_
  refine V_tableIn 382 dX18_command_177 (by decide) (by decide) rfl (by decide) ?_
  exact V_subk (go G1 eG hk hR1 hP1) ⟨rfl, rfl, trivial⟩
theorem pc_8 {pr ta i q : Nat} {L : List Int32} (hN : StrN E G q (cmW 8)) (h : PaAt E G pr ta L i) (hB : g_B E ≤ pr) (hBq : g_B E ≤ q) (hqp : q ≠ pr) (hqt : ta ≠ q) (hT : TxC L) (hi : i ≤ L.length) (hf : g_fit E G 6 40) (kt : ∀ (f A : Nat → Int32) (j : Nat), rsA L 0 8 (i, false, fun _ => 0) = (j, false, A) → (∀ z, z < nAr 8 → f z = A z) → j ≤ L.length → ∀ G' c, g_mod (fun z => z ≠ pr ∧ z ≠ q) G G' 4 30 → CmdAt E G' c 8 f → PaAt E G' pr ta L j → G.2.1 ≤ c → P (.returned (some (.ref c))) G') (kf : ∀ j, (rsA L 0 8 (i, false, fun _ => 0)).1 = j → (rsA L 0 8 (i, false, fun _ => 0)).2.1 = true → ∀ qq G', g_mod (fun z => z ≠ pr ∧ z ≠ q) G G' 6 40 → SyAt G' qq (nI j) → P (.threw qq) G') : V l E mX18_command 10 P 4 [(0, .ref pr)] [.ref q] G := by
  obtain ⟨hf1, hf2⟩ := hf
  refine V_wf (fun wf0 hBG0 => ?_)
  obtain ⟨va0, hq0, -⟩ := id hN
  have hqG := wf0 _ _ hq0
  have go : ∀ G1 : g_G, G1.2 = G.2 → g_ke (fun z => z ≠ q) G G1 → StrR E G1 q (cmW 8) (hsh (cmW 8)) 0 → PaAt E G1 pr ta L i → V l E mX18_command 10 P 394 [(0, .ref pr), (1, .ref q)] [] G1 := by
    intro G1 eG hk1 hR hP
    refine V_wf (fun wf hBG => ?_)
    have hprl := wf _ _ hP.1
    have e21 : G1.2.1 = G.2.1 := by rw [eG]
    have e22 : G1.2.2 = G.2.2 := by rw [eG]
    have hql : q < G1.2.1 := by rw [e21]; exact hqG
    have up : ∀ {G2 : g_G} {c s c1 s1 : Nat}, g_mod (fun z => z ≠ pr) G1 G2 c s → c ≤ c1 → s ≤ s1 → g_mod (fun z => z ≠ pr ∧ z ≠ q) G G2 c1 s1 := fun m hc hs => ⟨fun z y hz hy => m.1 z y hz.1 (hk1 z y hz.2 hy), by have := m.2.1; omega, by have := m.2.2.1; omega, by have := m.2.2.2.1; omega, by have := m.2.2.2.2; omega⟩
    have keepR : ∀ {G2 : g_G}, g_ke (fun z => z ≠ pr) G1 G2 → StrR E G2 q (cmW 8) (hsh (cmW 8)) 0 := fun hk => hR.ke2 hk (fun z y hy hi e => by
      subst e
      rw [hP.1] at hy
      cases hy
      cases hi)
    have fail : ∀ {pc : Nat} {LL : List (Nat × Value)} (j : Nat), (rsA L 0 8 (i, false, fun _ => 0)).1 = j → (rsA L 0 8 (i, false, fun _ => 0)).2.1 = true → ∀ qq G2, g_mod (fun z => z ≠ pr) G1 G2 6 40 → SyAt G2 qq (nI j) → VX l E mX18_command 10 P pc LL qq G2 := fun j h1 h2 qq G2 m hs => VX_out (ci := 0) (fs := []) rfl (kf j h1 h2 qq G2 (up m (Nat.le_refl _) (Nat.le_refl _)) hs)
    have wfa := wf.new (g_ob 7 [.null, .null]) 2
    have hPn : ∀ F, PaAt E (g_new (g_new G1 (g_ob 7 [.null, .null]) 2) (g_ai E 1 F) 1) pr ta L i := fun F => hP.keep ((g_ke.new wf _ _).trans (g_ke.new wfa _ _))
    refine V_new ckX8 q2509 dX18_command_394 (by first | omega | (simp only [g_new, g_up]; omega)) (by first | omega | (simp only [g_new, g_up]; omega)) ?_
    refine V_dup dX18_command_397 rfl ?_
    refine V_aload_n dX18_command_398 rfl (Or.inl ⟨_, rfl⟩) ?_
    refine V_iconstv 1 dX18_command_399 (by decide) ?_
    refine V_newarray_int 1 rfl (by decide) q388 dX18_command_400 (by first | omega | (simp only [g_new, g_up]; omega)) (by first | omega | (simp only [g_new, g_up]; omega)) ?_
    refine V_dup dX18_command_402 rfl ?_
    refine V_iconstv 0 dX18_command_403 (by decide) ?_
    refine V_aload_n dX18_command_404 rfl (Or.inl ⟨_, rfl⟩) ?_
    refine V_callV (q := (RX18, TX18, 2)) kX18_current q2334 q2336 qs38 (hPn _).1 rfl dX18_command_405 ?_ (d' := 4) (as := []) (hst := rfl)
    refine (pa_current (hPn _) hT hi ?_)
    refine V_bipushv 32 dX18_command_408 (by decide) ?_
    refine V_icmp_ne 422 dX18_command_410 (by decide) (fun c410 => ?_) (fun c410 => ?_)
    · have hne : ¬ mkW false L i = 32 := fun e => c410 ((cur_mk (by decide) (by decide)).mpr e)
      refine V_iconstv 1 dX18_command_422 (by decide) ?_
      refine V_iastore (g_new_at rfl) (by first | assumption | omega | (simp only [g_new, g_up]; omega) | (simp only [g_new, g_up, g_B] at *; omega)) (by first | assumption | exact g_in (by decide)) q388 dX18_command_423 ?_
      rw [g_new_up rfl]
      refine V_callI kX8_init rfl rfl q2510 q939 dX18_command_424 ?_ (d' := 1) (as := [_, _]) (hst := rfl)
      refine (cmm_init (by repeat (first | exact g_up_at | exact g_new_at rfl | assumption | refine g_up_of (by first | assumption | (simp only [g_new, g_up]; omega) | omega) ?_ | refine g_new_of (by first | assumption | (simp only [g_new, g_up]; omega) | omega) ?_)) (by first | assumption | omega | (simp only [g_new, g_up]; omega) | (simp only [g_new, g_up, g_B] at *; omega)) ?_)
      refine V_areturnO dX18_command_427 rfl ?_
      obtain ⟨f1, f2, f3⟩ := pc_fin0 (kind := 8) (N := 1) wf hP hql hR (by decide) (by decide) _ rfl
      have er : rsA L 0 8 (i, false, fun _ => 0) = (i, false, upd (fun _ => 0) (8 * 0) 1) := by
        show (if mkW false L i = 32 then _ else (i, false, upd (fun _ => 0) (8 * 0) 1)) = _
        rw [if_neg hne]
      refine kt _ _ i er ?_ hi _ _ (up f1 (by decide) (by decide)) f2 f3 (by omega)
      intro z hz
      match z, hz with
      | 0, _ => rfl
    · have he : mkW false L i = 32 := (cur_mk (by decide) (by decide)).mp c410
      have er : rsA L 0 8 (i, false, fun _ => 0) = rs L 0 32 0 (i, false, upd (fun _ => 0) (8 * 0) 1) := by
        show (if mkW false L i = 32 then rs L 0 32 0 (i, false, upd (fun _ => 0) (8 * 0) 1) else _) = _
        rw [if_pos he]
      refine V_aload_n dX18_command_413 rfl (Or.inl ⟨_, rfl⟩) ?_
      refine V_bipushv 32 dX18_command_414 (by decide) ?_
      refine V_callV (q := (RX18, TX18, 2)) kX18_numberAfter q2501 q2503 qs41 (hPn _).1 rfl dX18_command_416 ?_ (d' := 8) (as := [_]) (hst := rfl)
      refine (pa_number (hPn _) hB hT hi (Or.inl rfl) ⟨by simp only [g_new]; omega, by simp only [g_new]; omega⟩ (fun v j q1 hjn => ?_) (fun v j q1 qq G4 m4 hs => fail j ?_ ?_ qq G4 ?_ hs))
      rotate_left
      · rw [er, rs_eq q1]
      · rw [er, rs_eq q1]
      · obtain ⟨c1, c2, c3, c4, c5⟩ := m4
        simp only [g_new] at c2 c3 c4 c5
        exact ⟨fun z x hz hx => c1 z x hz (g_new_of (wfa.ne ((g_ke.new (A := g_all) wf _ _) z x trivial hx)) (g_new_of (wf.ne hx) hx)), by omega, by omega, by omega, by omega⟩
      refine V_goto 423 dX18_command_419 (by decide) ?_
      refine V_iastore (g_up_of (by simp only [g_new]; omega) (g_new_at rfl)) (by first | assumption | omega | (simp only [g_new, g_up]; omega) | (simp only [g_new, g_up, g_B] at *; omega)) (by first | assumption | exact g_in (by decide)) q388 dX18_command_423 ?_
      refine V_callI kX8_init rfl rfl q2510 q939 dX18_command_424 ?_ (d' := 1) (as := [_, _]) (hst := rfl)
      refine (cmm_init (by repeat (first | exact g_up_at | exact g_new_at rfl | assumption | refine g_up_of (by first | assumption | (simp only [g_new, g_up]; omega) | omega) ?_ | refine g_new_of (by first | assumption | (simp only [g_new, g_up]; omega) | omega) ?_)) (by first | assumption | omega | (simp only [g_new, g_up]; omega) | (simp only [g_new, g_up, g_B] at *; omega)) ?_)
      refine V_areturnO dX18_command_427 rfl ?_
      obtain ⟨f1, f2, f3⟩ := pc_fin (kind := 8) (N := 1) wf hP hqp hql hR (by decide) (by decide) _ rfl
      refine kt _ _ j (er.trans (rs_eq q1)) ?_ hjn _ _ (up f1 (by decide) (by decide)) f2 f3 (by omega)
      intro z hz
      match z, hz with
      | 0, _ => rfl
  refine V_astore_n dX18_command_4 (Or.inl ⟨_, rfl⟩) (by decide) ?_
  refine V_aload_n dX18_command_5 rfl (Or.inl ⟨_, rfl⟩) ?_
  refine V_astore_n dX18_command_6 (Or.inl ⟨_, rfl⟩) (by decide) ?_
  refine V_iconstv (-1) dX18_command_7 (by decide) ?_
  refine V_istore_n dX18_command_8 (by decide) ?_
  refine V_aload_n dX18_command_9 rfl (Or.inl ⟨_, rfl⟩) ?_
  refine V_callV (q := (RJ7, TJ7, 4)) kJ7_hashCode q2488 q954 q955 hq0 rfl dX18_command_10 ?_ (d' := 3) (as := []) (hst := rfl)
  refine (str_hashN hN hBq (allC (by decide +kernel)) (by decide) (by decide) (by decide +kernel) (fun G1 eG hk hR1 => ?_))
  obtain ⟨va1, hx1, -⟩ := id hR1
  have hP1 : PaAt E G1 pr ta L i := by
    obtain ⟨va9, ha9, f9, hb9, hc9⟩ := h.2
    exact ⟨hk _ _ (fun e => hqp e.symm) h.1, va9, hk _ _ hqt ha9, f9, hk _ _ (g_apart hb9 hq0 (by intro e; cases e)) hb9, hc9⟩
  refine V_lookup (off := 151) 164 dX18_command_13 (by decide) (by decide +kernel) (by decide) ?_
  refine V_aload_n dX18_command_164 rfl (Or.inl ⟨_, rfl⟩) ?_
  refine V_sc scX18_104 q2496 dX18_command_165 (by decide) rfl (fun hS165 => ?_)
  refine V_callVR (q := (RJ7, TJ7, 4)) kJ7_equals q2490 q1016 q1017 hx1 rfl dX18_command_167 ?_ (d' := 1) (as := [_]) (hst := rfl)
  refine (str_equals hR1 hS165 (by decide) ?_)
  refine V_if_eq 176 dX18_command_170 (by decide) (fun c170 => absurd c170 (by decide)) (fun _ => ?_)
  refine V_bipushv 6 dX18_command_173 (by decide) ?_
  refine V_istore_n dX18_command_175 (by decide) ?_
  refine V_iload_n dX18_command_176 rfl ?_
  refine V_tableIn 394 dX18_command_177 (by decide) (by decide) rfl (by decide) ?_
  exact V_subk (go G1 eG hk hR1 hP1) ⟨rfl, rfl, trivial⟩
end PCMD
