/-! MODULE Optional; Tree: its making, nearest; Office.tree -/
set_option maxRecDepth 100000
abbrev opT : Term := .static "java/util/Optional" "EMPTY" "Ljava/util/Optional;"
def opE (E : g_E) : Nat := st_ad E "java/util/Optional" "EMPTY" "Ljava/util/Optional;"
theorem op_w1 : Cond.exactly (.static "java/util/Optional" "EMPTY" "Ljava/util/Optional;") "java/util/Optional" ∈ nrw := by decide +kernel
theorem op_w2 : Cond.untouched (.static "java/util/Optional" "EMPTY" "Ljava/util/Optional;") ∈ nrw := by decide +kernel
theorem op_w3 : Cond.eq (.field (.static "java/util/Optional" "EMPTY" "Ljava/util/Optional;") "java/util/Optional" "value" "Ljava/lang/Object;") .null ∈ nrw := by decide +kernel
theorem op_ev {l : Launch} {E : g_E} (ok : g_ok l E) : opT.eval #[Value.ref E.2.1] E.1 none [] E.1 = some (.ref (opE E)) := by
  obtain ⟨a, c, cell, k, h1, -⟩ := Cond.exactly_spec (g_cond ok op_w1)
  have e : opE E = a := by
    unfold opE st_ad
    rw [h1]
  rw [e]
  exact h1
theorem op_Z {l : Launch} {E : g_E} (ok : g_ok l E) : va_Z "java/util/Optional" "EMPTY" "Ljava/util/Optional;" (.ref (opE E)) (fun _ => False) E.1 E.1.heap :=
  va_Zof (ok.2.1 _ q1330) (ok.2.1 _ (lw_all_tbl ckJ24.2.2.2.2.2.1)) (op_ev ok) (fun _ _ h => h)
theorem op_c {l : Launch} {E : g_E} (ok : g_ok l E) : g_cst E (opE E) (g_ob 24 [.null]) := by
  obtain ⟨a, c, cell, k, h1, hfc, h2, -, h3, h4, -⟩ := Cond.exactly_spec (g_cond ok op_w1)
  cases h1.symm.trans (op_ev ok)
  obtain ⟨a', cell', e1, e2, -, -, e3⟩ := Cond.untouched_spec (g_cond ok op_w2)
  cases e1.symm.trans (op_ev ok)
  cases h2.symm.trans e2
  obtain ⟨hS, hfc2, -⟩ := ok.2.2.1 24 _ ckJ24.1
  have hv := va_eqv (g_cond ok op_w3) (v := .null) rfl
  have hOF := vk_OFof (A := fun _ => False) (op_ev ok) hv (fun _ _ h => h)
  refine ⟨cell, h2, (by rw [e3]; exact fun h => nomatch h), h3, _, ckJ24.1, ?_, ?_⟩
  · have e9 : c = E.2.2.1 24 := Option.some.inj (hfc.symm.trans hfc2)
    rw [h4, e9]
  · intro k hk
    have hk0 : k = 0 := Nat.lt_one_iff.mp hk
    subst hk0
    obtain ⟨cf, kf, fi, f, cell2, g1, -, g3, -, g5, -⟩ := hOF
    cases h2.symm.trans g3
    obtain ⟨cf', kf', fi', f', g1', g2'⟩ := hS 0 (by decide)
    cases g1.symm.trans (show E.1.fieldFound? "java/util/Optional" "value" "Ljava/lang/Object;" = _ from g1')
    rw [← g2']
    exact g5
section TREE3
variable {l : Launch} {E : g_E} {P : Outcome → g_G → Prop} {G : g_G}
/-- an Optional and what it holds -/
def OpAt (E : g_E) (G : g_G) (x : Nat) (v : Option Nat) : Prop := g_rd E G x (g_ob 24 [va_rf v])
theorem opt_empty (kk : OpAt E G (opE E) none → P (.returned (some (.ref (opE E)))) G) : g_Spc l E mJ24_empty 0 [] G P := by
  refine V_intro (plainFor_of_name plJ24) (Nat.le_of_ble_eq_true rfl) ?_
  refine V_okk fun ok => ?_
  refine V_gets (op_Z ok) q1329 rfl dJ24_empty_0 ?_
  refine V_astore_n dJ24_empty_3 (Or.inl ⟨_, rfl⟩) (by decide) ?_
  refine V_aload_n dJ24_empty_4 rfl (Or.inl ⟨_, rfl⟩) ?_
  refine V_areturnO dJ24_empty_5 rfl ?_
  exact kk (Or.inr (op_c ok))
theorem opt_rnn {a : Nat} (kk : P (.returned (some (.ref a))) G) : g_Spc l E mJ13_requireNonNull 0 [.ref a] G P := by
  refine V_intro (plainFor_of_name plJ13) (Nat.le_of_ble_eq_true rfl) ?_
  refine V_aload_n dJ13_requireNonNull_0 rfl (Or.inl ⟨_, rfl⟩) ?_
  refine V_ifnonnull 12 dJ13_requireNonNull_1 (by decide) ?_
  refine V_aload_n dJ13_requireNonNull_12 rfl (Or.inl ⟨_, rfl⟩) ?_
  refine V_areturnO dJ13_requireNonNull_13 rfl ?_
  exact kk
theorem opt_init {p a : Nat} (h : G.1 p = some (g_ob 24 [.null])) (hB : g_B E ≤ p) (kk : P (.returned none) (g_up G p (g_ob 24 [.ref a]))) : g_Spc l E mJ24_init 1 [.ref p, .ref a] G P := by
  refine V_intro (plainFor_of_name plJ24) (Nat.le_of_ble_eq_true rfl) ?_
  refine V_aload_n dJ24_init_0 rfl (Or.inl ⟨_, rfl⟩) ?_
  refine V_objInit q1373 q170 q171 dJ24_init_1 (by decide) (by decide) ?_
  refine V_aload_n dJ24_init_4 rfl (Or.inl ⟨_, rfl⟩) ?_
  refine V_aload_n dJ24_init_5 rfl (Or.inl ⟨_, rfl⟩) ?_
  refine V_putF ckJ24 (by first | assumption | (repeat (first | exact g_up_at | exact g_new_at rfl | assumption | refine g_up_of (by first | assumption | (simp only [g_new, g_up]; omega) | omega) ?_ | refine g_new_of (by first | assumption | (simp only [g_new, g_up]; omega) | omega) ?_))) (by first | assumption | omega | (simp only [g_new, g_up]; omega) | (simp only [g_new, g_up, g_B] at *; omega)) 0 (by decide) q1374 rfl rfl rfl rfl rfl rfl (Nat.le_of_ble_eq_true rfl) dJ24_init_6 ?_
  refine V_return dJ24_init_9 rfl ?_
  exact kk
theorem opt_of {a : Nat} (hf : g_fit E G 1 1) (kk : P (.returned (some (.ref G.2.1))) (g_new G (g_ob 24 [.ref a]) 1)) : g_Spc l E mJ24_of 2 [.ref a] G P := by
  obtain ⟨hf1, hf2⟩ := hf
  refine V_intro (plainFor_of_name plJ24) (Nat.le_of_ble_eq_true rfl) ?_
  refine V_wf (fun wf hBG => ?_)
  refine V_new ckJ24 q1365 dJ24_of_0 (by first | omega | (simp only [g_new, g_up]; omega)) (by first | omega | (simp only [g_new, g_up]; omega)) ?_
  refine V_dup dJ24_of_3 rfl ?_
  refine V_aload_n dJ24_of_4 rfl (Or.inl ⟨_, rfl⟩) ?_
  refine V_callS kJ13_requireNonNull q1367 q1368 dJ24_of_5 ?_ (d' := 0) (as := [_]) (hst := rfl)
  refine (opt_rnn ?_)
  refine V_callI kJ24_init rfl rfl q1370 q1371 dJ24_of_8 ?_ (d' := 1) (as := [_]) (hst := rfl)
  refine (opt_init (g_new_at rfl) hBG ?_)
  rw [g_new_up rfl]
  refine V_areturnO dJ24_of_11 rfl ?_
  exact kk
theorem opt_get {x a : Nat} (h : OpAt E G x (some a)) (kk : P (.returned (some (.ref a))) G) : g_Spc l E mJ24_get 0 [.ref x] G P := by
  refine V_intro (plainFor_of_name plJ24) (Nat.le_of_ble_eq_true rfl) ?_
  refine V_aload_n dJ24_get_0 rfl (Or.inl ⟨_, rfl⟩) ?_
  refine V_getR ckJ24 h 0 (by decide) q1374 rfl (by rfl) dJ24_get_1 ?_
  refine V_ifnonnull 17 dJ24_get_4 (by decide) ?_
  refine V_aload_n dJ24_get_17 rfl (Or.inl ⟨_, rfl⟩) ?_
  refine V_getR ckJ24 h 0 (by decide) q1374 rfl (by rfl) dJ24_get_18 ?_
  refine V_areturnO dJ24_get_21 rfl ?_
  exact kk
theorem opt_isPresent {x : Nat} {v : Option Nat} (h : OpAt E G x v) (kk : P (.returned (some (.int (b2i v.isSome)))) G) : g_Spc l E mJ24_isPresent 0 [.ref x] G P := by
  refine V_intro (plainFor_of_name plJ24) (Nat.le_of_ble_eq_true rfl) ?_
  cases v with
  | none =>
    refine V_aload_n dJ24_isPresent_0 rfl (Or.inl ⟨_, rfl⟩) ?_
    refine V_getR ckJ24 h 0 (by decide) q1374 rfl (by rfl) dJ24_isPresent_1 ?_
    refine V_ifnullN 11 dJ24_isPresent_4 (by decide) ?_
    refine V_iconstv 0 dJ24_isPresent_11 (by decide) ?_
    refine V_zreturn dJ24_isPresent_12 rfl rfl ?_
    exact kk
  | some a =>
    refine V_aload_n dJ24_isPresent_0 rfl (Or.inl ⟨_, rfl⟩) ?_
    refine V_getR ckJ24 h 0 (by decide) q1374 rfl (by rfl) dJ24_isPresent_1 ?_
    refine V_ifnull dJ24_isPresent_4 ?_
    refine V_iconstv 1 dJ24_isPresent_7 (by decide) ?_
    refine V_goto 12 dJ24_isPresent_8 (by decide) ?_
    refine V_zreturn dJ24_isPresent_12 rfl rfl ?_
    exact kk
/-- the tree of a shelf's colours -/
def TreeAt (E : g_E) (A : Nat → Prop) (G : g_G) (tr k s : Nat) (M : List FD) : Prop := ∃ root : Option Nat, G.1 tr = some (g_ob 11 [.ref (mt_ad E k), .ref s, va_rf root]) ∧ NdAt tr A G M.length root 0 M
theorem zip_at {fs : List Nat} {L : List Rw} {x : FD} (h : x ∈ fs.zip L) : ∃ k : Nat, fs[k]? = some x.1 ∧ L[k]? = some x.2 := by
  obtain ⟨k, hk⟩ := List.mem_iff_getElem?.mp h
  rw [List.getElem?_zip_eq_some] at hk
  exact ⟨k, hk⟩
theorem FsAt.zip {A : Nat → Prop} {n : Nat} {fs : List Nat} {L : List Rw} (h : FsAt E A n G fs L) : ∀ x ∈ fs.zip L, FndAt E A n G x.1 x.2 := fun x hx => by
  obtain ⟨k, h1, h2⟩ := zip_at hx
  exact h.2.2 k _ _ h1 h2
theorem FsAt.zip_nd {A : Nat → Prop} {n : Nat} {fs : List Nat} {L : List Rw} (h : FsAt E A n G fs L) : ((fs.zip L).map (·.1)).Nodup := by
  rw [List.map_fst_zip (Nat.le_of_eq h.1)]
  exact h.2.1
theorem tr_init {A : Nat → Prop} {n s pa tr k : Nat} {fs : List Nat} {L : List Rw} (h : ShfS E A n G s pa fs) (hF : FsAt E A n G fs L) (htr : G.1 tr = some (g_ob 11 [.null, .null, .null])) (hB : g_B E ≤ tr) (hf : g_fit E G 12 52) (kk : ∀ G', g_mod (fun q => q ≠ tr) G G' 12 52 → TreeAt E (fun q => G.2.1 ≤ q) G' tr k s (fs.zip L) → P (.returned none) G') : g_Spc l E mX13_init 14 [.ref tr, .ref s, .ref (mt_ad E k)] G P := by
  obtain ⟨hf1, hf2⟩ := hf
  have hlen := hF.1
  have h10 := h.2.2.2.2.2.1
  have hc := h.2.2.2.2.1
  have hzl : (fs.zip L).length = L.length := by rw [List.length_zip]; omega
  refine V_intro (plainFor_of_name plX13) (Nat.le_of_ble_eq_true rfl) ?_
  refine V_wf (fun wf hBG => ?_)
  have htl := wf _ _ htr
  have hsl := wf _ _ hc
  have hst : s ≠ tr := g_apart hc htr (by intro e; cases e)
  have loop : ∀ i, i ≤ L.length → ∀ (G1 : g_G) (root : Option Nat), g_ke (fun q => q ≠ tr) G G1 → G.2.1 + 1 ≤ G1.2.1 → G1.2.1 ≤ G.2.1 + 1 + i → G.2.2 ≤ G1.2.2 → G1.2.2 ≤ G.2.2 + 2 + 5 * i → G1.1 tr = some (g_ob 11 [.ref (mt_ad E k), .ref s, .null]) → G1.1 G.2.1 = some (g_ob 5 [.int (nI i), .ref s]) → (i = 0 → root = none) → NdAt tr (fun q => G.2.1 ≤ q) G1 i root 0 ((fs.zip L).take i) → V l E mX13_init 14 P 22 [(0, .ref tr), (1, .ref s), (2, .ref (mt_ad E k)), (3, va_rf root), (4, .ref G.2.1)] [] G1 := by
    refine down _ ?_ ?_
    · intro G1 root e2 e3 e3b e4 e4b e5 e6 _ hN
      rw [← hzl, List.take_length] at hN
      have hS1 : ShfS E A n G1 s pa fs := h.ke2 e2 hst (by
        obtain ⟨-, -, -, -, -, -, ff, hff, -⟩ := h
        exact g_apart hff htr (by intro e; cases e))
      refine V_aload dX13_init_22 rfl (Or.inl ⟨_, rfl⟩) ?_
      refine V_callF (q := (RX6, TX6, 2)) (x := ⟨"java/util/Iterator", "hasNext", "()Z"⟩) kX6_hasNext q1268 ⟨by decide +kernel, by decide +kernel⟩ q392 q391 q397 q395 q393 (by decide +kernel) q396 q394 e6 rfl dX13_init_24 ?_ (d' := 0) (as := []) (hst := rfl)
      refine (wlk_hasNext e6 hS1.2.2.2.2.1 (by omega) h10 ?_)
      rw [decide_eq_false (show ¬ L.length < fs.length by omega)]
      refine V_if_eq 72 dX13_init_29 (by decide) (fun _ => ?_) (fun c29 => absurd rfl c29)
      refine V_aload_n dX13_init_72 rfl (Or.inl ⟨_, rfl⟩) ?_
      refine V_aload_n dX13_init_73 rfl (g_rfv _) ?_
      refine V_putF ckX13 (by first | assumption | (repeat (first | exact g_up_at | exact g_new_at rfl | assumption | refine g_up_of (by first | assumption | (simp only [g_new, g_up]; omega) | omega) ?_ | refine g_new_of (by first | assumption | (simp only [g_new, g_up]; omega) | omega) ?_))) (by first | assumption | omega | (simp only [g_new, g_up]; omega) | (simp only [g_new, g_up, g_B] at *; omega)) 2 (by decide) q1310 rfl rfl rfl rfl (va_rf_nar _ _) (va_rf_fit _ _) (Nat.le_of_ble_eq_true rfl) dX13_init_74 ?_
      refine V_return dX13_init_77 rfl ?_
      have kA : g_ke (fun q => q ≠ tr) G1 (g_up G1 tr (g_ob 11 [.ref (mt_ad E k), .ref s, va_rf root])) := g_ke.up (fun q => q rfl) _
      refine kk (g_up G1 tr (g_ob 11 [.ref (mt_ad E k), .ref s, va_rf root])) ⟨e2.trans kA, by simp only [g_up]; omega, by simp only [g_up]; omega, by simp only [g_up]; omega, by simp only [g_up]; omega⟩ ⟨root, g_up_at, ?_⟩
      refine NdAt.ke kA _ _ _ _ (fun b hb z vs hz e => ?_) hN
      subst e
      rw [e5] at hz
      cases hz
    · intro i hi ih G1 root e2 e3 e3b e4 e4b e5 e6 e7 hN
      refine V_wf (fun wfG1 _ => ?_)
      obtain ⟨r, hr, -⟩ := drop_at hi
      obtain ⟨q, hq, hFq⟩ := hF.at hr
      obtain ⟨-, -, ta, hqc, -⟩ := hFq
      have hqt : q ≠ tr := g_apart hqc htr (by intro e; cases e)
      have hql := wf _ _ hqc
      have hS1 : ShfS E A n G1 s pa fs := h.ke2 e2 hst (by
        obtain ⟨-, -, -, -, -, -, ff, hff, -⟩ := h
        exact g_apart hff htr (by intro e; cases e))
      have nF : ∀ z y, G.1 z = some y → isF y = true → z ≠ tr := fun z y hy hi e => by
        subst e
        rw [htr] at hy
        cases hy
        cases (show false = true from hi)
      have hF1 : FsAt E A n G1 fs L := hF.ke3 e2 nF
      have k1 : g_ke (fun q => q ≠ G.2.1) G1 (g_up G1 G.2.1 (g_ob 5 [.int (nI (i + 1)), .ref s])) := g_ke.up (fun q => q rfl) _
      have hF2 : FsAt E A n (g_up G1 G.2.1 (g_ob 5 [.int (nI (i + 1)), .ref s])) fs L := hF1.ke3 k1 (fun z y hy hi e => by
        subst e
        rw [e6] at hy
        cases hy
        cases (show false = true from hi))
      have hqc1 : G1.1 q = some (g_ob 6 [.int r.1, .int r.2.2.1, .ref ta, .int r.2.2.2]) := e2 _ _ hqt hqc
      have hN1 : NdAt tr (fun q => G.2.1 ≤ q) (g_up G1 G.2.1 (g_ob 5 [.int (nI (i + 1)), .ref s])) i root 0 ((fs.zip L).take i) := NdAt.ke k1 _ _ _ _ (fun b hb z vs hz e => by
        subst e
        rw [e6] at hz
        cases hz) hN
      have hz : (fs.zip L)[i]? = some (q, r) := by
        rw [List.getElem?_zip_eq_some]
        exact ⟨hq, hr⟩
      have etake := take_push hz
      have hFq2 := hF2.2.2 i q r hq hr
      have htw : tr ≠ G.2.1 := by omega
      refine V_aload dX13_init_22 rfl (Or.inl ⟨_, rfl⟩) ?_
      refine V_callF (q := (RX6, TX6, 2)) (x := ⟨"java/util/Iterator", "hasNext", "()Z"⟩) kX6_hasNext q1268 ⟨by decide +kernel, by decide +kernel⟩ q392 q391 q397 q395 q393 (by decide +kernel) q396 q394 e6 rfl dX13_init_24 ?_ (d' := 0) (as := []) (hst := rfl)
      refine (wlk_hasNext e6 hS1.2.2.2.2.1 (by omega) h10 ?_)
      rw [decide_eq_true (show i < fs.length by omega)]
      refine V_if_eq 72 dX13_init_29 (by decide) (fun c29 => absurd c29 (by decide)) (fun _ => ?_)
      refine V_aload dX13_init_32 rfl (Or.inl ⟨_, rfl⟩) ?_
      refine V_callF (q := (RX6, TX6, 2)) (x := ⟨"java/util/Iterator", "next", "()Ljava/lang/Object;"⟩) kX6_next q1270 ⟨by decide +kernel, by decide +kernel⟩ q402 q401 q406 q404 q393 (by decide +kernel) q405 q403 e6 rfl dX13_init_34 ?_ (d' := 2) (as := []) (hst := rfl)
      refine (wlk_next hBG e6 hS1 hq ?_)
      refine V_castS (q := (RX7, TX7, 4)) (g_up_of (by omega) hqc1) rfl q1271 dX13_init_39 ?_
      refine V_astore dX13_init_42 (Or.inl ⟨_, rfl⟩) (by decide) ?_
      cases i with
      | zero =>
        have e7' := e7 rfl
        subst e7'
        refine V_aload_n dX13_init_44 rfl g_nv ?_
        refine V_ifnonnullN dX13_init_45 ?_
        refine V_new ckX14 q1272 dX13_init_48 (by first | omega | (simp only [g_new, g_up]; omega)) (by first | omega | (simp only [g_new, g_up]; omega)) ?_
        refine V_dup dX13_init_51 rfl ?_
        refine V_aload_n dX13_init_52 rfl (Or.inl ⟨_, rfl⟩) ?_
        refine V_aload dX13_init_53 rfl (Or.inl ⟨_, rfl⟩) ?_
        refine V_iconstv 0 dX13_init_55 (by decide) ?_
        refine V_callI kX14_init rfl rfl q1274 q1275 dX13_init_56 ?_ (d' := 1) (as := [_, _, _]) (hst := rfl)
        refine (nd_init (g_new_at rfl) (by simp only [g_up]; omega) ?_)
        rw [g_new_up rfl]
        refine V_astore_n dX13_init_59 (Or.inl ⟨_, rfl⟩) (by decide) ?_
        refine V_goto 69 dX13_init_60 (by decide) ?_
        refine V_goto 22 dX13_init_69 (by decide) ?_
        have wf1 := wfG1.up e6 (g_ob 5 [.int (nI (0 + 1)), .ref s])
        refine V_subk (ih (g_new (g_up G1 G.2.1 (g_ob 5 [.int (nI (0 + 1)), .ref s])) (g_ob 12 [.ref q, .int 0, .null, .null, .ref tr]) 5) (some (g_up G1 G.2.1 (g_ob 5 [.int (nI (0 + 1)), .ref s])).2.1) (fun z y hz' hy => ?_) ?_ ?_ ?_ ?_ ?_ ?_ (fun h => absurd h (by omega)) ?_) ⟨rfl, rfl, rfl, rfl, rfl, trivial⟩
        · have h9 := g_up_of (x := g_ob 5 [.int (nI (0 + 1)), .ref s]) (wf.ne hy) (e2 z y hz' hy)
          exact g_new_of (wf1.ne h9) h9
        · simp only [g_new, g_up]; omega
        · simp only [g_new, g_up]; omega
        · simp only [g_new, g_up]; omega
        · simp only [g_new, g_up]; omega
        · have h9 := g_up_of (x := g_ob 5 [.int (nI (0 + 1)), .ref s]) htw e5
          exact g_new_of (wf1.ne h9) h9
        · have h9 : (g_up G1 G.2.1 (g_ob 5 [.int (nI (0 + 1)), .ref s])).1 G.2.1 = some (g_ob 5 [.int (nI (0 + 1)), .ref s]) := g_up_at
          exact g_new_of (wf1.ne h9) h9
        · rw [etake]
          exact ⟨_, none, none, rfl, by simp only [g_up]; omega, by decide, g_new_at rfl, NdAt_nil.mpr rfl, NdAt_nil.mpr rfl⟩
      | succ i =>
        have hml : ((fs.zip L).take (i + 1)).length = i + 1 := by rw [List.length_take]; omega
        have hmem : ∀ x ∈ (fs.zip L).take (i + 1), FndAt E A n (g_up G1 G.2.1 (g_ob 5 [.int (nI (i + 1 + 1)), .ref s])) x.1 x.2 := fun x hx => hF2.zip x (List.mem_of_mem_take hx)
        have hnod : (((fs.zip L).take (i + 1)).map (·.1)).Nodup := (hF2.zip_nd).sublist ((List.take_sublist ..).map _)
        cases hM : (fs.zip L).take (i + 1) with
        | nil =>
          rw [hM] at hml
          cases hml
        | cons c0 r0 =>
        rw [hM] at hN1 hml hmem hnod etake
        obtain ⟨p, y, z, rfl, rest⟩ := hN1
        have hN2 : NdAt tr (fun q => G.2.1 ≤ q) (g_up G1 G.2.1 (g_ob 5 [.int (nI (i + 1 + 1)), .ref s])) (i + 1) (some p) 0 (c0 :: r0) := ⟨p, y, z, rfl, rest⟩
        rw [List.length_cons] at hml
        refine V_aload_n dX13_init_44 rfl g_rv ?_
        refine V_ifnonnull 63 dX13_init_45 (by decide) ?_
        refine V_aload_n dX13_init_63 rfl g_rv ?_
        refine V_aload dX13_init_64 rfl (Or.inl ⟨_, rfl⟩) ?_
        refine V_callV (q := (RX14, TX14, 5)) kX14_insert q1295 q1296 q1297 rest.2.2.1 rfl dX13_init_66 ?_ (d' := (i + 3)) (as := [_]) (hst := rfl) (hdd := (by omega))
        refine (nd_insert hFq2 (fun z hz => by have hz : G.2.1 ≤ z := hz; omega) (fun z hz => by simp only [g_up] at hz; show G.2.1 ≤ z; omega) ⟨by simp only [g_up]; omega, by simp only [g_up]; omega⟩ i r0 c0 0 p _ (by omega) hN2 hmem hnod (fun G2 m hN3 => ?_))
        refine V_goto 22 dX13_init_69 (by decide) ?_
        obtain ⟨m1, m2, m3, m4, m5⟩ := m
        simp only [g_up] at m2 m3 m4 m5
        have nn : ∀ z ci vs, (g_up G1 G.2.1 (g_ob 5 [.int (nI (i + 1 + 1)), .ref s])).1 z = some (g_ob ci vs) → ci ≠ 12 → NoNd (fun q => G.2.1 ≤ q) (g_up G1 G.2.1 (g_ob 5 [.int (nI (i + 1 + 1)), .ref s])) (c0 :: r0) z := fun z ci vs hz hci => Or.inr fun b _ vs' e => by
          rw [hz] at e
          injection e with e
          injection e with e
          injection e with e _
          exact hci e
        refine V_subk (ih G2 (some p) (fun z y hz' hy => ?_) (by omega) (by omega) (by omega) (by omega) ?_ ?_ (fun h => absurd h (by omega)) ?_) ⟨rfl, rfl, rfl, rfl, rfl, trivial⟩
        · have hzl2 := wf _ _ hy
          exact m1 z y (Or.inl (by show ¬ G.2.1 ≤ z; omega)) (g_up_of (wf.ne hy) (e2 z y hz' hy))
        · exact m1 _ _ (nn _ 11 _ (g_up_of htw e5) (by decide)) (g_up_of htw e5)
        · exact m1 _ _ (nn _ 5 _ g_up_at (by decide)) g_up_at
        · rw [etake]
          exact hN3
  have k0 : G.1 tr = some (g_ob 11 [.null, .null, .null]) := htr
  refine V_aload_n dX13_init_0 rfl (Or.inl ⟨_, rfl⟩) ?_
  refine V_objInit q1265 q170 q171 dX13_init_1 (by decide) (by decide) ?_
  refine V_aload_n dX13_init_4 rfl (Or.inl ⟨_, rfl⟩) ?_
  refine V_aload_n dX13_init_5 rfl (Or.inl ⟨_, rfl⟩) ?_
  refine V_putF ckX13 (by first | assumption | (repeat (first | exact g_up_at | exact g_new_at rfl | assumption | refine g_up_of (by first | assumption | (simp only [g_new, g_up]; omega) | omega) ?_ | refine g_new_of (by first | assumption | (simp only [g_new, g_up]; omega) | omega) ?_))) (by first | assumption | omega | (simp only [g_new, g_up]; omega) | (simp only [g_new, g_up, g_B] at *; omega)) 1 (by decide) q1309 rfl rfl rfl rfl rfl rfl (Nat.le_of_ble_eq_true rfl) dX13_init_6 ?_
  refine V_aload_n dX13_init_9 rfl (Or.inl ⟨_, rfl⟩) ?_
  refine V_aload_n dX13_init_10 rfl (Or.inl ⟨_, rfl⟩) ?_
  refine V_putF ckX13 (by first | assumption | (repeat (first | exact g_up_at | exact g_new_at rfl | assumption | refine g_up_of (by first | assumption | (simp only [g_new, g_up]; omega) | omega) ?_ | refine g_new_of (by first | assumption | (simp only [g_new, g_up]; omega) | omega) ?_))) (by first | assumption | omega | (simp only [g_new, g_up]; omega) | (simp only [g_new, g_up, g_B] at *; omega)) 0 (by decide) q1307 rfl rfl rfl rfl rfl rfl (Nat.le_of_ble_eq_true rfl) dX13_init_11 ?_
  refine V_null dX13_init_14 ?_
  refine V_astore_n dX13_init_15 g_nv (by decide) ?_
  refine V_aload_n dX13_init_16 rfl (Or.inl ⟨_, rfl⟩) ?_
  refine V_callV (q := (RX3, TX3, 2)) kX3_iterator q1266 q372 q373 (g_up_of hst (g_up_of hst hc)) rfl dX13_init_17 ?_ (d' := 2) (as := []) (hst := rfl)
  refine (shf_iterator (g_up_of hst (g_up_of hst hc)) ⟨by simp only [g_up]; omega, by simp only [g_up]; omega⟩ ?_)
  refine V_astore dX13_init_20 (Or.inl ⟨_, rfl⟩) (by decide) ?_
  rw [g_up_up]
  have hk : g_ke (fun q => q ≠ tr) G (g_new (g_up G tr (g_ob 11 [.ref (mt_ad E k), .ref s, .null])) (g_ob 5 [.int (nI 0), .ref s]) 2) := (g_ke.up (fun q => q rfl) _).trans (g_ke.new (wf.up htr _) _ _)
  refine V_subk (loop 0 (Nat.zero_le _) _ none hk (by simp only [g_new, g_up]; omega) (by simp only [g_new, g_up]; omega) (by simp only [g_new, g_up]; omega) (by simp only [g_new, g_up]; omega) (g_new_of (by simp only [g_up]; omega) g_up_at) (g_new_at rfl) (fun _ => rfl) (NdAt_nil.mpr rfl)) ⟨rfl, rfl, rfl, rfl, rfl, trivial⟩
end TREE3
