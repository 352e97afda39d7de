/-! MODULE Tree: nearest, nearestByLooking; Office.tree, giveBack -/
set_option maxRecDepth 100000
def trN (k : Nat) (t : Tn) (M : List FD) : Option FD := match M with
  | [] => none
  | c :: r => some (nrM k t (r.length + 1) 0 (c :: r) c)
def nlM (k : Nat) (t : Tn) : Option FD → List FD → Option FD
  | b, [] => b
  | none, c :: r => nlM k t (some c) r
  | some b, c :: r => nlM k t (if nrB k t c.2 b.2 = true then some c else some b) r
section NEAR
variable {l : Launch} {E : g_E} {P : Outcome → g_G → Prop} {G : g_G}
theorem tr_nearest {A A1 : Nat → Prop} {n tr k s ta : Nat} {M : List FD} {t : Tn} (h : TreeAt E A G tr k s M) (hM : ∀ x ∈ M, FndAt E A1 n G x.1 x.2) (hlen : M.length ≤ 10) (ht : TintAt E A1 G ta t) (hf : g_fit E G 1 1) (kk : ∀ G' x, g_mod g_all G G' 1 1 → OpAt E G' x ((trN k t M).map (·.1)) → P (.returned (some (.ref x))) G') : g_Spc l E mX13_nearest 16 [.ref tr, .ref ta] G P := by
  obtain ⟨root, hc, hN⟩ := h
  obtain ⟨hf1, hf2⟩ := hf
  refine V_intro (plainFor_of_name plX13) (Nat.le_of_ble_eq_true rfl) ?_
  cases M with
  | nil =>
    have e0 := NdAt_nil.mp hN
    subst e0
    refine V_aload_n dX13_nearest_0 rfl (Or.inl ⟨_, rfl⟩) ?_
    refine V_get ckX13 (by first | assumption | (repeat (first | exact g_up_at | exact g_new_at rfl | assumption | refine g_up_of (by first | assumption | (simp only [g_new, g_up]; omega) | omega) ?_ | refine g_new_of (by first | assumption | (simp only [g_new, g_up]; omega) | omega) ?_))) 2 (by decide) q1310 rfl (by rfl) dX13_nearest_1 ?_
    refine V_ifnonnullN dX13_nearest_4 ?_
    refine V_callS kJ24_empty q1326 q1327 dX13_nearest_7 ?_ (d' := 0) (as := []) (hst := rfl)
    refine (opt_empty (fun hop => ?_))
    refine V_goto 31 dX13_nearest_10 (by decide) ?_
    refine V_areturnO dX13_nearest_31 rfl ?_
    exact kk G _ ⟨g_ke.refl, Nat.le_refl _, Nat.le_add_right _ _, Nat.le_refl _, Nat.le_add_right _ _⟩ hop
  | cons c r =>
    rw [List.length_cons] at hN hlen
    obtain ⟨p, y, z, rfl, rest⟩ := hN
    have hN2 : NdAt tr A G (r.length + 1) (some p) 0 (c :: r) := ⟨p, y, z, rfl, rest⟩
    have hp := rest.2.2.1
    refine V_wf (fun wf hBG => ?_)
    refine V_aload_n dX13_nearest_0 rfl (Or.inl ⟨_, rfl⟩) ?_
    refine V_get ckX13 (by first | assumption | (repeat (first | exact g_up_at | exact g_new_at rfl | assumption | refine g_up_of (by first | assumption | (simp only [g_new, g_up]; omega) | omega) ?_ | refine g_new_of (by first | assumption | (simp only [g_new, g_up]; omega) | omega) ?_))) 2 (by decide) q1310 rfl (by rfl) dX13_nearest_1 ?_
    refine V_ifnonnull 13 dX13_nearest_4 (by decide) ?_
    refine V_aload_n dX13_nearest_13 rfl (Or.inl ⟨_, rfl⟩) ?_
    refine V_get ckX13 (by first | assumption | (repeat (first | exact g_up_at | exact g_new_at rfl | assumption | refine g_up_of (by first | assumption | (simp only [g_new, g_up]; omega) | omega) ?_ | refine g_new_of (by first | assumption | (simp only [g_new, g_up]; omega) | omega) ?_))) 2 (by decide) q1310 rfl (by rfl) dX13_nearest_14 ?_
    refine V_aload_n dX13_nearest_17 rfl (Or.inl ⟨_, rfl⟩) ?_
    refine V_get ckX13 (by first | assumption | (repeat (first | exact g_up_at | exact g_new_at rfl | assumption | refine g_up_of (by first | assumption | (simp only [g_new, g_up]; omega) | omega) ?_ | refine g_new_of (by first | assumption | (simp only [g_new, g_up]; omega) | omega) ?_))) 2 (by decide) q1310 rfl (by rfl) dX13_nearest_18 ?_
    refine V_getN ckX14 (by first | assumption | (repeat (first | exact g_up_at | exact g_new_at rfl | assumption | refine g_up_of (by first | assumption | (simp only [g_new, g_up]; omega) | omega) ?_ | refine g_new_of (by first | assumption | (simp only [g_new, g_up]; omega) | omega) ?_))) 0 (by decide) q1279 rfl (by rfl) dX13_nearest_21 ?_
    refine V_aload_n dX13_nearest_24 rfl (Or.inl ⟨_, rfl⟩) ?_
    refine V_callV (q := (RX14, TX14, 5)) kX14_nearer q1331 q1332 q1333 (by first | assumption | (repeat (first | exact g_up_at | exact g_new_at rfl | assumption | refine g_up_of (by first | assumption | (simp only [g_new, g_up]; omega) | omega) ?_ | refine g_new_of (by first | assumption | (simp only [g_new, g_up]; omega) | omega) ?_))) rfl dX13_nearest_25 ?_ (d' := (r.length + 5)) (as := [_, _]) (hst := rfl) (hdd := (by omega))
    refine (nd_nearer hc ht r.length r c c 0 p _ (Nat.le_refl _) hN2 hM (hM c List.mem_cons_self) ?_)
    refine V_callS kJ24_of q1362 q1363 dX13_nearest_28 ?_ (d' := 2) (as := [_]) (hst := rfl)
    refine (opt_of ⟨by omega, by omega⟩ ?_)
    refine V_areturnO dX13_nearest_31 rfl ?_
    refine kk _ _ ⟨g_ke.new wf _ _, ?_, ?_, ?_, ?_⟩ (Or.inl (g_new_at rfl))
    · simp only [g_new]; omega
    · simp only [g_new]; omega
    · simp only [g_new]; omega
    · simp only [g_new]; omega
theorem nlM_mem {k : Nat} {t : Tn} : ∀ (M : List FD) (b : Option FD) (x : FD), nlM k t b M = some x → b = some x ∨ x ∈ M
  | [], b, x, h => Or.inl h
  | c :: r, none, x, h => by
    rcases nlM_mem r (some c) x h with e | e
    · cases e; exact Or.inr List.mem_cons_self
    · exact Or.inr (List.mem_cons_of_mem _ e)
  | c :: r, some b, x, h => by
    have h : nlM k t (if nrB k t c.2 b.2 = true then some c else some b) r = some x := h
    rcases nlM_mem r _ x h with e | e
    · split at e
      · cases e; exact Or.inr List.mem_cons_self
      · exact Or.inl e
    · exact Or.inr (List.mem_cons_of_mem _ e)
theorem OpAt.keep {x : Nat} {v : Option Nat} {B : Nat → Prop} {G' : g_G} (h : OpAt E G x v) (hk : g_ke B G G') (hb : ∀ vs, G.1 x = some (g_ob 24 vs) → B x) : OpAt E G' x v := h.imp (fun h => hk _ _ (hb _ h) h) id
theorem tr_looking {A A1 : Nat → Prop} {n tr k s pa ta : Nat} {fs : List Nat} {L : List Rw} {M : List FD} {t : Tn} (h : TreeAt E A G tr k s M) (hS : ShfS E A1 n G s pa fs) (hF : FsAt E A1 n G fs L) (ht : TintAt E A1 G ta t) (hf : g_fit E G 11 12) (kk : ∀ G' x, g_mod g_all G G' 11 12 → OpAt E G' x ((nlM k t none (fs.zip L)).map (·.1)) → P (.returned (some (.ref x))) G') : g_Spc l E mX13_nearestByLooking 5 [.ref tr, .ref ta] G P := by
  obtain ⟨root, hc, hN⟩ := h
  obtain ⟨hf1, hf2⟩ := hf
  have hlen := hF.1
  have h10 := hS.2.2.2.2.2.1
  have hzl : (fs.zip L).length = L.length := by rw [List.length_zip]; omega
  refine V_intro (plainFor_of_name plX13) (Nat.le_of_ble_eq_true rfl) ?_
  refine V_wf (fun wf hBG => ?_)
  have loop : ∀ i, i ≤ L.length → ∀ (G1 : g_G) (x : Nat) (b : Option FD), g_ke g_all G G1 → G.2.1 + 1 ≤ G1.2.1 → G1.2.1 ≤ G.2.1 + 1 + i → G.2.2 ≤ G1.2.2 → G1.2.2 ≤ G.2.2 + 2 + i → G1.1 G.2.1 = some (g_ob 5 [.int (nI i), .ref s]) → OpAt E G1 x (b.map (·.1)) → (∀ y, b = some y → y ∈ fs.zip L) → nlM k t b ((fs.zip L).drop i) = nlM k t none (fs.zip L) → V l E mX13_nearestByLooking 5 P 12 [(0, .ref tr), (1, .ref ta), (2, .ref x), (3, .ref G.2.1)] [] G1 := by
    refine down _ ?_ ?_
    · intro G1 x b e2 e3 e3b e4 e4b e5 e6 e7 e8
      rw [List.drop_eq_nil_of_le (by omega)] at e8
      have e8 : b = nlM k t none (fs.zip L) := by rw [← e8]; cases b <;> rfl
      have hS1 := hS.keep (e2.mono fun _ _ => trivial)
      refine V_aload_n dX13_nearestByLooking_12 rfl (Or.inl ⟨_, rfl⟩) ?_
      refine V_callF (q := (RX6, TX6, 2)) (x := ⟨"java/util/Iterator", "hasNext", "()Z"⟩) kX6_hasNext q1268 ⟨by decide +kernel, by decide +kernel⟩ q392 q391 q397 q395 q393 (by decide +kernel) q396 q394 e5 rfl dX13_nearestByLooking_13 ?_ (d' := 0) (as := []) (hst := rfl)
      refine (wlk_hasNext e5 hS1.2.2.2.2.1 (by omega) (by omega) ?_)
      rw [decide_eq_false (show ¬ L.length < fs.length by omega)]
      refine V_if_eq 65 dX13_nearestByLooking_18 (by decide) (fun _ => ?_) (fun c18 => absurd rfl c18)
      refine V_aload_n dX13_nearestByLooking_65 rfl (Or.inl ⟨_, rfl⟩) ?_
      refine V_areturnO dX13_nearestByLooking_66 rfl ?_
      rw [e8] at e6
      exact kk _ _ ⟨e2, by omega, by omega, by omega, by omega⟩ e6
    · intro i hi ih G1 x b e2 e3 e3b e4 e4b e5 e6 e7 e8
      have hS1 := hS.keep (e2.mono fun _ _ => trivial)
      have hF1 := hF.keep (e2.mono fun _ _ => trivial)
      obtain ⟨r, hr, -⟩ := drop_at hi
      obtain ⟨q, hq, hFq⟩ := hF1.at hr
      have hFq0 := hFq
      obtain ⟨-, -, tq, hqc, -⟩ := hFq0
      have hz : (fs.zip L)[i]? = some (q, r) := by
        rw [List.getElem?_zip_eq_some]
        exact ⟨hq, hr⟩
      have hzd : (fs.zip L).drop i = (q, r) :: (fs.zip L).drop (i + 1) := by
        obtain ⟨z, hz1, hz2⟩ := drop_at (L := fs.zip L) (i := i) (by omega)
        rw [hz] at hz1
        cases hz1
        exact hz2
      rw [hzd] at e8
      have hqw : q ≠ G.2.1 := g_apart hqc e5 (by intro e; cases e)
      have k1 : g_ke (fun q => q ≠ G.2.1) G1 (g_up G1 G.2.1 (g_ob 5 [.int (nI (i + 1)), .ref s])) := g_ke.up (fun q => q rfl) _
      have kG : g_ke g_all G (g_up G1 G.2.1 (g_ob 5 [.int (nI (i + 1)), .ref s])) := fun z y _ hy => g_up_of (wf.ne hy) (e2 z y trivial hy)
      have hF2 := hF.keep (kG.mono fun _ _ => trivial)
      have hop : OpAt E (g_up G1 G.2.1 (g_ob 5 [.int (nI (i + 1)), .ref s])) x (b.map (·.1)) := e6.keep k1 (fun vs hv e => by
        subst e
        rw [e5] at hv
        cases hv)
      refine V_wf (fun wfG1 _ => ?_)
      have wf2 := wfG1.up e5 (g_ob 5 [.int (nI (i + 1)), .ref s])
      have take : (nlM k t (some (q, r)) ((fs.zip L).drop (i + 1)) = nlM k t none (fs.zip L)) → V l E mX13_nearestByLooking 5 P 56 [(0, .ref tr), (1, .ref ta), (2, .ref x), (3, .ref G.2.1), (4, .ref q)] [] (g_up G1 G.2.1 (g_ob 5 [.int (nI (i + 1)), .ref s])) := by
        intro he
        refine V_aload dX13_nearestByLooking_56 rfl (Or.inl ⟨_, rfl⟩) ?_
        refine V_callS kJ24_of q1362 q1363 dX13_nearestByLooking_58 ?_ (d' := 2) (as := [_]) (hst := rfl)
        refine (opt_of ⟨by simp only [g_up]; omega, by simp only [g_up]; omega⟩ ?_)
        refine V_astore_n dX13_nearestByLooking_61 (Or.inl ⟨_, rfl⟩) (by decide) ?_
        refine V_goto 12 dX13_nearestByLooking_62 (by decide) ?_
        refine V_subk (ih _ _ (some (q, r)) (kG.trans (g_ke.new wf2 _ _)) (by simp only [g_up, g_new]; omega) (by simp only [g_up, g_new]; omega) (by simp only [g_up, g_new]; omega) (by simp only [g_up, g_new]; omega) (g_new_of (by simp only [g_up]; omega) g_up_at) (Or.inl (g_new_at rfl)) (fun y hy => by cases hy; exact List.mem_of_getElem? hz) he) ⟨rfl, rfl, rfl, rfl, trivial⟩
      refine V_aload_n dX13_nearestByLooking_12 rfl (Or.inl ⟨_, rfl⟩) ?_
      refine V_callF (q := (RX6, TX6, 2)) (x := ⟨"java/util/Iterator", "hasNext", "()Z"⟩) kX6_hasNext q1268 ⟨by decide +kernel, by decide +kernel⟩ q392 q391 q397 q395 q393 (by decide +kernel) q396 q394 e5 rfl dX13_nearestByLooking_13 ?_ (d' := 0) (as := []) (hst := rfl)
      refine (wlk_hasNext e5 hS1.2.2.2.2.1 (by omega) (by omega) ?_)
      rw [decide_eq_true (show i < fs.length by omega)]
      refine V_if_eq 65 dX13_nearestByLooking_18 (by decide) (fun c18 => absurd c18 (by decide)) (fun _ => ?_)
      refine V_aload_n dX13_nearestByLooking_21 rfl (Or.inl ⟨_, rfl⟩) ?_
      refine V_callF (q := (RX6, TX6, 2)) (x := ⟨"java/util/Iterator", "next", "()Ljava/lang/Object;"⟩) kX6_next q1270 ⟨by decide +kernel, by decide +kernel⟩ q402 q401 q406 q404 q393 (by decide +kernel) q405 q403 e5 rfl dX13_nearestByLooking_22 ?_ (d' := 2) (as := []) (hst := rfl)
      refine (wlk_next hBG e5 hS1 hq ?_)
      refine V_castS (q := (RX7, TX7, 4)) (g_up_of hqw hqc) rfl q1271 dX13_nearestByLooking_27 ?_
      refine V_astore dX13_nearestByLooking_30 (Or.inl ⟨_, rfl⟩) (by decide) ?_
      refine V_aload_n dX13_nearestByLooking_32 rfl (Or.inl ⟨_, rfl⟩) ?_
      refine V_callVR (q := (RJ24, TJ24, 1)) kJ24_isPresent q1659 q1660 q1661 hop rfl dX13_nearestByLooking_33 ?_ (d' := 0) (as := []) (hst := rfl)
      refine (opt_isPresent hop ?_)
      cases b with
      | none =>
        refine V_if_eq 56 dX13_nearestByLooking_36 (by decide) (fun _ => ?_) (fun c36 => absurd rfl c36)
        exact V_subk (take e8) ⟨rfl, rfl, rfl, rfl, rfl, trivial⟩
      | some b =>
        have e8 : nlM k t (if nrB k t r b.2 = true then some (q, r) else some b) ((fs.zip L).drop (i + 1)) = nlM k t none (fs.zip L) := e8
        have hbm := e7 b rfl
        have hbF := hF2.zip b hbm
        have hbF0 := hbF
        obtain ⟨-, -, tb, hbc, -⟩ := hbF0
        refine V_if_eq 56 dX13_nearestByLooking_36 (by decide) (fun c36 => absurd c36 (show ¬ b2i true = 0 by decide)) (fun _ => ?_)
        refine V_aload_n dX13_nearestByLooking_39 rfl (Or.inl ⟨_, rfl⟩) ?_
        refine V_aload dX13_nearestByLooking_40 rfl (Or.inl ⟨_, rfl⟩) ?_
        refine V_aload_n dX13_nearestByLooking_42 rfl (Or.inl ⟨_, rfl⟩) ?_
        refine V_callVR (q := (RJ24, TJ24, 1)) kJ24_get q1663 q1379 q1380 hop rfl dX13_nearestByLooking_43 ?_ (d' := 0) (as := []) (hst := rfl)
        refine (opt_get hop ?_)
        refine V_castS (q := (RX7, TX7, 4)) hbc rfl q1271 dX13_nearestByLooking_46 ?_
        refine V_aload_n dX13_nearestByLooking_49 rfl (Or.inl ⟨_, rfl⟩) ?_
        refine V_callV (q := (RX13, TX13, 3)) kX13_isNearer q1664 q1337 qs12 (kG _ _ trivial hc) rfl dX13_nearestByLooking_50 ?_ (d' := 4) (as := [_, _, _]) (hst := rfl)
        refine (tr_isNearer (c := (q, r)) (b := b) (kG _ _ trivial hc) (hF2.2.2 i q r hq hr) hbF (ht.keep (kG.mono fun _ _ => trivial)) ?_)
        refine V_if_eq 62 dX13_nearestByLooking_53 (by decide) (fun c53 => ?_) (fun c53 => ?_)
        · refine V_goto 12 dX13_nearestByLooking_62 (by decide) ?_
          have eb : nrB k t r b.2 = false := b2i_f c53
          rw [eb, if_neg (by decide)] at e8
          exact V_subk (ih _ x (some b) kG e3 (by simp only [g_up]; omega) e4 (by simp only [g_up]; omega) g_up_at hop e7 e8) ⟨rfl, rfl, rfl, rfl, trivial⟩
        · have eb : nrB k t r b.2 = true := b2i_t c53
          rw [eb, if_pos rfl] at e8
          exact V_subk (take e8) ⟨rfl, rfl, rfl, rfl, rfl, trivial⟩
  refine V_callS kJ24_empty q1326 q1327 dX13_nearestByLooking_0 ?_ (d' := 0) (as := []) (hst := rfl)
  refine (opt_empty (fun hop => ?_))
  refine V_astore_n dX13_nearestByLooking_3 (Or.inl ⟨_, rfl⟩) (by decide) ?_
  refine V_aload_n dX13_nearestByLooking_4 rfl (Or.inl ⟨_, rfl⟩) ?_
  refine V_get ckX13 (by first | assumption | (repeat (first | exact g_up_at | exact g_new_at rfl | assumption | refine g_up_of (by first | assumption | (simp only [g_new, g_up]; omega) | omega) ?_ | refine g_new_of (by first | assumption | (simp only [g_new, g_up]; omega) | omega) ?_))) 1 (by decide) q1309 rfl (by rfl) dX13_nearestByLooking_5 ?_
  refine V_callV (q := (RX3, TX3, 2)) kX3_iterator q1266 q372 q373 hS.2.2.2.2.1 rfl dX13_nearestByLooking_8 ?_ (d' := 2) (as := []) (hst := rfl)
  refine (shf_iterator hS.2.2.2.2.1 ⟨by omega, by omega⟩ ?_)
  refine V_astore_n dX13_nearestByLooking_11 (Or.inl ⟨_, rfl⟩) (by decide) ?_
  have k0 := g_ke.new (A := g_all) wf (g_ob 5 [.int (nI 0), .ref s]) 2
  refine V_subk (loop 0 (Nat.zero_le _) _ _ none k0 (by simp only [g_new]; omega) (by simp only [g_new]; omega) (by simp only [g_new]; omega) (by simp only [g_new]; omega) (g_new_at rfl) (hop.keep k0 (fun _ _ => trivial)) (fun y hy => by cases hy) (by rw [List.drop_zero])) ⟨rfl, rfl, rfl, rfl, trivial⟩
theorem off_tree {A : Nat → Prop} {n a s pa al : Nat} {fs rs : List Nat} {o : Of} (h : OffC E A n G a o s pa fs al rs) (hf : g_fit E G 13 55) (kk : ∀ G' tr A', g_mod g_all G G' 13 55 → TreeAt E A' G' tr (mt_k (o.2.2 5)) s (fs.zip (agL o)) → P (.returned (some (.ref tr))) G') : g_Spc l E mX2_tree 15 [.ref a] G P := by
  obtain ⟨hf1, hf2⟩ := hf
  have k4 := h.2.2.2.1
  refine V_intro (plainFor_of_name plX2) (Nat.le_of_ble_eq_true rfl) ?_
  refine V_wf (fun wf hBG => ?_)
  have k0 := g_ke.new (A := g_all) wf (g_ob 11 [.null, .null, .null]) 3
  have h1 := h.keep (k0.mono fun _ _ => trivial)
  refine V_new ckX13 q1246 dX2_tree_0 (by first | omega | (simp only [g_new, g_up]; omega)) (by first | omega | (simp only [g_new, g_up]; omega)) ?_
  refine V_dup dX2_tree_3 rfl ?_
  refine V_aload_n dX2_tree_4 rfl (Or.inl ⟨_, rfl⟩) ?_
  refine V_get ckX2 h1.2.2.2.1 0 (by decide) q223 rfl (by rfl) dX2_tree_5 ?_
  refine V_aload_n dX2_tree_8 rfl (Or.inl ⟨_, rfl⟩) ?_
  refine V_callV (q := (RX2, TX2, 10)) kX2_metric q1248 q1249 q1250 h1.2.2.2.1 rfl dX2_tree_9 ?_ (d' := 1) (as := []) (hst := rfl)
  refine (off_metric h1 ?_)
  refine V_callI kX13_init rfl rfl q1262 q1263 dX2_tree_12 ?_ (d' := 14) (as := [_, _]) (hst := rfl)
  refine (tr_init h1.2.2.2.2.1 h1.2.2.2.2.2.1 (g_new_at rfl) hBG ⟨by simp only [g_new]; omega, by simp only [g_new]; omega⟩ (fun G' m hT => ?_))
  refine V_areturnO dX2_tree_15 rfl ?_
  obtain ⟨m1, m2, m3, m4, m5⟩ := m
  simp only [g_new] at m2 m3 m4 m5
  refine kk G' _ _ ⟨fun z y _ hy => m1 z y (wf.ne hy) (k0 z y trivial hy), by omega, by omega, by omega, by omega⟩ hT
end NEAR
