/-! MODULE Office: sortedByRed, closestDistanceBySorting -/
set_option maxRecDepth 100000
section SORTED
variable {l : Launch} {E : g_E} {P : Outcome → g_G → Prop} {G : g_G}
theorem srt_init {so a : Nat} (h : G.1 so = some (g_ob 14 [.null, .null])) (hB : g_B E ≤ so) (hf : g_fit E G 1 3) (k : P (.returned none) (g_up (g_new (g_up G so (g_ob 14 [.null, .ref a])) (g_ob 19 [.int 0, .ref (emp E), .int (nI 0)]) 3) so (g_ob 14 [.ref G.2.1, .ref a]))) : g_Spc l E mX16_init 4 [.ref so, .ref a] G P := by
  obtain ⟨hf1, hf2⟩ := hf
  refine V_intro (plainFor_of_name plX16) (Nat.le_of_ble_eq_true rfl) ?_
  refine V_wf (fun wf hBG => ?_)
  have hso := wf.ne h
  refine V_aload_n dX16_init_0 rfl (Or.inl ⟨_, rfl⟩) ?_
  refine V_aload_n dX16_init_1 rfl (Or.inl ⟨_, rfl⟩) ?_
  refine V_putF ckX16 (by first | assumption | (repeat (first | exact g_up_at | exact g_new_at rfl | assumption | refine g_up_of (by first | assumption | (simp only [g_new, g_up]; omega) | omega) ?_ | refine g_new_of (by first | assumption | (simp only [g_new, g_up]; omega) | omega) ?_))) (by first | assumption | omega | (simp only [g_new, g_up]; omega) | (simp only [g_new, g_up, g_B] at *; omega)) 1 (by decide) q1744 rfl rfl rfl rfl rfl rfl (Nat.le_of_ble_eq_true rfl) dX16_init_2 ?_
  refine V_aload_n dX16_init_5 rfl (Or.inl ⟨_, rfl⟩) ?_
  refine V_objInit q1739 q170 q171 dX16_init_6 (by decide) (by decide) ?_
  refine V_aload_n dX16_init_9 rfl (Or.inl ⟨_, rfl⟩) ?_
  refine V_new ckJ2 q1740 dX16_init_10 (by first | omega | (simp only [g_new, g_up]; omega)) (by first | omega | (simp only [g_new, g_up]; omega)) ?_
  refine V_dup dX16_init_13 rfl ?_
  refine V_callI kJ2_init rfl rfl q1741 q198 dX16_init_14 ?_ (d' := 3) (as := []) (hst := rfl)
  refine (als_init (g_new_at rfl) (by first | assumption | omega | (simp only [g_new, g_up]; omega) | (simp only [g_new, g_up, g_B] at *; omega)) ?_)
  rw [g_new_up rfl]
  refine V_putF ckX16 (g_new_of hso g_up_at) (by first | assumption | omega | (simp only [g_new, g_up]; omega) | (simp only [g_new, g_up, g_B] at *; omega)) 0 (by decide) q1742 rfl rfl rfl rfl rfl rfl (Nat.le_of_ble_eq_true rfl) dX16_init_17 ?_
  refine V_return dX16_init_20 rfl ?_
  exact k
theorem off_sortedByRed {A : Nat → Prop} {n a s pa al : Nat} {fs rs : List Nat} {o : Of} (h : OffC E A n G a o s pa fs al rs) (hA : ∀ q, G.2.1 ≤ q → A q) (hf : g_fit E G 13 107) (kk : ∀ G' tl ts, g_mod g_all G G' 13 107 → AlsAt E A G.2.1 G' tl ts → TsAt E A G' ts (srt o.1 []) → P (.returned (some (.ref tl))) G') : g_Spc l E mX2_sortedByRed 7 [.ref a] G P := by
  obtain ⟨hf1, hf2⟩ := hf
  have hl := h.len
  have k4 := h.2.2.2.1
  have ks := h.2.2.2.2.1.2.2.2.2.1
  refine V_intro (plainFor_of_name plX2) (Nat.le_of_ble_eq_true rfl) ?_
  refine V_wf (fun wf hBG => ?_)
  have hal := wf _ _ k4
  have hsl := wf _ _ ks
  have loop : ∀ i, i ≤ o.1.length → ∀ (G1 : g_G) (ts : List Nat) (TL : List Tn), TL.length = i → g_ke (fun q => q < G.2.1) G G1 → G.2.1 + 3 ≤ G1.2.1 → G1.2.1 ≤ G.2.1 + 3 + i → G.2.2 ≤ G1.2.2 → G1.2.2 ≤ G.2.2 + 7 + 10 * i → G1.1 G.2.1 = some (g_ob 14 [.ref (G.2.1 + 1), .ref a]) → G1.1 (G.2.1 + 2) = some (g_ob 5 [.int (nI i), .ref s]) → AlsAt E A G.2.1 G1 (G.2.1 + 1) ts → TsAt E A G1 ts TL → srt (o.1.drop i) TL = srt o.1 [] → V l E mX2_sortedByRed 7 P 17 [(0, .ref a), (1, .ref G.2.1), (2, .ref (G.2.1 + 2))] [] G1 := by
    refine down _ ?_ ?_
    · intro G1 ts TL e0 e2 e3 e3b e4 e4b e5 e6 hL hT es
      have hC1 := h.keep ((g_ke.low wf e2).mono fun _ _ => trivial)
      rw [List.drop_eq_nil_of_le (Nat.le_refl _)] at es
      have es : TL = srt o.1 [] := es
      refine V_aload_n dX2_sortedByRed_17 rfl (Or.inl ⟨_, rfl⟩) ?_
      refine V_callF (q := (RX6, TX6, 2)) (x := ⟨"java/util/Iterator", "hasNext", "()Z"⟩) kX6_hasNext q1513 ⟨by decide +kernel, by decide +kernel⟩ q392 q391 q397 q395 q393 (by decide +kernel) q396 q394 e6 rfl dX2_sortedByRed_18 ?_ (d' := 0) (as := []) (hst := rfl)
      refine (wlk_hasNext e6 hC1.2.2.2.2.1.2.2.2.2.1 (by omega) (by omega) ?_)
      rw [decide_eq_false (show ¬ o.1.length < fs.length by omega)]
      refine V_if_eq 47 dX2_sortedByRed_23 (by decide) (fun _ => ?_) (fun c23 => absurd rfl c23)
      refine V_aload_n dX2_sortedByRed_47 rfl (Or.inl ⟨_, rfl⟩) ?_
      refine V_getN ckX16 (by first | assumption | (repeat (first | exact g_up_at | exact g_new_at rfl | assumption | refine g_up_of (by first | assumption | (simp only [g_new, g_up]; omega) | omega) ?_ | refine g_new_of (by first | assumption | (simp only [g_new, g_up]; omega) | omega) ?_))) 0 (by decide) q1743 rfl (by rfl) dX2_sortedByRed_48 ?_
      refine V_areturnO dX2_sortedByRed_51 rfl ?_
      rw [es] at hT
      exact kk _ _ ts ⟨g_ke.low wf e2, by omega, by omega, by omega, by omega⟩ hL hT
    · intro i hi ih G1 ts TL e0 e2 e3 e3b e4 e4b e5 e6 hL hT es
      have hC1 := h.keep ((g_ke.low wf e2).mono fun _ _ => trivial)
      obtain ⟨r, hr, ed⟩ := drop_at hi
      rw [ed] at es
      have es : srt (o.1.drop (i + 1)) (insT r.2.1 TL) = srt o.1 [] := es
      obtain ⟨q, hq, hF⟩ := hC1.2.2.2.2.2.1.at (agL_at hr)
      obtain ⟨ta, hqc, ht⟩ := TintAt.ag hF
      have hqw : q ≠ G.2.1 + 2 := g_apart hqc e6 (by intro e; cases e)
      have k1 : g_ke (fun q => q ≠ G.2.1 + 2) G1 (g_up G1 (G.2.1 + 2) (g_ob 5 [.int (nI (i + 1)), .ref s])) := g_ke.up (fun q => q rfl) _
      have nT : ∀ z y, G1.1 z = some y → isT y = true → z ≠ G.2.1 + 2 := fun z y hy hi e => by
        subst e
        rw [e6] at hy
        cases hy
        cases (show false = true from hi)
      have ht1 := ht.ke2 k1 nT
      have hT1 := hT.ke2 k1 nT
      have hL1 : AlsAt E A G.2.1 (g_up G1 (G.2.1 + 2) (g_ob 5 [.int (nI (i + 1)), .ref s])) (G.2.1 + 1) ts := hL.ke2 k1 (by omega) (fun z hz => by
        obtain ⟨-, -, cap, g, hg⟩ := hz
        exact g_apart hg e6 (by intro e; cases e))
      obtain ⟨mc, ar, hc⟩ := hL1.cell
      have hlen9 : TL.length ≤ 9 := by omega
      refine V_aload_n dX2_sortedByRed_17 rfl (Or.inl ⟨_, rfl⟩) ?_
      refine V_callF (q := (RX6, TX6, 2)) (x := ⟨"java/util/Iterator", "hasNext", "()Z"⟩) kX6_hasNext q1513 ⟨by decide +kernel, by decide +kernel⟩ q392 q391 q397 q395 q393 (by decide +kernel) q396 q394 e6 rfl dX2_sortedByRed_18 ?_ (d' := 0) (as := []) (hst := rfl)
      refine (wlk_hasNext e6 hC1.2.2.2.2.1.2.2.2.2.1 (by omega) (by omega) ?_)
      rw [decide_eq_true (show i < fs.length by omega)]
      refine V_if_eq 47 dX2_sortedByRed_23 (by decide) (fun c23 => absurd c23 (by decide)) (fun _ => ?_)
      refine V_aload_n dX2_sortedByRed_26 rfl (Or.inl ⟨_, rfl⟩) ?_
      refine V_callF (q := (RX6, TX6, 2)) (x := ⟨"java/util/Iterator", "next", "()Ljava/lang/Object;"⟩) kX6_next q1515 ⟨by decide +kernel, by decide +kernel⟩ q402 q401 q406 q404 q393 (by decide +kernel) q405 q403 e6 rfl dX2_sortedByRed_27 ?_ (d' := 2) (as := []) (hst := rfl)
      refine (wlk_next (by omega) e6 hC1.2.2.2.2.1 hq ?_)
      refine V_castS (q := (RX7, TX7, 4)) (g_up_of hqw hqc) rfl q1091 dX2_sortedByRed_32 ?_
      refine V_astore_n dX2_sortedByRed_35 (Or.inl ⟨_, rfl⟩) (by decide) ?_
      refine V_aload_n dX2_sortedByRed_36 rfl (Or.inl ⟨_, rfl⟩) ?_
      refine V_aload_n dX2_sortedByRed_37 rfl (Or.inl ⟨_, rfl⟩) ?_
      refine V_getN ckX7 (g_up_of hqw hqc) 2 (by decide) q508 rfl (by rfl) dX2_sortedByRed_38 ?_
      refine V_callV (q := (RX16, TX16, 2)) kX16_insert q1750 q1751 q1752 (g_up_of (by omega) e5) rfl dX2_sortedByRed_41 ?_ (d' := 6) (as := [_]) (hst := rfl)
      refine (srt_insert (g_up_of (by omega) e5) hL1 hT1 ht1 hBG (by simp only [g_up]; omega) (fun z hz => hA z (by simp only [g_up] at hz; omega)) hlen9 ⟨by simp only [g_up]; omega, by simp only [g_up]; omega⟩ (fun G2 m hh => ?_))
      refine V_goto 17 dX2_sortedByRed_44 (by decide) ?_
      obtain ⟨m1, m2, m3, m4, m5⟩ := m
      simp only [g_up] at m2 m3 m4 m5
      have no : ∀ z ci vs, (g_up G1 (G.2.1 + 2) (g_ob 5 [.int (nI (i + 1)), .ref s])).1 z = some (g_ob ci vs) → ci ≠ 19 → z ≠ G.2.1 + 1 ∧ ¬ AlsAr E G.2.1 (g_up G1 (G.2.1 + 2) (g_ob 5 [.int (nI (i + 1)), .ref s])) (G.2.1 + 1) z := fun z ci vs hz hci => by
        refine ⟨g_apart hz hc (by intro e; cases e; exact hci rfl), fun ⟨_, _, cap, g, hg⟩ => ?_⟩
        rw [hz] at hg
        cases hg
      have no2 : ∀ z y, (g_up G1 (G.2.1 + 2) (g_ob 5 [.int (nI (i + 1)), .ref s])).1 z = some y → isT y = true → z ≠ G.2.1 + 1 ∧ ¬ AlsAr E G.2.1 (g_up G1 (G.2.1 + 2) (g_ob 5 [.int (nI (i + 1)), .ref s])) (G.2.1 + 1) z := fun z y hz hi => by
        refine ⟨fun e => ?_, fun ⟨_, _, cap, g, hg⟩ => ?_⟩
        · subst e
          rw [hc] at hz
          cases hz
          cases (show false = true from hi)
        · rw [hz] at hg
          cases hg
          cases (show false = true from hi)
      refine V_subk (ih G2 _ (insT r.2.1 TL) (by rw [insT_len, e0]) (fun z y hz hy => ?_) (by omega) (by omega) (by omega) (by omega) ?_ ?_ hh ?_ es) ⟨rfl, rfl, rfl, trivial⟩
      · have hz : z < G.2.1 := hz
        exact m1 z y ⟨by omega, fun q => absurd q.1 (by omega)⟩ (g_up_of (by omega) (e2 z y hz hy))
      · exact m1 _ _ (no _ 14 _ (g_up_of (by omega) e5) (by decide)) (g_up_of (by omega) e5)
      · exact m1 _ _ (no _ 5 _ g_up_at (by decide)) g_up_at
      · exact TsAt.ins (hT1.ke2 m1 no2) (ht1.ke2 m1 no2) (insP_le _)
  have wf1 := wf.new (g_ob 14 [.null, .null]) 2
  refine V_new ckX16 q1734 dX2_sortedByRed_0 (by first | omega | (simp only [g_new, g_up]; omega)) (by first | omega | (simp only [g_new, g_up]; omega)) ?_
  refine V_dup dX2_sortedByRed_3 rfl ?_
  refine V_aload_n dX2_sortedByRed_4 rfl (Or.inl ⟨_, rfl⟩) ?_
  refine V_callI kX16_init rfl rfl q1736 q1737 dX2_sortedByRed_5 ?_ (d' := 4) (as := [_]) (hst := rfl)
  refine (srt_init (g_new_at rfl) hBG ⟨by simp only [g_new]; omega, by simp only [g_new]; omega⟩ ?_)
  refine V_astore_n dX2_sortedByRed_8 (Or.inl ⟨_, rfl⟩) (by decide) ?_
  refine V_aload_n dX2_sortedByRed_9 rfl (Or.inl ⟨_, rfl⟩) ?_
  refine V_get ckX2 (by first | assumption | (repeat (first | exact g_up_at | exact g_new_at rfl | assumption | refine g_up_of (by first | assumption | (simp only [g_new, g_up]; omega) | omega) ?_ | refine g_new_of (by first | assumption | (simp only [g_new, g_up]; omega) | omega) ?_))) 0 (by decide) q223 rfl (by rfl) dX2_sortedByRed_10 ?_
  refine V_callV (q := (RX3, TX3, 2)) kX3_iterator q1511 q372 q373 (show _ = some (g_ob 2 [.ref pa, .int (nI fs.length)]) from (by repeat (first | exact g_up_at | exact g_new_at rfl | assumption | refine g_up_of (by first | assumption | (simp only [g_new, g_up]; omega) | omega) ?_ | refine g_new_of (by first | assumption | (simp only [g_new, g_up]; omega) | omega) ?_))) rfl dX2_sortedByRed_13 ?_ (d' := 2) (as := []) (hst := rfl)
  refine (shf_iterator (show _ = some (g_ob 2 [.ref pa, .int (nI fs.length)]) from (by repeat (first | exact g_up_at | exact g_new_at rfl | assumption | refine g_up_of (by first | assumption | (simp only [g_new, g_up]; omega) | omega) ?_ | refine g_new_of (by first | assumption | (simp only [g_new, g_up]; omega) | omega) ?_))) ⟨by simp only [g_new, g_up]; omega, by simp only [g_new, g_up]; omega⟩ ?_)
  refine V_astore_n dX2_sortedByRed_16 (Or.inl ⟨_, rfl⟩) (by decide) ?_
  refine V_subk (loop 0 (Nat.zero_le _) _ [] [] rfl (fun q x hq hx => ?_) ?_ ?_ ?_ ?_ ?_ (g_new_at rfl) ⟨Nat.le_succ _, hA _ (Nat.le_succ _), 0, emp E, ?_, Or.inl ⟨rfl, rfl⟩⟩ ⟨rfl, fun k a t hk => by simp at hk⟩ rfl) ⟨rfl, rfl, rfl, trivial⟩
  · have hq' : q < G.2.1 := hq
    repeat (first | exact g_up_at | exact g_new_at rfl | assumption | refine g_up_of (by first | assumption | (simp only [g_new, g_up]; omega) | omega) ?_ | refine g_new_of (by first | assumption | (simp only [g_new, g_up]; omega) | omega) ?_)
  · simp only [g_new, g_up]; omega
  · simp only [g_new, g_up]; omega
  · simp only [g_new, g_up]; omega
  · simp only [g_new, g_up]; omega
  · repeat (first | exact g_up_at | exact g_new_at rfl | assumption | refine g_up_of (by first | assumption | (simp only [g_new, g_up]; omega) | omega) ?_ | refine g_new_of (by first | assumption | (simp only [g_new, g_up]; omega) | omega) ?_)
  · repeat (first | exact g_up_at | exact g_new_at rfl | assumption | refine g_up_of (by first | assumption | (simp only [g_new, g_up]; omega) | omega) ?_ | refine g_new_of (by first | assumption | (simp only [g_new, g_up]; omega) | omega) ?_)
theorem off_closestSort {A : Nat → Prop} {n a s pa al : Nat} {fs rs : List Nat} {o : Of} (h : OffC E A n G a o s pa fs al rs) (hA : ∀ q, G.2.1 ≤ q → A q) (hf : g_fit E G 13 107) (kk : ∀ G', g_mod g_all G G' 13 107 → P (.returned (some (.int (clS (mt_k (o.2.2 5)) 1000000 (srt o.1 []))))) G') : g_Spc l E mX2_closestDistanceBySorting 8 [.ref a] G P := by
  have k4 := h.2.2.2.1
  refine V_intro (plainFor_of_name plX2) (Nat.le_of_ble_eq_true rfl) ?_
  refine V_aload_n dX2_closestDistanceBySorting_0 rfl (Or.inl ⟨_, rfl⟩) ?_
  refine V_callV (q := (RX2, TX2, 10)) kX2_metric q1248 q1249 q1250 (by first | assumption | (repeat (first | exact g_up_at | exact g_new_at rfl | assumption | refine g_up_of (by first | assumption | (simp only [g_new, g_up]; omega) | omega) ?_ | refine g_new_of (by first | assumption | (simp only [g_new, g_up]; omega) | omega) ?_))) rfl dX2_closestDistanceBySorting_1 ?_ (d' := 1) (as := []) (hst := rfl)
  refine (off_metric h ?_)
  refine V_astore_n dX2_closestDistanceBySorting_4 (Or.inl ⟨_, rfl⟩) (by decide) ?_
  refine V_aload_n dX2_closestDistanceBySorting_5 rfl (Or.inl ⟨_, rfl⟩) ?_
  refine V_callV (q := (RX2, TX2, 10)) kX2_sortedByRed q1730 q1732 qs26 (by first | assumption | (repeat (first | exact g_up_at | exact g_new_at rfl | assumption | refine g_up_of (by first | assumption | (simp only [g_new, g_up]; omega) | omega) ?_ | refine g_new_of (by first | assumption | (simp only [g_new, g_up]; omega) | omega) ?_))) rfl dX2_closestDistanceBySorting_6 ?_ (d' := 7) (as := []) (hst := rfl)
  refine (off_sortedByRed h hA hf (fun G1 tl ts m hL hT => ?_))
  obtain ⟨mc, ar, hc⟩ := hL.cell
  have hl := hT.1
  generalize hTL : srt o.1 [] = TL at hT hl kk
  have hcap : ts.length ≤ 100 := by
    obtain ⟨-, -, mc2, ar2, e1, e2⟩ := hL
    rcases e2 with ⟨e3, -⟩ | ⟨-, -, cap, f, g1, g2, g3, -⟩
    · rw [e3]; exact Nat.zero_le _
    · omega
  have inner : ∀ i t, TL[i]? = some t → ∀ j, j ≤ TL.length → i < j → ∀ m : Int32, V l E mX2_closestDistanceBySorting 8 P 111 [(0, .ref a), (1, .ref (mt_ad E (mt_k (o.2.2 5)))), (2, .ref tl), (3, .int (clS1 (mt_k (o.2.2 5)) t m (TL.drop j))), (4, .int (nI i))] [] G1 → V l E mX2_closestDistanceBySorting 8 P 33 [(0, .ref a), (1, .ref (mt_ad E (mt_k (o.2.2 5)))), (2, .ref tl), (3, .int m), (4, .int (nI i)), (5, .int (nI j))] [] G1 := by
    intro i t ht
    obtain ⟨q, hq, hqt⟩ := hT.at ht
    obtain ⟨pq, hpq⟩ := hqt.obj
    have hi := lt_of_at ht
    refine down _ ?_ ?_
    · intro _ m k
      rw [List.drop_eq_nil_of_le (Nat.le_refl _)] at k
      refine V_iload dX2_closestDistanceBySorting_33 rfl ?_
      refine V_aload_n dX2_closestDistanceBySorting_35 rfl (Or.inl ⟨_, rfl⟩) ?_
      refine V_callF (q := (RJ2, TJ2, 3)) (x := ⟨"java/util/List", "size", "()I"⟩) kJ2_size q526 ⟨by decide +kernel, by decide +kernel⟩ q528 q527 q533 q531 q529 (by decide +kernel) q532 q530 hc rfl dX2_closestDistanceBySorting_36 ?_ (d' := 0) (as := []) (hst := rfl)
      refine (hL.size ?_)
      refine V_icmp_ge 111 dX2_closestDistanceBySorting_41 (by decide) (fun _ => ?_) (fun c41 => absurd (by rw [hl]; exact Int32.le_refl _) c41)
      exact V_subk k ⟨rfl, rfl, rfl, rfl, rfl, trivial⟩
    · intro j hj ih hij m k
      obtain ⟨u, hu, ed⟩ := drop_at hj
      rw [ed, clS1_c] at k
      obtain ⟨q2, hq2, hqt2⟩ := hT.at hu
      obtain ⟨pq2, hpq2⟩ := hqt2.obj
      refine V_iload dX2_closestDistanceBySorting_33 rfl ?_
      refine V_aload_n dX2_closestDistanceBySorting_35 rfl (Or.inl ⟨_, rfl⟩) ?_
      refine V_callF (q := (RJ2, TJ2, 3)) (x := ⟨"java/util/List", "size", "()I"⟩) kJ2_size q526 ⟨by decide +kernel, by decide +kernel⟩ q528 q527 q533 q531 q529 (by decide +kernel) q532 q530 hc rfl dX2_closestDistanceBySorting_36 ?_ (d' := 0) (as := []) (hst := rfl)
      refine (hL.size ?_)
      refine V_icmp_ge 111 dX2_closestDistanceBySorting_41 (by decide) (fun c41 => absurd c41 (nI_ge (by omega) (by omega))) (fun _ => ?_)
      refine V_aload_n dX2_closestDistanceBySorting_44 rfl (Or.inl ⟨_, rfl⟩) ?_
      refine V_aload_n dX2_closestDistanceBySorting_45 rfl (Or.inl ⟨_, rfl⟩) ?_
      refine V_iload dX2_closestDistanceBySorting_46 rfl ?_
      refine V_callF (q := (RJ2, TJ2, 3)) (x := ⟨"java/util/List", "get", "(I)Ljava/lang/Object;"⟩) kJ2_get q542 ⟨by decide +kernel, by decide +kernel⟩ q544 q543 q548 q546 q529 (by decide +kernel) q547 q545 hc rfl dX2_closestDistanceBySorting_48 ?_ (d' := 2) (as := [_]) (hst := rfl)
      refine (als_get (k := i) hL rfl hq ?_)
      refine V_castS (q := (RX11, TX11, 1)) (by first | assumption | (repeat (first | exact g_up_at | exact g_new_at rfl | assumption | refine g_up_of (by first | assumption | (simp only [g_new, g_up]; omega) | omega) ?_ | refine g_new_of (by first | assumption | (simp only [g_new, g_up]; omega) | omega) ?_))) rfl q1077 dX2_closestDistanceBySorting_53 ?_
      refine V_aload_n dX2_closestDistanceBySorting_56 rfl (Or.inl ⟨_, rfl⟩) ?_
      refine V_iload dX2_closestDistanceBySorting_57 rfl ?_
      refine V_callF (q := (RJ2, TJ2, 3)) (x := ⟨"java/util/List", "get", "(I)Ljava/lang/Object;"⟩) kJ2_get q542 ⟨by decide +kernel, by decide +kernel⟩ q544 q543 q548 q546 q529 (by decide +kernel) q547 q545 hc rfl dX2_closestDistanceBySorting_59 ?_ (d' := 2) (as := [_]) (hst := rfl)
      refine (als_get (k := j) hL rfl hq2 ?_)
      refine V_castS (q := (RX11, TX11, 1)) (by first | assumption | (repeat (first | exact g_up_at | exact g_new_at rfl | assumption | refine g_up_of (by first | assumption | (simp only [g_new, g_up]; omega) | omega) ?_ | refine g_new_of (by first | assumption | (simp only [g_new, g_up]; omega) | omega) ?_))) rfl q1077 dX2_closestDistanceBySorting_64 ?_
      refine V_callS kX2_redBound q1803 q1804 dX2_closestDistanceBySorting_67 ?_ (d' := 3) (as := [_, _, _]) (hst := rfl)
      refine (off_redBound hqt hqt2 ?_)
      refine V_iload_n dX2_closestDistanceBySorting_70 rfl ?_
      refine V_icmp_ge 111 dX2_closestDistanceBySorting_71 (by decide) (fun c71 => ?_) (fun c71 => ?_)
      · rw [if_neg (Int32.not_lt.mpr c71)] at k
        exact V_subk k ⟨rfl, rfl, rfl, rfl, rfl, trivial⟩
      · rw [if_pos (Int32.not_le.mp c71)] at k
        refine V_iload_n dX2_closestDistanceBySorting_74 rfl ?_
        refine V_aload_n dX2_closestDistanceBySorting_75 rfl (Or.inl ⟨_, rfl⟩) ?_
        refine V_aload_n dX2_closestDistanceBySorting_76 rfl (Or.inl ⟨_, rfl⟩) ?_
        refine V_iload dX2_closestDistanceBySorting_77 rfl ?_
        refine V_callF (q := (RJ2, TJ2, 3)) (x := ⟨"java/util/List", "get", "(I)Ljava/lang/Object;"⟩) kJ2_get q542 ⟨by decide +kernel, by decide +kernel⟩ q544 q543 q548 q546 q529 (by decide +kernel) q547 q545 hc rfl dX2_closestDistanceBySorting_79 ?_ (d' := 2) (as := [_]) (hst := rfl)
        refine (als_get (k := i) hL rfl hq ?_)
        refine V_castS (q := (RX11, TX11, 1)) (by first | assumption | (repeat (first | exact g_up_at | exact g_new_at rfl | assumption | refine g_up_of (by first | assumption | (simp only [g_new, g_up]; omega) | omega) ?_ | refine g_new_of (by first | assumption | (simp only [g_new, g_up]; omega) | omega) ?_))) rfl q1077 dX2_closestDistanceBySorting_84 ?_
        refine V_aload_n dX2_closestDistanceBySorting_87 rfl (Or.inl ⟨_, rfl⟩) ?_
        refine V_iload dX2_closestDistanceBySorting_88 rfl ?_
        refine V_callF (q := (RJ2, TJ2, 3)) (x := ⟨"java/util/List", "get", "(I)Ljava/lang/Object;"⟩) kJ2_get q542 ⟨by decide +kernel, by decide +kernel⟩ q544 q543 q548 q546 q529 (by decide +kernel) q547 q545 hc rfl dX2_closestDistanceBySorting_90 ?_ (d' := 2) (as := [_]) (hst := rfl)
        refine (als_get (k := j) hL rfl hq2 ?_)
        refine V_castS (q := (RX11, TX11, 1)) (by first | assumption | (repeat (first | exact g_up_at | exact g_new_at rfl | assumption | refine g_up_of (by first | assumption | (simp only [g_new, g_up]; omega) | omega) ?_ | refine g_new_of (by first | assumption | (simp only [g_new, g_up]; omega) | omega) ?_))) rfl q1077 dX2_closestDistanceBySorting_95 ?_
        refine V_callSN kX1_distance q1404 q1340 dX2_closestDistanceBySorting_98 ?_ (d' := 3) (as := [_, _, _]) (hst := rfl)
        refine (co_distance hqt hqt2 ?_)
        refine V_callS kJ17_min q1487 q630 dX2_closestDistanceBySorting_101 ?_ (d' := 0) (as := [_, _]) (hst := rfl)
        refine (math_min ?_)
        refine V_istore_n dX2_closestDistanceBySorting_104 (by decide) ?_
        refine V_iinc dX2_closestDistanceBySorting_105 rfl (by decide) ?_
        refine V_goto 33 dX2_closestDistanceBySorting_108 (by decide) ?_
        refine V_subk (ih (by omega) _ k) ⟨rfl, rfl, rfl, rfl, rfl, ?_, trivial⟩
        rw [← nI_1 j]; rfl
  have outer : ∀ i, i ≤ TL.length → ∀ m : Int32, P (.returned (some (.int (clS (mt_k (o.2.2 5)) m (TL.drop i))))) G1 → V l E mX2_closestDistanceBySorting 8 P 16 [(0, .ref a), (1, .ref (mt_ad E (mt_k (o.2.2 5)))), (2, .ref tl), (3, .int m), (4, .int (nI i))] [] G1 := by
    refine down _ ?_ ?_
    · intro m k
      rw [List.drop_eq_nil_of_le (Nat.le_refl _)] at k
      refine V_iload dX2_closestDistanceBySorting_16 rfl ?_
      refine V_aload_n dX2_closestDistanceBySorting_18 rfl (Or.inl ⟨_, rfl⟩) ?_
      refine V_callF (q := (RJ2, TJ2, 3)) (x := ⟨"java/util/List", "size", "()I"⟩) kJ2_size q526 ⟨by decide +kernel, by decide +kernel⟩ q528 q527 q533 q531 q529 (by decide +kernel) q532 q530 hc rfl dX2_closestDistanceBySorting_19 ?_ (d' := 0) (as := []) (hst := rfl)
      refine (hL.size ?_)
      refine V_icmp_ge 117 dX2_closestDistanceBySorting_24 (by decide) (fun _ => ?_) (fun c24 => absurd (by rw [hl]; exact Int32.le_refl _) c24)
      refine V_iload_n dX2_closestDistanceBySorting_117 rfl ?_
      refine V_ireturn dX2_closestDistanceBySorting_118 rfl ?_
      exact k
    · intro i hi ih m k
      obtain ⟨t, ht, ed⟩ := drop_at hi
      rw [ed] at k
      have k : P (.returned (some (.int (clS (mt_k (o.2.2 5)) (clS1 (mt_k (o.2.2 5)) t m (TL.drop (i + 1))) (TL.drop (i + 1)))))) G1 := k
      refine V_iload dX2_closestDistanceBySorting_16 rfl ?_
      refine V_aload_n dX2_closestDistanceBySorting_18 rfl (Or.inl ⟨_, rfl⟩) ?_
      refine V_callF (q := (RJ2, TJ2, 3)) (x := ⟨"java/util/List", "size", "()I"⟩) kJ2_size q526 ⟨by decide +kernel, by decide +kernel⟩ q528 q527 q533 q531 q529 (by decide +kernel) q532 q530 hc rfl dX2_closestDistanceBySorting_19 ?_ (d' := 0) (as := []) (hst := rfl)
      refine (hL.size ?_)
      refine V_icmp_ge 117 dX2_closestDistanceBySorting_24 (by decide) (fun c24 => absurd c24 (nI_ge (by omega) (by omega))) (fun _ => ?_)
      refine V_iload dX2_closestDistanceBySorting_27 rfl ?_
      refine V_iconstv 1 dX2_closestDistanceBySorting_29 (by decide) ?_
      refine V_iadd dX2_closestDistanceBySorting_30 ?_
      rw [show nI i + 1 = nI (i + 1) from nI_1 i]
      refine V_istore dX2_closestDistanceBySorting_31 (by decide) ?_
      refine V_subk (inner i t ht (i + 1) (by omega) (by omega) m ?_) ⟨rfl, rfl, rfl, rfl, rfl, rfl, trivial⟩
      refine V_iinc dX2_closestDistanceBySorting_111 rfl (by decide) ?_
      refine V_goto 16 dX2_closestDistanceBySorting_114 (by decide) ?_
      refine V_subk (ih _ k) ⟨rfl, rfl, rfl, rfl, ?_, trivial⟩
      rw [← nI_1 i]; rfl
  refine V_astore_n dX2_closestDistanceBySorting_9 (Or.inl ⟨_, rfl⟩) (by decide) ?_
  refine V_ldc 1000000 q1725 dX2_closestDistanceBySorting_10 ?_
  refine V_istore_n dX2_closestDistanceBySorting_12 (by decide) ?_
  refine V_iconstv 0 dX2_closestDistanceBySorting_13 (by decide) ?_
  refine V_istore dX2_closestDistanceBySorting_14 (by decide) ?_
  refine V_subk (outer 0 (Nat.zero_le _) 1000000 ?_) ⟨rfl, rfl, rfl, rfl, rfl, trivial⟩
  rw [List.drop_zero]
  exact kk G1 m
end SORTED
