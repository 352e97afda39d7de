/-! MODULE Office: brightness colourAt closestDistance coins -/
set_option maxRecDepth 100000
def ahC (r : Rw) : List Rw → Nat
  | [] => 0
  | c :: t => (if 0 < brt c - brt r ∨ (brt c - brt r = 0 ∧ c.1 < r.1) then 1 else 0) + ahC r t
def rkC (L : List Rw) (x : Int32) : List Rw → Int32
  | [] => -1
  | c :: t => if nI (ahC c L) = x then c.1 else rkC L x t
theorem ahC_c {r c : Rw} {t : List Rw} : ahC r (c :: t) = (if 0 < brt c - brt r ∨ (brt c - brt r = 0 ∧ c.1 < r.1) then 1 else 0) + ahC r t := rfl
theorem rkC_c {L : List Rw} {x : Int32} {c : Rw} {t : List Rw} : rkC L x (c :: t) = if nI (ahC c L) = x then c.1 else rkC L x t := rfl
section CNT
variable {l : Launch} {E : g_E} {P : Outcome → g_G → Prop} {G : g_G}
theorem off_coins {A : Nat → Prop} {n a s pa al : Nat} {fs rs : List Nat} {o : Of} (h : OffC E A n G a o s pa fs al rs) (k : P (.returned (some (.int (o.2.2 8 - o.2.2 9)))) G) : g_Spc l E mX2_coinsByAccounts 0 [.ref a] G P := by
  have c4 := h.2.2.2.1
  refine V_intro (plainFor_of_name plX2) (Nat.le_of_ble_eq_true rfl) ?_
  refine V_aload_n dX2_coinsByAccounts_0 rfl (Or.inl ⟨_, rfl⟩) ?_
  refine V_get ckX2 (by first | assumption | (repeat (first | exact g_up_at | exact g_new_at rfl | assumption | refine g_up_of (by first | assumption | (simp only [g_new, g_up]; omega) | omega) ?_ | refine g_new_of (by first | assumption | (simp only [g_new, g_up]; omega) | omega) ?_))) 7 (by decide) q235 rfl (by rfl) dX2_coinsByAccounts_1 ?_
  refine V_aload_n dX2_coinsByAccounts_4 rfl (Or.inl ⟨_, rfl⟩) ?_
  refine V_get ckX2 (by first | assumption | (repeat (first | exact g_up_at | exact g_new_at rfl | assumption | refine g_up_of (by first | assumption | (simp only [g_new, g_up]; omega) | omega) ?_ | refine g_new_of (by first | assumption | (simp only [g_new, g_up]; omega) | omega) ?_))) 8 (by decide) q236 rfl (by rfl) dX2_coinsByAccounts_5 ?_
  refine V_isub dX2_coinsByAccounts_8 ?_
  refine V_ireturn dX2_coinsByAccounts_9 rfl ?_
  exact k
theorem off_brightness {A : Nat → Prop} {n a s pa al : Nat} {fs rs : List Nat} {o : Of} (h : OffC E A n G a o s pa fs al rs) (hf : g_fit E G 1 2) (kk : ∀ G', g_mod g_all G G' 1 2 → P (.returned (some (.int (brS 0 o.1)))) G') : g_Spc l E mX2_brightness 3 [.ref a] G P := by
  obtain ⟨hf1, hf2⟩ := hf
  have hl := h.len
  have k4 := h.2.2.2.1
  refine V_intro (plainFor_of_name plX2) (Nat.le_of_ble_eq_true rfl) ?_
  refine V_wf (fun wf hBG => ?_)
  have loop : ∀ i, i ≤ o.1.length → ∀ (G1 : g_G) (c : Int32), g_ke g_all G G1 → G1.2.1 = G.2.1 + 1 → G1.2.2 = G.2.2 + 2 → G1.1 G.2.1 = some (g_ob 5 [.int (nI i), .ref s]) → (∀ G', g_mod g_all G G' 1 2 → P (.returned (some (.int (brS c (o.1.drop i))))) G') → V l E mX2_brightness 3 P 10 [(0, .ref a), (1, .int c), (2, .ref G.2.1)] [] G1 := by
    refine down _ ?_ ?_
    · intro G1 c e2 e3 e4 e5 k
      have hC1 := h.keep (e2.mono fun _ _ => trivial)
      rw [List.drop_eq_nil_of_le (Nat.le_refl _)] at k
      refine V_aload_n dX2_brightness_10 rfl (Or.inl ⟨_, rfl⟩) ?_
      refine V_callF (q := (RX6, TX6, 2)) (x := ⟨"java/util/Iterator", "hasNext", "()Z"⟩) kX6_hasNext q1513 ⟨by decide +kernel, by decide +kernel⟩ q392 q391 q397 q395 q393 (by decide +kernel) q396 q394 e5 rfl dX2_brightness_11 ?_ (d' := 0) (as := []) (hst := rfl)
      refine (wlk_hasNext e5 hC1.2.2.2.2.1.2.2.2.2.1 (by omega) (by omega) ?_)
      rw [decide_eq_false (show ¬ o.1.length < fs.length by omega)]
      refine V_if_eq 42 dX2_brightness_16 (by decide) (fun _ => ?_) (fun c16 => absurd rfl c16)
      refine V_iload_n dX2_brightness_42 rfl ?_
      refine V_ireturn dX2_brightness_43 rfl ?_
      exact k _ ⟨e2, by omega, by omega, by omega, by omega⟩
    · intro i hi ih G1 c e2 e3 e4 e5 k
      have hC1 := h.keep (e2.mono fun _ _ => trivial)
      obtain ⟨r, hr, ed⟩ := drop_at hi
      rw [ed] at k
      obtain ⟨q, hq, hF⟩ := hC1.2.2.2.2.2.1.at (agL_at hr)
      obtain ⟨ta, hqc, ht⟩ := TintAt.ag hF
      have hqw : q ≠ G.2.1 := g_apart hqc e5 (by intro e; cases e)
      have k1 : g_ke (fun q => q ≠ G.2.1) G1 (g_up G1 G.2.1 (g_ob 5 [.int (nI (i + 1)), .ref s])) := g_ke.up (fun q => q rfl) _
      have ht1 := ht.ke2 k1 (fun z y hy hi e => by
        subst e
        rw [e5] at hy
        cases hy
        cases (show false = true from hi))
      obtain ⟨pt, hpt⟩ := ht1.obj
      refine V_aload_n dX2_brightness_10 rfl (Or.inl ⟨_, rfl⟩) ?_
      refine V_callF (q := (RX6, TX6, 2)) (x := ⟨"java/util/Iterator", "hasNext", "()Z"⟩) kX6_hasNext q1513 ⟨by decide +kernel, by decide +kernel⟩ q392 q391 q397 q395 q393 (by decide +kernel) q396 q394 e5 rfl dX2_brightness_11 ?_ (d' := 0) (as := []) (hst := rfl)
      refine (wlk_hasNext e5 hC1.2.2.2.2.1.2.2.2.2.1 (by omega) (by omega) ?_)
      rw [decide_eq_true (show i < fs.length by omega)]
      refine V_if_eq 42 dX2_brightness_16 (by decide) (fun c16 => absurd c16 (by decide)) (fun _ => ?_)
      refine V_aload_n dX2_brightness_19 rfl (Or.inl ⟨_, rfl⟩) ?_
      refine V_callF (q := (RX6, TX6, 2)) (x := ⟨"java/util/Iterator", "next", "()Ljava/lang/Object;"⟩) kX6_next q1515 ⟨by decide +kernel, by decide +kernel⟩ q402 q401 q406 q404 q393 (by decide +kernel) q405 q403 e5 rfl dX2_brightness_20 ?_ (d' := 2) (as := []) (hst := rfl)
      refine (wlk_next hBG e5 hC1.2.2.2.2.1 hq ?_)
      refine V_castS (q := (RX7, TX7, 4)) (g_up_of hqw hqc) rfl q1091 dX2_brightness_25 ?_
      refine V_astore_n dX2_brightness_28 (Or.inl ⟨_, rfl⟩) (by decide) ?_
      refine V_iload_n dX2_brightness_29 rfl ?_
      refine V_aload_n dX2_brightness_30 rfl (Or.inl ⟨_, rfl⟩) ?_
      refine V_getN ckX7 (g_up_of hqw hqc) 2 (by decide) q508 rfl (by rfl) dX2_brightness_31 ?_
      refine V_callV (q := (RX11, TX11, 1)) kX11_sum q1966 q1967 q1968 (by first | assumption | (repeat (first | exact g_up_at | exact g_new_at rfl | assumption | refine g_up_of (by first | assumption | (simp only [g_new, g_up]; omega) | omega) ?_ | refine g_new_of (by first | assumption | (simp only [g_new, g_up]; omega) | omega) ?_))) rfl dX2_brightness_34 ?_ (d' := 0) (as := []) (hst := rfl)
      refine (tint_sum ht1 ?_)
      refine V_iadd dX2_brightness_37 ?_
      refine V_istore_n dX2_brightness_38 (by decide) ?_
      refine V_goto 10 dX2_brightness_39 (by decide) ?_
      exact V_subk (ih _ (c + brt r) (fun z y _ hy => g_up_of (wf.ne hy) (e2 z y trivial hy)) e3 e4 g_up_at k) ⟨rfl, rfl, rfl, trivial⟩
  refine V_iconstv 0 dX2_brightness_0 (by decide) ?_
  refine V_istore_n dX2_brightness_1 (by decide) ?_
  refine V_aload_n dX2_brightness_2 rfl (Or.inl ⟨_, rfl⟩) ?_
  refine V_get ckX2 (by first | assumption | (repeat (first | exact g_up_at | exact g_new_at rfl | assumption | refine g_up_of (by first | assumption | (simp only [g_new, g_up]; omega) | omega) ?_ | refine g_new_of (by first | assumption | (simp only [g_new, g_up]; omega) | omega) ?_))) 0 (by decide) q223 rfl (by rfl) dX2_brightness_3 ?_
  refine V_callV (q := (RX3, TX3, 2)) kX3_iterator q1511 q372 q373 h.2.2.2.2.1.2.2.2.2.1 rfl dX2_brightness_6 ?_ (d' := 2) (as := []) (hst := rfl)
  refine (shf_iterator h.2.2.2.2.1.2.2.2.2.1 ⟨by omega, by omega⟩ ?_)
  refine V_astore_n dX2_brightness_9 (Or.inl ⟨_, rfl⟩) (by decide) ?_
  refine V_subk (loop 0 (Nat.zero_le _) _ 0 (g_ke.new wf _ _) rfl rfl (g_new_at rfl) (fun G' m => ?_)) ⟨rfl, rfl, rfl, trivial⟩
  exact kk G' m
theorem off_colourAt {A : Nat → Prop} {n a s pa al : Nat} {fs rs : List Nat} {o : Of} {x : Int32} (h : OffC E A n G a o s pa fs al rs) (hf : g_fit E G 20 40) (kk : ∀ G', g_mod g_all G G' 20 40 → P (.returned (some (.int (rkC o.1 x o.1)))) G') : g_Spc l E mX2_colourAt 3 [.ref a, .int x] G P := by
  obtain ⟨hf1, hf2⟩ := hf
  have hl := h.len
  have k4 := h.2.2.2.1
  refine V_intro (plainFor_of_name plX2) (Nat.le_of_ble_eq_true rfl) ?_
  refine V_wf (fun wf hBG => ?_)
  have outer : ∀ i, i ≤ o.1.length → ∀ (G1 : g_G), g_ke g_all G G1 → G1.2.1 = G.2.1 + 1 + i → G1.2.2 = G.2.2 + 2 + 2 * i → G1.1 G.2.1 = some (g_ob 5 [.int (nI i), .ref s]) → (∀ G', g_mod g_all G G' 20 40 → P (.returned (some (.int (rkC o.1 x (o.1.drop i))))) G') → V l E mX2_colourAt 3 P 8 [(0, .ref a), (1, .int x), (2, .ref G.2.1)] [] G1 := by
    refine down _ ?_ ?_
    · intro G1 e2 e3 e4 e5 k
      have hC1 := h.keep (e2.mono fun _ _ => trivial)
      rw [List.drop_eq_nil_of_le (Nat.le_refl _)] at k
      refine V_aload_n dX2_colourAt_8 rfl (Or.inl ⟨_, rfl⟩) ?_
      refine V_callF (q := (RX6, TX6, 2)) (x := ⟨"java/util/Iterator", "hasNext", "()Z"⟩) kX6_hasNext q1513 ⟨by decide +kernel, by decide +kernel⟩ q392 q391 q397 q395 q393 (by decide +kernel) q396 q394 e5 rfl dX2_colourAt_9 ?_ (d' := 0) (as := []) (hst := rfl)
      refine (wlk_hasNext e5 hC1.2.2.2.2.1.2.2.2.2.1 (by omega) (by omega) ?_)
      rw [decide_eq_false (show ¬ o.1.length < fs.length by omega)]
      refine V_if_eq 128 dX2_colourAt_14 (by decide) (fun _ => ?_) (fun c14 => absurd rfl c14)
      refine V_iconstv (-1) dX2_colourAt_128 (by decide) ?_
      refine V_ireturn dX2_colourAt_129 rfl ?_
      exact k _ ⟨e2, by omega, by omega, by omega, by omega⟩
    · intro i hi ih G1 e2 e3 e4 e5 k
      have hC1 := h.keep (e2.mono fun _ _ => trivial)
      obtain ⟨r, hr, ed⟩ := drop_at hi
      rw [ed] at k
      obtain ⟨q, hq, hF⟩ := hC1.2.2.2.2.2.1.at (agL_at hr)
      obtain ⟨ta, hqc, ht⟩ := TintAt.ag hF
      have hqw : q ≠ G.2.1 := g_apart hqc e5 (by intro e; cases e)
      refine V_wf (fun wf1 _ => ?_)
      refine V_aload_n dX2_colourAt_8 rfl (Or.inl ⟨_, rfl⟩) ?_
      refine V_callF (q := (RX6, TX6, 2)) (x := ⟨"java/util/Iterator", "hasNext", "()Z"⟩) kX6_hasNext q1513 ⟨by decide +kernel, by decide +kernel⟩ q392 q391 q397 q395 q393 (by decide +kernel) q396 q394 e5 rfl dX2_colourAt_9 ?_ (d' := 0) (as := []) (hst := rfl)
      refine (wlk_hasNext e5 hC1.2.2.2.2.1.2.2.2.2.1 (by omega) (by omega) ?_)
      rw [decide_eq_true (show i < fs.length by omega)]
      have kU : g_ke g_all G (g_up G1 G.2.1 (g_ob 5 [.int (nI (i + 1)), .ref s])) := fun z y _ hy => g_up_of (wf.ne hy) (e2 z y trivial hy)
      have hC2 := h.keep (kU.mono fun _ _ => trivial)
      have wf2 : g_wf (g_up G1 G.2.1 (g_ob 5 [.int (nI (i + 1)), .ref s])) := wf1.up e5 _
      refine V_if_eq 128 dX2_colourAt_14 (by decide) (fun c14 => absurd c14 (by decide)) (fun _ => ?_)
      refine V_aload_n dX2_colourAt_17 rfl (Or.inl ⟨_, rfl⟩) ?_
      refine V_callF (q := (RX6, TX6, 2)) (x := ⟨"java/util/Iterator", "next", "()Ljava/lang/Object;"⟩) kX6_next q1515 ⟨by decide +kernel, by decide +kernel⟩ q402 q401 q406 q404 q393 (by decide +kernel) q405 q403 e5 rfl dX2_colourAt_18 ?_ (d' := 2) (as := []) (hst := rfl)
      refine (wlk_next hBG e5 hC1.2.2.2.2.1 hq ?_)
      refine V_castS (q := (RX7, TX7, 4)) (g_up_of hqw hqc) rfl q1091 dX2_colourAt_23 ?_
      refine V_astore_n dX2_colourAt_26 (Or.inl ⟨_, rfl⟩) (by decide) ?_
      refine V_iconstv 0 dX2_colourAt_27 (by decide) ?_
      refine V_istore dX2_colourAt_28 (by decide) ?_
      refine V_aload_n dX2_colourAt_30 rfl (Or.inl ⟨_, rfl⟩) ?_
      refine V_get ckX2 hC2.2.2.2.1 0 (by decide) q223 rfl (by rfl) dX2_colourAt_31 ?_
      refine V_callV (q := (RX3, TX3, 2)) kX3_iterator q1511 q372 q373 hC2.2.2.2.2.1.2.2.2.2.1 rfl dX2_colourAt_34 ?_ (d' := 2) (as := []) (hst := rfl)
      refine (shf_iterator hC2.2.2.2.2.1.2.2.2.2.1 ⟨by simp only [g_up]; omega, by simp only [g_up]; omega⟩ ?_)
      refine V_astore dX2_colourAt_37 (Or.inl ⟨_, rfl⟩) (by decide) ?_
      have hr3 : ∀ (G3 : g_G), g_ke g_all G G3 → G3.2.1 = G.2.1 + 1 + (i + 1) → G3.2.2 = G.2.2 + 2 + 2 * (i + 1) → G3.1 G.2.1 = some (g_ob 5 [.int (nI (i + 1)), .ref s]) → G3.1 q = some (g_ob 6 [.int r.1, .int r.2.2.1, .ref ta, .int (o.2.2 4 - r.2.2.2)]) → V l E mX2_colourAt 3 P 114 [(0, .ref a), (1, .int x), (2, .ref G.2.1), (3, .ref q), (4, .int (nI (ahC r o.1)))] [] G3 := by
        intro G3 f2 f3 f4 f5 f6
        refine V_iload dX2_colourAt_114 rfl ?_
        refine V_iload_n dX2_colourAt_116 rfl ?_
        refine V_icmp_ne 125 dX2_colourAt_117 (by decide) (fun c117 => ?_) (fun c117 => ?_)
        · refine V_goto 8 dX2_colourAt_125 (by decide) ?_
          rw [rkC_c, if_neg c117] at k
          exact V_subk (ih G3 f2 f3 f4 f5 k) ⟨rfl, rfl, rfl, trivial⟩
        · refine V_aload_n dX2_colourAt_120 rfl (Or.inl ⟨_, rfl⟩) ?_
          refine V_getN ckX7 (by first | assumption | (repeat (first | exact g_up_at | exact g_new_at rfl | assumption | refine g_up_of (by first | assumption | (simp only [g_new, g_up]; omega) | omega) ?_ | refine g_new_of (by first | assumption | (simp only [g_new, g_up]; omega) | omega) ?_))) 0 (by decide) q498 rfl (by rfl) dX2_colourAt_121 ?_
          refine V_ireturn dX2_colourAt_124 rfl ?_
          rw [rkC_c, if_pos c117] at k
          exact k G3 ⟨f2, by omega, by omega, by omega, by omega⟩
      have inner : ∀ j, j ≤ o.1.length → ∀ (G3 : g_G) (c : Nat), c + ahC r (o.1.drop j) = ahC r o.1 → g_ke g_all G G3 → G3.2.1 = G.2.1 + 1 + (i + 1) → G3.2.2 = G.2.2 + 2 + 2 * (i + 1) → G3.1 G.2.1 = some (g_ob 5 [.int (nI (i + 1)), .ref s]) → G3.1 G1.2.1 = some (g_ob 5 [.int (nI j), .ref s]) → G3.1 q = some (g_ob 6 [.int r.1, .int r.2.2.1, .ref ta, .int (o.2.2 4 - r.2.2.2)]) → TintAt E A G3 ta r.2.1 → V l E mX2_colourAt 3 P 39 [(0, .ref a), (1, .int x), (2, .ref G.2.1), (3, .ref q), (4, .int (nI c)), (5, .ref G1.2.1)] [] G3 := by
        refine down _ ?_ ?_
        · intro G3 c ec f2 f3 f4 f5 f6 f7 f8
          have hC3 := h.keep (f2.mono fun _ _ => trivial)
          rw [List.drop_eq_nil_of_le (Nat.le_refl _)] at ec
          have ec : c + 0 = ahC r o.1 := ec
          refine V_aload dX2_colourAt_39 rfl (Or.inl ⟨_, rfl⟩) ?_
          refine V_callF (q := (RX6, TX6, 2)) (x := ⟨"java/util/Iterator", "hasNext", "()Z"⟩) kX6_hasNext q1513 ⟨by decide +kernel, by decide +kernel⟩ q392 q391 q397 q395 q393 (by decide +kernel) q396 q394 f6 rfl dX2_colourAt_41 ?_ (d' := 0) (as := []) (hst := rfl)
          refine (wlk_hasNext f6 hC3.2.2.2.2.1.2.2.2.2.1 (by omega) (by omega) ?_)
          rw [decide_eq_false (show ¬ o.1.length < fs.length by omega)]
          refine V_if_eq 114 dX2_colourAt_46 (by decide) (fun _ => ?_) (fun c46 => absurd rfl c46)
          refine V_subk (hr3 G3 f2 f3 f4 f5 f7) ⟨rfl, rfl, rfl, rfl, ?_, trivial⟩
          rw [← ec]
          rfl
        · intro j hj ihj G3 c ec f2 f3 f4 f5 f6 f7 f8
          have hC3 := h.keep (f2.mono fun _ _ => trivial)
          obtain ⟨r2, hr2, ed2⟩ := drop_at hj
          rw [ed2, ahC_c] at ec
          obtain ⟨q2, hq2, hF2⟩ := hC3.2.2.2.2.2.1.at (agL_at hr2)
          obtain ⟨tb, hqc2, ht2⟩ := TintAt.ag hF2
          have hqw2 : q2 ≠ G1.2.1 := g_apart hqc2 f6 (by intro e; cases e)
          have hqw3 : q ≠ G1.2.1 := g_apart f7 f6 (by intro e; cases e)
          have k1 : g_ke (fun q => q ≠ G1.2.1) G3 (g_up G3 G1.2.1 (g_ob 5 [.int (nI (j + 1)), .ref s])) := g_ke.up (fun q => q rfl) _
          have nT : ∀ z y, G3.1 z = some y → isT y = true → z ≠ G1.2.1 := fun z y hy hi e => by
            subst e
            rw [f6] at hy
            cases hy
            cases (show false = true from hi)
          have ht3 := ht2.ke2 k1 nT
          have ht4 := f8.ke2 k1 nT
          obtain ⟨p3, hp3⟩ := ht3.obj
          obtain ⟨p4, hp4⟩ := ht4.obj
          have hww : G.2.1 ≠ G1.2.1 := by omega
          refine V_aload dX2_colourAt_39 rfl (Or.inl ⟨_, rfl⟩) ?_
          refine V_callF (q := (RX6, TX6, 2)) (x := ⟨"java/util/Iterator", "hasNext", "()Z"⟩) kX6_hasNext q1513 ⟨by decide +kernel, by decide +kernel⟩ q392 q391 q397 q395 q393 (by decide +kernel) q396 q394 f6 rfl dX2_colourAt_41 ?_ (d' := 0) (as := []) (hst := rfl)
          refine (wlk_hasNext f6 hC3.2.2.2.2.1.2.2.2.2.1 (by omega) (by omega) ?_)
          rw [decide_eq_true (show j < fs.length by omega)]
          refine V_if_eq 114 dX2_colourAt_46 (by decide) (fun c46 => absurd c46 (by decide)) (fun _ => ?_)
          refine V_aload dX2_colourAt_49 rfl (Or.inl ⟨_, rfl⟩) ?_
          refine V_callF (q := (RX6, TX6, 2)) (x := ⟨"java/util/Iterator", "next", "()Ljava/lang/Object;"⟩) kX6_next q1515 ⟨by decide +kernel, by decide +kernel⟩ q402 q401 q406 q404 q393 (by decide +kernel) q405 q403 f6 rfl dX2_colourAt_51 ?_ (d' := 2) (as := []) (hst := rfl)
          refine (wlk_next (by omega) f6 hC3.2.2.2.2.1 hq2 ?_)
          refine V_castS (q := (RX7, TX7, 4)) (g_up_of hqw2 hqc2) rfl q1091 dX2_colourAt_56 ?_
          refine V_astore dX2_colourAt_59 (Or.inl ⟨_, rfl⟩) (by decide) ?_
          refine V_aload dX2_colourAt_61 rfl (Or.inl ⟨_, rfl⟩) ?_
          refine V_getN ckX7 (g_up_of hqw2 hqc2) 2 (by decide) q508 rfl (by rfl) dX2_colourAt_63 ?_
          refine V_callV (q := (RX11, TX11, 1)) kX11_sum q1966 q1967 q1968 (by first | assumption | (repeat (first | exact g_up_at | exact g_new_at rfl | assumption | refine g_up_of (by first | assumption | (simp only [g_new, g_up]; omega) | omega) ?_ | refine g_new_of (by first | assumption | (simp only [g_new, g_up]; omega) | omega) ?_))) rfl dX2_colourAt_66 ?_ (d' := 0) (as := []) (hst := rfl)
          refine (tint_sum ht3 ?_)
          refine V_aload_n dX2_colourAt_69 rfl (Or.inl ⟨_, rfl⟩) ?_
          refine V_getN ckX7 (g_up_of hqw3 f7) 2 (by decide) q508 rfl (by rfl) dX2_colourAt_70 ?_
          refine V_callV (q := (RX11, TX11, 1)) kX11_sum q1966 q1967 q1968 (by first | assumption | (repeat (first | exact g_up_at | exact g_new_at rfl | assumption | refine g_up_of (by first | assumption | (simp only [g_new, g_up]; omega) | omega) ?_ | refine g_new_of (by first | assumption | (simp only [g_new, g_up]; omega) | omega) ?_))) rfl dX2_colourAt_73 ?_ (d' := 0) (as := []) (hst := rfl)
          refine (tint_sum ht4 ?_)
          refine V_isub dX2_colourAt_76 ?_
          refine V_istore dX2_colourAt_77 (by decide) ?_
          have kG : g_ke g_all G (g_up G3 G1.2.1 (g_ob 5 [.int (nI (j + 1)), .ref s])) := fun z y _ hy => g_up_of (by have := wf _ _ hy; omega) (f2 z y trivial hy)
          have key : ∀ c', c' + ahC r (o.1.drop (j + 1)) = ahC r o.1 → V l E mX2_colourAt 3 P 39 [(0, .ref a), (1, .int x), (2, .ref G.2.1), (3, .ref q), (4, .int (nI c')), (5, .ref G1.2.1)] [] (g_up G3 G1.2.1 (g_ob 5 [.int (nI (j + 1)), .ref s])) := fun c' hc' => ihj _ c' hc' kG f3 f4 (g_up_of hww f5) g_up_at (g_up_of hqw3 f7) ht4
          have yes : (0 < brt r2 - brt r ∨ (brt r2 - brt r = 0 ∧ r2.1 < r.1)) → V l E mX2_colourAt 3 P 103 [(0, .ref a), (1, .int x), (2, .ref G.2.1), (3, .ref q), (4, .int (nI c)), (5, .ref G1.2.1)] [.int (nI c)] (g_up G3 G1.2.1 (g_ob 5 [.int (nI (j + 1)), .ref s])) := by
            intro hy
            rw [if_pos hy] at ec
            refine V_iconstv 1 dX2_colourAt_103 (by decide) ?_
            refine V_goto 108 dX2_colourAt_104 (by decide) ?_
            refine V_iadd dX2_colourAt_108 ?_
            rw [show nI c + 1 = nI (c + 1) from nI_1 c]
            refine V_istore dX2_colourAt_109 (by decide) ?_
            refine V_goto 39 dX2_colourAt_111 (by decide) ?_
            exact V_subk (key (c + 1) (by omega)) ⟨rfl, rfl, rfl, rfl, rfl, rfl, trivial⟩
          have no : ¬ (0 < brt r2 - brt r ∨ (brt r2 - brt r = 0 ∧ r2.1 < r.1)) → V l E mX2_colourAt 3 P 107 [(0, .ref a), (1, .int x), (2, .ref G.2.1), (3, .ref q), (4, .int (nI c)), (5, .ref G1.2.1)] [.int (nI c)] (g_up G3 G1.2.1 (g_ob 5 [.int (nI (j + 1)), .ref s])) := by
            intro hy
            rw [if_neg hy] at ec
            refine V_iconstv 0 dX2_colourAt_107 (by decide) ?_
            refine V_iadd dX2_colourAt_108 ?_
            rw [Int32.add_zero]
            refine V_istore dX2_colourAt_109 (by decide) ?_
            refine V_goto 39 dX2_colourAt_111 (by decide) ?_
            exact V_subk (key c (by omega)) ⟨rfl, rfl, rfl, rfl, rfl, rfl, trivial⟩
          refine V_iload dX2_colourAt_79 rfl ?_
          refine V_iload dX2_colourAt_81 rfl ?_
          refine V_if_gt 103 dX2_colourAt_83 (by decide) (fun c83 => ?_) (fun c83 => ?_)
          · exact V_subk (yes (Or.inl c83)) ⟨rfl, rfl, rfl, rfl, rfl, rfl, trivial⟩
          · refine V_iload dX2_colourAt_86 rfl ?_
            refine V_if_ne 107 dX2_colourAt_88 (by decide) (fun c88 => ?_) (fun c88 => ?_)
            · exact V_subk (no (fun hy => hy.elim c83 (fun hy => c88 hy.1))) ⟨rfl, rfl, rfl, rfl, rfl, rfl, trivial⟩
            · refine V_aload dX2_colourAt_91 rfl (Or.inl ⟨_, rfl⟩) ?_
              refine V_getN ckX7 (g_up_of hqw2 hqc2) 0 (by decide) q498 rfl (by rfl) dX2_colourAt_93 ?_
              refine V_aload_n dX2_colourAt_96 rfl (Or.inl ⟨_, rfl⟩) ?_
              refine V_getN ckX7 (g_up_of hqw3 f7) 0 (by decide) q498 rfl (by rfl) dX2_colourAt_97 ?_
              refine V_icmp_ge 107 dX2_colourAt_100 (by decide) (fun c100 => ?_) (fun c100 => ?_)
              · exact V_subk (no (fun hy => hy.elim c83 (fun hy => absurd hy.2 (Int32.not_lt.mpr c100)))) ⟨rfl, rfl, rfl, rfl, rfl, rfl, trivial⟩
              · exact V_subk (yes (Or.inr ⟨c88, Int32.not_le.mp c100⟩)) ⟨rfl, rfl, rfl, rfl, rfl, rfl, trivial⟩
      have k9 : g_ke g_all G (g_new (g_up G1 G.2.1 (g_ob 5 [.int (nI (i + 1)), .ref s])) (g_ob 5 [.int (nI 0), .ref s]) 2) := kU.trans (g_ke.new wf2 _ _)
      have hg1 : G.2.1 ≠ (g_up G1 G.2.1 (g_ob 5 [.int (nI (i + 1)), .ref s])).2.1 := by simp only [g_up]; omega
      have hq9 : (g_new (g_up G1 G.2.1 (g_ob 5 [.int (nI (i + 1)), .ref s])) (g_ob 5 [.int (nI 0), .ref s]) 2).1 q = some (g_ob 6 [.int r.1, .int r.2.2.1, .ref ta, .int (o.2.2 4 - r.2.2.2)]) := g_new_of (wf2.ne (g_up_of hqw hqc)) (g_up_of hqw hqc)
      refine V_subk (inner 0 (Nat.zero_le _) _ 0 (by rw [List.drop_zero, Nat.zero_add]) k9 (by simp only [g_new, g_up]; omega) (by simp only [g_new, g_up]; omega) (g_new_of hg1 g_up_at) (g_new_at rfl) hq9 ?_) ⟨rfl, rfl, rfl, rfl, rfl, rfl, trivial⟩
      have k1 : g_ke (fun q => q ≠ G.2.1) G1 (g_up G1 G.2.1 (g_ob 5 [.int (nI (i + 1)), .ref s])) := g_ke.up (fun q => q rfl) _
      refine (ht.ke2 k1 (fun z y hy hi e => ?_)).keep (g_ke.new wf2 _ _)
      subst e
      rw [e5] at hy
      cases hy
      cases (show false = true from hi)
  refine V_aload_n dX2_colourAt_0 rfl (Or.inl ⟨_, rfl⟩) ?_
  refine V_get ckX2 (by first | assumption | (repeat (first | exact g_up_at | exact g_new_at rfl | assumption | refine g_up_of (by first | assumption | (simp only [g_new, g_up]; omega) | omega) ?_ | refine g_new_of (by first | assumption | (simp only [g_new, g_up]; omega) | omega) ?_))) 0 (by decide) q223 rfl (by rfl) dX2_colourAt_1 ?_
  refine V_callV (q := (RX3, TX3, 2)) kX3_iterator q1511 q372 q373 h.2.2.2.2.1.2.2.2.2.1 rfl dX2_colourAt_4 ?_ (d' := 2) (as := []) (hst := rfl)
  refine (shf_iterator h.2.2.2.2.1.2.2.2.2.1 ⟨by omega, by omega⟩ ?_)
  refine V_astore_n dX2_colourAt_7 (Or.inl ⟨_, rfl⟩) (by decide) ?_
  exact V_subk (outer 0 (Nat.zero_le _) _ (g_ke.new wf _ _) rfl rfl (g_new_at rfl) kk) ⟨rfl, rfl, rfl, trivial⟩
end CNT
