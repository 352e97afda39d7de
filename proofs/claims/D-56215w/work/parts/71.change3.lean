/-! MODULE Office: addReport withdraw discard handOver mix -/
set_option maxRecDepth 100000
section CHG3
variable {l : Launch} {E : g_E} {P : Outcome → g_G → Prop} {G : g_G}
theorem TintAt.isT {A : Nat → Prop} {a : Nat} {t : Tn} {G' : g_G} (h : TintAt E A G a t) (hT : ∀ z y, isT y = true → G.1 z = some y → G'.1 z = some y) : TintAt E A G' a t := by
  obtain ⟨h1, pa, f, h2, h3, h4, h5⟩ := h
  exact ⟨h1, pa, f, h2, hT _ _ rfl h3, hT _ _ rfl h4, h5⟩
theorem RsAt.el {A : Nat → Prop} {rs : List Nat} {L : List Rw} {al : Nat} {vs : List Value} (h : RsAt E A G rs L) (hal : G.1 al = some (g_ob 19 vs)) : ∀ b ∈ rs, ∃ y, b ≠ al ∧ G.1 b = some y ∧ g_cast E y "java/lang/Object" := by
  intro b hb
  obtain ⟨k, hk⟩ := List.mem_iff_getElem?.mp hb
  have hkl := lt_of_at hk
  have hkl2 : k < L.length := by rw [← h.1]; exact hkl
  obtain ⟨-, ta, hc, -⟩ := h.2 k b _ hk (List.getElem?_eq_getElem hkl2)
  exact ⟨_, g_apart hc hal (by intro e; cases e), hc, g_cast_of (q := (RX12, TX12, 4)) rfl q3327⟩
theorem RsAt.push {A : Nat → Prop} {rs : List Nat} {L : List Rw} {a : Nat} {r : Rw} (h : RsAt E A G rs L) (ha : RptAt E A G a r) : RsAt E A G (rs ++ [a]) (L ++ [r]) := by
  refine ⟨by rw [List.length_append, List.length_append, h.1]; rfl, fun k b q hb hq => ?_⟩
  have := h.1
  rcases at_push hb with e | ⟨e1, e2⟩
  · rcases at_push hq with e' | ⟨e1', e2'⟩
    · exact h.2 k b q e e'
    · have := lt_of_at e
      omega
  · rcases at_push hq with e' | ⟨e1', e2'⟩
    · have := lt_of_at e'
      omega
    · subst e2
      subst e2'
      exact ha
theorem RsAt.erase {A : Nat → Prop} {rs : List Nat} {L : List Rw} {k : Nat} (h : RsAt E A G rs L) (hk : k < L.length) : RsAt E A G (rs.eraseIdx k) (L.eraseIdx k) := by
  have hl := h.1
  refine ⟨by rw [List.length_eraseIdx_of_lt hk, List.length_eraseIdx_of_lt (by omega), hl], fun q b r hb hr => ?_⟩
  rw [erase_at] at hb hr
  by_cases e : q < k
  · rw [if_pos e] at hb hr
    exact h.2 q b r hb hr
  · rw [if_neg e] at hb hr
    exact h.2 _ b r hb hr
theorem FsAt.erase {A : Nat → Prop} {n : Nat} {rs : List Nat} {L : List Rw} {k : Nat} (h : FsAt E A n G rs L) (hk : k < L.length) : FsAt E A n G (rs.eraseIdx k) (L.eraseIdx k) := by
  have hl := h.1
  refine ⟨by rw [List.length_eraseIdx_of_lt hk, List.length_eraseIdx_of_lt (by omega), hl], h.2.1.sublist (List.eraseIdx_sublist ..), fun q b r hb hr => ?_⟩
  rw [erase_at] at hb hr
  by_cases e : q < k
  · rw [if_pos e] at hb hr
    exact h.2.2 q b r hb hr
  · rw [if_neg e] at hb hr
    exact h.2.2 _ b r hb hr
theorem map_erase {α β : Type} {f : α → β} {L : List α} {k : Nat} : (L.eraseIdx k).map f = (L.map f).eraseIdx k := by
  apply List.ext_getElem?
  intro q
  rw [List.getElem?_map, erase_at, erase_at]
  split
  · rw [List.getElem?_map]
  · rw [List.getElem?_map]
/-- a report goes -/
theorem off_drop {A : Nat → Prop} {n a s pa al k : Nat} {fs rs : List Nat} {o : Of} {x : Int32} {q : Nat} (h : OffC E A n G a o s pa fs al rs) (hB : g_B E ≤ n) (hx : x = nI k) (hq : rs[k]? = some q) (kk : ∀ G', G'.2 = G.2 → g_ke (fun q => q < n) G G' → (∀ z y, isT y = true → G.1 z = some y → G'.1 z = some y) → OffC E A n G' a (ofWd o k) s pa fs al (rs.eraseIdx k) → P (.returned (some (.ref q))) G') : g_Spc l E mJ2_remove 3 [.ref al, .int x] G P := by
  have h0 := h
  have hl := h.len
  obtain ⟨b1, b2, b3, b4⟩ := h.lt
  obtain ⟨k1, k2, k3, k4, k5, k6, k7, k8, k9, k10⟩ := h
  obtain ⟨mc, ar, hc⟩ := k7.cell
  have hal : a ≠ al := g_apart k4 hc (by intro e; cases e)
  have hnar : ¬ AlsAr E n G al a := by
    intro ⟨_, _, cap, g, hg⟩
    exact absurd rfl (g_apart hg k4 (by intro e; cases e))
  have hlt : ∀ q, q < n → ¬ AlsAr E n G al q := fun q hq9 hq8 => absurd hq8.1 (by omega)
  refine als_remove k7 hB (k8.el hc) hx hq (fun G' e1 e2 eno e3 => ?_)
  have hk9 := lt_of_at hq
  have hnT : ∀ z y, isT y = true → G.1 z = some y → z ≠ al ∧ ¬ AlsAr E n G al z := fun z y hi hy => by
    refine ⟨fun e => ?_, fun ⟨_, _, cap, g, hg⟩ => ?_⟩
    · subst e
      rw [hc] at hy
      cases hy
      cases (show false = true from hi)
    · rw [hg] at hy
      cases hy
      cases (show false = true from hi)
  refine kk G' e1 (fun z y hz hy => e2 z y ⟨by have hz : z < n := hz; omega, hlt z hz⟩ hy) (fun z y hi hy => e2 z y (hnT z y hi hy) hy) ?_
  refine h0.chgR (o' := ofWd o k) (fun z y hz hy => e2 z y ⟨hz.1, hz.2.1⟩ hy) k3 (e2 _ _ ⟨hal, hnar⟩ k4) e3 ?_ ?_ (eno _ k10) rfl
  · refine RsAt.erase (L := o.2.1) (k8.ke3 e2 (fun z y hy hi => ⟨?_, ?_⟩)) (by omega)
    · intro e
      subst e
      rw [hc] at hy
      cases hy
      cases (show false = true from hi)
    · intro ⟨_, _, cap, g, hg⟩
      rw [hg] at hy
      cases hy
      cases (show false = true from hi)
  · rw [List.length_eraseIdx_of_lt hk9]
    omega
/-- a colour goes -/
theorem off_lose {A : Nat → Prop} {n a s pa al j : Nat} {fs rs : List Nat} {o : Of} {id : Int32} (h : OffC E A n G a o s pa fs al rs) (hB : g_B E ≤ n) (hi : IdO o) (hj : plc id o.1 = some j) (kk : ∀ G', G'.2 = G.2 → g_ke (fun q => q < n) G G' → (∀ z y, isT y = true → G.1 z = some y → G'.1 z = some y) → OffC E A n G' a (o.1.eraseIdx j, o.2) s pa (fs.eraseIdx j) al rs → P (.returned none) G') : g_Spc l E mX3_remove 1 [.ref s, .int id] G P := by
  have h0 := h
  have hp := h.place hi (id := id)
  rw [hj] at hp
  have hl := h.len
  obtain ⟨b1, b2, b3, b4⟩ := h.lt
  obtain ⟨k1, k2, k3, k4, k5, k6, k7, k8, k9, k10⟩ := h
  have k5' := k5
  obtain ⟨-, -, -, -, j5, -, ff, j7, -⟩ := k5'
  have hjl := plc_lt hj
  have elen : (agL o).length = o.1.length := List.length_map ..
  refine shf_remove (k := j) k5 k6 hB hp (by omega) (fun G' e1 e2 e3 => ?_)
  refine kk G' e1 (fun z y hz hy => e2 z y ⟨by have hz : z < n := hz; omega, by have hz : z < n := hz; omega⟩ hy) (fun z y hi hy => e2 z y (k5.no hy (isF_T hi)) hy) ?_
  refine h0.chgS (o' := (o.1.eraseIdx j, o.2)) (fun z y hz hy => e2 z y ⟨hz.1, hz.2.1⟩ hy) k3 (e2 _ _ ⟨g_apart k4 j5 (by intro e; cases e), g_apart k4 j7 (by intro e; cases e)⟩ k4) e3 ?_ rfl
  have eag : agL (o.1.eraseIdx j, o.2) = (agL o).eraseIdx j := map_erase
  rw [eag]
  exact FsAt.erase (k6.ke3 e2 (fun z y hy hi => k5.no hy hi)) (by omega)
theorem off_handOver {A : Nat → Prop} {n a s pa al k j : Nat} {fs rs : List Nat} {o : Of} {rep id : Int32} (h : OffC E A n G a o s pa fs al rs) (hB : g_B E ≤ n) (hi : IdO o) (hk : plc rep o.2.1 = some k) (hj : plc id o.1 = some j) (kk : ∀ G', G'.2 = G.2 → g_ke (fun q => q < n) G G' → (∀ z y, isT y = true → G.1 z = some y → G'.1 z = some y) → OffAt E A n G' a (ofGive o k j) → P (.returned (some (.int (rwAt o.2.1 k).2.2.2))) G') : g_Spc l E mX2_handOver 5 [.ref a, .int rep, .int id] G P := by
  have h0 := h
  have hl := h.len
  have k4 := h.2.2.2.1
  obtain ⟨mc, ar, hc⟩ := h.2.2.2.2.2.2.1.cell
  have hkl := plc_lt hk
  refine V_intro (plainFor_of_name plX2) (Nat.le_of_ble_eq_true rfl) ?_
  refine V_aload_n dX2_handOver_0 rfl (Or.inl ⟨_, rfl⟩) ?_
  refine V_iload_n dX2_handOver_1 rfl ?_
  refine V_callV (q := (RX2, TX2, 10)) kX2_report q1318 q1319 q1320 (by first | assumption | (repeat (first | exact g_up_at | exact g_new_at rfl | assumption | refine g_up_of (by first | assumption | (simp only [g_new, g_up]; omega) | omega) ?_ | refine g_new_of (by first | assumption | (simp only [g_new, g_up]; omega) | omega) ?_))) rfl dX2_handOver_2 ?_ (d' := 4) (as := [_]) (hst := rfl)
  refine (off_report h hi hk (fun q r hq hr hR => ?_))
  obtain ⟨-, ta, hqc, ht⟩ := hR
  have er := rwAt_of hr
  rw [er] at kk
  refine V_getN ckX12 (by first | assumption | (repeat (first | exact g_up_at | exact g_new_at rfl | assumption | refine g_up_of (by first | assumption | (simp only [g_new, g_up]; omega) | omega) ?_ | refine g_new_of (by first | assumption | (simp only [g_new, g_up]; omega) | omega) ?_))) 3 (by decide) q1124 rfl (by rfl) dX2_handOver_5 ?_
  refine V_istore_n dX2_handOver_8 (by decide) ?_
  refine V_aload_n dX2_handOver_9 rfl (Or.inl ⟨_, rfl⟩) ?_
  refine V_get ckX2 (by first | assumption | (repeat (first | exact g_up_at | exact g_new_at rfl | assumption | refine g_up_of (by first | assumption | (simp only [g_new, g_up]; omega) | omega) ?_ | refine g_new_of (by first | assumption | (simp only [g_new, g_up]; omega) | omega) ?_))) 1 (by decide) q225 rfl (by rfl) dX2_handOver_10 ?_
  refine V_aload_n dX2_handOver_13 rfl (Or.inl ⟨_, rfl⟩) ?_
  refine V_iload_n dX2_handOver_14 rfl ?_
  refine V_callV (q := (RX2, TX2, 10)) kX2_placeOfReport q1143 q1144 q1145 (by first | assumption | (repeat (first | exact g_up_at | exact g_new_at rfl | assumption | refine g_up_of (by first | assumption | (simp only [g_new, g_up]; omega) | omega) ?_ | refine g_new_of (by first | assumption | (simp only [g_new, g_up]; omega) | omega) ?_))) rfl dX2_handOver_15 ?_ (d' := 3) (as := [_]) (hst := rfl)
  refine (off_placeOfReport h hi ?_)
  rw [hk]
  refine V_callF (q := (RJ2, TJ2, 3)) (x := ⟨"java/util/List", "remove", "(I)Ljava/lang/Object;"⟩) kJ2_remove q1148 ⟨by decide +kernel, by decide +kernel⟩ q1150 q1149 q1154 q1152 q529 (by decide +kernel) q1153 q1151 hc rfl dX2_handOver_18 ?_ (d' := 3) (as := [_]) (hst := rfl)
  refine (off_drop (k := k) h hB rfl hq (fun G1 e1 e2 eT hC1 => ?_))
  refine V_pop dX2_handOver_23 rfl ?_
  have hi1 : IdO (ofWd o k) := ⟨hi.1, hi.2.sublist ((List.eraseIdx_sublist ..).map _)⟩
  have hj1 : plc id (ofWd o k).1 = some j := hj
  refine V_aload_n dX2_handOver_24 rfl (Or.inl ⟨_, rfl⟩) ?_
  refine V_get ckX2 hC1.2.2.2.1 0 (by decide) q223 rfl (by rfl) dX2_handOver_25 ?_
  refine V_iload_n dX2_handOver_28 rfl ?_
  refine V_callV (q := (RX3, TX3, 2)) kX3_remove q1182 q1183 q1184 hC1.2.2.2.2.1.2.2.2.2.1 rfl dX2_handOver_29 ?_ (d' := 1) (as := [_]) (hst := rfl)
  refine (off_lose hC1 hB hi1 hj1 (fun G2 f1 f2 fT hC2 => ?_))
  have c4 := hC2.2.2.2.1
  have b1 := hC2.lt.1
  refine V_aload_n dX2_handOver_32 rfl (Or.inl ⟨_, rfl⟩) ?_
  refine V_dup dX2_handOver_33 rfl ?_
  refine V_get ckX2 (by first | assumption | (repeat (first | exact g_up_at | exact g_new_at rfl | assumption | refine g_up_of (by first | assumption | (simp only [g_new, g_up]; omega) | omega) ?_ | refine g_new_of (by first | assumption | (simp only [g_new, g_up]; omega) | omega) ?_))) 6 (by decide) q233 rfl (by rfl) dX2_handOver_34 ?_
  refine V_iload_n dX2_handOver_37 rfl ?_
  refine V_iadd dX2_handOver_38 ?_
  refine V_put ckX2 (by first | assumption | (repeat (first | exact g_up_at | exact g_new_at rfl | assumption | refine g_up_of (by first | assumption | (simp only [g_new, g_up]; omega) | omega) ?_ | refine g_new_of (by first | assumption | (simp only [g_new, g_up]; omega) | omega) ?_))) (by first | assumption | omega | (simp only [g_new, g_up]; omega) | (simp only [g_new, g_up, g_B] at *; omega)) 6 (by decide) q233 rfl rfl rfl rfl (Nat.le_of_ble_eq_true rfl) dX2_handOver_39 ?_
  refine V_aload_n dX2_handOver_42 rfl (Or.inl ⟨_, rfl⟩) ?_
  refine V_dup dX2_handOver_43 rfl ?_
  refine V_get ckX2 (by first | assumption | (repeat (first | exact g_up_at | exact g_new_at rfl | assumption | refine g_up_of (by first | assumption | (simp only [g_new, g_up]; omega) | omega) ?_ | refine g_new_of (by first | assumption | (simp only [g_new, g_up]; omega) | omega) ?_))) 7 (by decide) q235 rfl (by rfl) dX2_handOver_44 ?_
  refine V_iload_n dX2_handOver_47 rfl ?_
  refine V_iadd dX2_handOver_48 ?_
  refine V_put ckX2 (by first | assumption | (repeat (first | exact g_up_at | exact g_new_at rfl | assumption | refine g_up_of (by first | assumption | (simp only [g_new, g_up]; omega) | omega) ?_ | refine g_new_of (by first | assumption | (simp only [g_new, g_up]; omega) | omega) ?_))) (by first | assumption | omega | (simp only [g_new, g_up]; omega) | (simp only [g_new, g_up, g_B] at *; omega)) 7 (by decide) q235 rfl rfl rfl rfl (Nat.le_of_ble_eq_true rfl) dX2_handOver_49 ?_
  rw [g_up_up]
  refine V_aload_n dX2_handOver_52 rfl (Or.inl ⟨_, rfl⟩) ?_
  refine V_dup dX2_handOver_53 rfl ?_
  refine V_get ckX2 (by first | assumption | (repeat (first | exact g_up_at | exact g_new_at rfl | assumption | refine g_up_of (by first | assumption | (simp only [g_new, g_up]; omega) | omega) ?_ | refine g_new_of (by first | assumption | (simp only [g_new, g_up]; omega) | omega) ?_))) 9 (by decide) q237 rfl (by rfl) dX2_handOver_54 ?_
  refine V_iconstv 1 dX2_handOver_57 (by decide) ?_
  refine V_iadd dX2_handOver_58 ?_
  refine V_put ckX2 (by first | assumption | (repeat (first | exact g_up_at | exact g_new_at rfl | assumption | refine g_up_of (by first | assumption | (simp only [g_new, g_up]; omega) | omega) ?_ | refine g_new_of (by first | assumption | (simp only [g_new, g_up]; omega) | omega) ?_))) (by first | assumption | omega | (simp only [g_new, g_up]; omega) | (simp only [g_new, g_up, g_B] at *; omega)) 9 (by decide) q237 rfl rfl rfl rfl (Nat.le_of_ble_eq_true rfl) dX2_handOver_59 ?_
  rw [g_up_up]
  refine V_iload_n dX2_handOver_62 rfl ?_
  refine V_ireturn dX2_handOver_63 rfl ?_
  have kA : g_ke (fun q => q ≠ a) G2 (g_up G2 a (offO (ofGive o k j) s al)) := g_ke.up (fun q => q rfl) _
  have ec : offO (ofGive o k j) s al = g_ob 1 [.ref s, .ref al, .int (o.2.2 5), .int (o.2.2 2), .int (o.2.2 3), .int (o.2.2 4), .int (o.2.2 6 + r.2.2.2), .int (o.2.2 8 + r.2.2.2), .int (o.2.2 9), .int (o.2.2 7 + 1)] := by
    unfold ofGive
    rw [er]
    rfl
  suffices hS : P (.returned (some (.int r.2.2.2))) (g_up G2 a (offO (ofGive o k j) s al)) by
    rw [ec] at hS
    exact hS
  refine kk (g_up G2 a (offO (ofGive o k j) s al)) ?_ ?_ (fun z y hi hy => ?_) ?_
  · exact f1.trans e1
  · exact (e2.trans f2).trans (kA.mono fun q hq => by have hq : q < n := hq; omega)
  · have h2 := fT z y hi (eT z y hi hy)
    refine g_up_of (fun e => ?_) h2
    subst e
    rw [c4] at h2
    cases h2
    cases (show false = true from hi)
  · exact ⟨s, pa, _, al, _, hC2.chgO kA hC2.2.2.1 g_up_at rfl rfl⟩
theorem off_withdraw {A : Nat → Prop} {n a s pa al : Nat} {fs rs : List Nat} {o : Of} {id : Int32} (h : OffC E A n G a o s pa fs al rs) (hB : g_B E ≤ n) (hn : n ≤ G.2.1) (hi : IdO o) (hf : g_fit E G 5 20) (kt : ∀ k, plc id o.2.1 = some k → ∀ G', g_mod (fun q => q < n) G G' 5 20 → OffAt E A n G' a (ofWd o k) → P (.returned (some (.int (nI (ofWd o k).2.1.length)))) G') (kf : plc id o.2.1 = none → ∀ q G', g_mod (fun q => q < n) G G' 5 20 → CfAt G' q 101 → P (.threw q) G') : g_Spc l E mX2_withdraw 8 [.ref a, .int id] G P := by
  obtain ⟨hf1, hf2⟩ := hf
  have hl := h.len
  have k4 := h.2.2.2.1
  obtain ⟨mc, ar, hc⟩ := h.2.2.2.2.2.2.1.cell
  refine V_intro (plainFor_of_name plX2) (Nat.le_of_ble_eq_true rfl) ?_
  refine V_aload_n dX2_withdraw_0 rfl (Or.inl ⟨_, rfl⟩) ?_
  refine V_iload_n dX2_withdraw_1 rfl ?_
  refine V_callV (q := (RX2, TX2, 10)) kX2_hasReport q1139 q1140 q1141 (by first | assumption | (repeat (first | exact g_up_at | exact g_new_at rfl | assumption | refine g_up_of (by first | assumption | (simp only [g_new, g_up]; omega) | omega) ?_ | refine g_new_of (by first | assumption | (simp only [g_new, g_up]; omega) | omega) ?_))) rfl dX2_withdraw_2 ?_ (d' := 4) (as := [_]) (hst := rfl)
  refine (off_hasReport h hi ?_)
  refine V_bipushv 101 dX2_withdraw_5 (by decide) ?_
  refine V_callSN kX1_demand q1045 q1046 dX2_withdraw_7 ?_ (d' := 7) (as := [_, _]) (hst := rfl)
  refine (co_demand isC_101 ⟨by omega, by omega⟩ (fun hb => ?_) (fun hb q G' m _ hcf => ?_))
  · obtain ⟨k, hk⟩ := Option.isSome_iff_exists.mp hb
    have hkl := plc_lt hk
    obtain ⟨r, hr, -⟩ := plc_some hk
    obtain ⟨q, hq, -⟩ := h.2.2.2.2.2.2.2.1.at hr
    refine V_aload_n dX2_withdraw_10 rfl (Or.inl ⟨_, rfl⟩) ?_
    refine V_get ckX2 (by first | assumption | (repeat (first | exact g_up_at | exact g_new_at rfl | assumption | refine g_up_of (by first | assumption | (simp only [g_new, g_up]; omega) | omega) ?_ | refine g_new_of (by first | assumption | (simp only [g_new, g_up]; omega) | omega) ?_))) 1 (by decide) q225 rfl (by rfl) dX2_withdraw_11 ?_
    refine V_aload_n dX2_withdraw_14 rfl (Or.inl ⟨_, rfl⟩) ?_
    refine V_iload_n dX2_withdraw_15 rfl ?_
    refine V_callV (q := (RX2, TX2, 10)) kX2_placeOfReport q1143 q1144 q1145 (by first | assumption | (repeat (first | exact g_up_at | exact g_new_at rfl | assumption | refine g_up_of (by first | assumption | (simp only [g_new, g_up]; omega) | omega) ?_ | refine g_new_of (by first | assumption | (simp only [g_new, g_up]; omega) | omega) ?_))) rfl dX2_withdraw_16 ?_ (d' := 3) (as := [_]) (hst := rfl)
    refine (off_placeOfReport h hi ?_)
    rw [hk]
    refine V_callF (q := (RJ2, TJ2, 3)) (x := ⟨"java/util/List", "remove", "(I)Ljava/lang/Object;"⟩) kJ2_remove q1148 ⟨by decide +kernel, by decide +kernel⟩ q1150 q1149 q1154 q1152 q529 (by decide +kernel) q1153 q1151 hc rfl dX2_withdraw_19 ?_ (d' := 3) (as := [_]) (hst := rfl)
    refine (off_drop (k := k) h hB rfl hq (fun G1 e1 e2 _ hC1 => ?_))
    refine V_pop dX2_withdraw_24 rfl ?_
    obtain ⟨mc1, ar1, hc1⟩ := hC1.2.2.2.2.2.2.1.cell
    refine V_aload_n dX2_withdraw_25 rfl (Or.inl ⟨_, rfl⟩) ?_
    refine V_get ckX2 hC1.2.2.2.1 1 (by decide) q225 rfl (by rfl) dX2_withdraw_26 ?_
    refine V_callF (q := (RJ2, TJ2, 3)) (x := ⟨"java/util/List", "size", "()I"⟩) kJ2_size q526 ⟨by decide +kernel, by decide +kernel⟩ q528 q527 q533 q531 q529 (by decide +kernel) q532 q530 hc1 rfl dX2_withdraw_29 ?_ (d' := 0) (as := []) (hst := rfl)
    refine (hC1.2.2.2.2.2.2.1.size ?_)
    refine V_ireturn dX2_withdraw_34 rfl ?_
    have e9 : (rs.eraseIdx k).length = (ofWd o k).2.1.length := hC1.2.2.2.2.2.2.2.1.1
    rw [e9]
    exact kt k hk G1 (g_mod.to e2 e1) ⟨s, pa, fs, al, _, hC1⟩
  · obtain ⟨m1, m2, m3, m4, m5⟩ := m
    refine VX_out (ci := 0) (fs := []) rfl (kf (by simpa using hb) q G' ⟨m1.mono fun _ _ => trivial, by omega, by omega, by omega, by omega⟩ hcf)
theorem off_discard {A : Nat → Prop} {n a s pa al : Nat} {fs rs : List Nat} {o : Of} {id : Int32} (h : OffC E A n G a o s pa fs al rs) (hB : g_B E ≤ n) (hn : n ≤ G.2.1) (hi : IdO o) (hf : g_fit E G 5 20) (kt : ∀ k, plc id o.1 = some k → ∀ G', g_mod (fun q => q < n) G G' 5 20 → OffAt E A n G' a (ofDis o k) → P (.returned (some (.int (nI (ofDis o k).1.length)))) G') (kf : plc id o.1 = none → ∀ q G', g_mod (fun q => q < n) G G' 5 20 → CfAt G' q 101 → P (.threw q) G') : g_Spc l E mX2_discard 8 [.ref a, .int id] G P := by
  obtain ⟨hf1, hf2⟩ := hf
  have hl := h.len
  have k4 := h.2.2.2.1
  refine V_intro (plainFor_of_name plX2) (Nat.le_of_ble_eq_true rfl) ?_
  refine V_aload_n dX2_discard_0 rfl (Or.inl ⟨_, rfl⟩) ?_
  refine V_iload_n dX2_discard_1 rfl ?_
  refine V_callV (q := (RX2, TX2, 10)) kX2_hasColour q1174 q1175 q1176 (by first | assumption | (repeat (first | exact g_up_at | exact g_new_at rfl | assumption | refine g_up_of (by first | assumption | (simp only [g_new, g_up]; omega) | omega) ?_ | refine g_new_of (by first | assumption | (simp only [g_new, g_up]; omega) | omega) ?_))) rfl dX2_discard_2 ?_ (d' := 1) (as := [_]) (hst := rfl)
  refine (off_hasColour h hi ?_)
  refine V_bipushv 101 dX2_discard_5 (by decide) ?_
  refine V_callSN kX1_demand q1045 q1046 dX2_discard_7 ?_ (d' := 7) (as := [_, _]) (hst := rfl)
  refine (co_demand isC_101 ⟨by omega, by omega⟩ (fun hb => ?_) (fun hb q G' m _ hcf => ?_))
  · obtain ⟨k, hk⟩ := Option.isSome_iff_exists.mp hb
    have hkl := plc_lt hk
    refine V_aload_n dX2_discard_10 rfl (Or.inl ⟨_, rfl⟩) ?_
    refine V_get ckX2 (by first | assumption | (repeat (first | exact g_up_at | exact g_new_at rfl | assumption | refine g_up_of (by first | assumption | (simp only [g_new, g_up]; omega) | omega) ?_ | refine g_new_of (by first | assumption | (simp only [g_new, g_up]; omega) | omega) ?_))) 0 (by decide) q223 rfl (by rfl) dX2_discard_11 ?_
    refine V_iload_n dX2_discard_14 rfl ?_
    refine V_callV (q := (RX3, TX3, 2)) kX3_remove q1182 q1183 q1184 h.2.2.2.2.1.2.2.2.2.1 rfl dX2_discard_15 ?_ (d' := 1) (as := [_]) (hst := rfl)
    refine (off_lose h hB hi hk (fun G2 f1 f2 _ hC2 => ?_))
    have c4 := hC2.2.2.2.1
    have b1 := hC2.lt.1
    refine V_aload_n dX2_discard_18 rfl (Or.inl ⟨_, rfl⟩) ?_
    refine V_dup dX2_discard_19 rfl ?_
    refine V_get ckX2 (by first | assumption | (repeat (first | exact g_up_at | exact g_new_at rfl | assumption | refine g_up_of (by first | assumption | (simp only [g_new, g_up]; omega) | omega) ?_ | refine g_new_of (by first | assumption | (simp only [g_new, g_up]; omega) | omega) ?_))) 6 (by decide) q233 rfl (by rfl) dX2_discard_20 ?_
    refine V_iconstv 1 dX2_discard_23 (by decide) ?_
    refine V_isub dX2_discard_24 ?_
    refine V_put ckX2 (by first | assumption | (repeat (first | exact g_up_at | exact g_new_at rfl | assumption | refine g_up_of (by first | assumption | (simp only [g_new, g_up]; omega) | omega) ?_ | refine g_new_of (by first | assumption | (simp only [g_new, g_up]; omega) | omega) ?_))) (by first | assumption | omega | (simp only [g_new, g_up]; omega) | (simp only [g_new, g_up, g_B] at *; omega)) 6 (by decide) q233 rfl rfl rfl rfl (Nat.le_of_ble_eq_true rfl) dX2_discard_25 ?_
    refine V_aload_n dX2_discard_28 rfl (Or.inl ⟨_, rfl⟩) ?_
    refine V_dup dX2_discard_29 rfl ?_
    refine V_get ckX2 (by first | assumption | (repeat (first | exact g_up_at | exact g_new_at rfl | assumption | refine g_up_of (by first | assumption | (simp only [g_new, g_up]; omega) | omega) ?_ | refine g_new_of (by first | assumption | (simp only [g_new, g_up]; omega) | omega) ?_))) 8 (by decide) q236 rfl (by rfl) dX2_discard_30 ?_
    refine V_iconstv 1 dX2_discard_33 (by decide) ?_
    refine V_iadd dX2_discard_34 ?_
    refine V_put ckX2 (by first | assumption | (repeat (first | exact g_up_at | exact g_new_at rfl | assumption | refine g_up_of (by first | assumption | (simp only [g_new, g_up]; omega) | omega) ?_ | refine g_new_of (by first | assumption | (simp only [g_new, g_up]; omega) | omega) ?_))) (by first | assumption | omega | (simp only [g_new, g_up]; omega) | (simp only [g_new, g_up, g_B] at *; omega)) 8 (by decide) q236 rfl rfl rfl rfl (Nat.le_of_ble_eq_true rfl) dX2_discard_35 ?_
    rw [g_up_up]
    have kA : g_ke (fun q => q ≠ a) G2 (g_up G2 a (offO (ofDis o k) s al)) := g_ke.up (fun q => q rfl) _
    have hC3 : OffC E A n (g_up G2 a (offO (ofDis o k) s al)) a (ofDis o k) s pa (fs.eraseIdx k) al rs := hC2.chgO kA hC2.2.2.1 g_up_at rfl rfl
    refine (show V l E mX2_discard 8 P 38 (lv_args 0 [.ref a, .int id]) [] (g_up G2 a (offO (ofDis o k) s al)) from ?_)
    refine V_aload_n dX2_discard_38 rfl (Or.inl ⟨_, rfl⟩) ?_
    refine V_get ckX2 g_up_at 0 (by decide) q223 rfl (by rfl) dX2_discard_39 ?_
    refine V_callV (q := (RX3, TX3, 2)) kX3_count q1073 q1074 q1075 hC3.2.2.2.2.1.2.2.2.2.1 rfl dX2_discard_42 ?_ (d' := 0) (as := []) (hst := rfl)
    refine (shf_count hC3.2.2.2.2.1.2.2.2.2.1 ?_)
    refine V_ireturn dX2_discard_45 rfl ?_
    have e9 : (fs.eraseIdx k).length = (ofDis o k).1.length := hC3.len.1
    rw [e9]
    exact kt k hk _ (g_mod.to (f2.trans (kA.mono fun q hq => by have hq : q < n := hq; omega)) f1) ⟨s, pa, _, al, _, hC3⟩
  · obtain ⟨m1, m2, m3, m4, m5⟩ := m
    refine VX_out (ci := 0) (fs := []) rfl (kf (by simpa using hb) q G' ⟨m1.mono fun _ _ => trivial, by omega, by omega, by omega, by omega⟩ hcf)
end CHG3
