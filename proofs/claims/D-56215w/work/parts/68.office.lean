/-! MODULE Office: what it holds, what it tells -/
set_option maxRecDepth 100000
/-- a colour with its age -/
def agd (o : Of) (r : Rw) : Rw := (r.1, r.2.1, r.2.2.1, o.2.2 4 - r.2.2.2)
def agL (o : Of) : List Rw := o.1.map (agd o)
/-- ids are distinct -/
def IdO (o : Of) : Prop := (o.1.map (·.1)).Nodup ∧ (o.2.1.map (·.1)).Nodup
theorem plZ_none {id : Int32} : ∀ (L : List Rw) (i : Nat) (p : Int32), (∀ r ∈ L, r.1 ≠ id) → plZ id i p L = p
  | [], _, _, _ => rfl
  | r :: t, i, p, h => by
    show plZ id (i + 1) (if r.1 = id then nI i else p) t = p
    rw [if_neg (h r List.mem_cons_self)]
    exact plZ_none t (i + 1) p (fun q hq => h q (List.mem_cons_of_mem _ hq))
theorem plZ_eq {id : Int32} : ∀ (L : List Rw) (i : Nat) (p : Int32), (L.map (·.1)).Nodup → plZ id i p L = match plc id L with
    | none => p
    | some k => nI (i + k)
  | [], _, _, _ => rfl
  | r :: t, i, p, h => by
    rw [List.map_cons, List.nodup_cons] at h
    show plZ id (i + 1) (if r.1 = id then nI i else p) t = _
    by_cases e : r.1 = id
    · rw [if_pos e, plZ_none t (i + 1) _ (fun q hq e2 => h.1 (List.mem_map.mpr ⟨q, hq, e2.trans e.symm⟩))]
      have : plc id (r :: t) = some 0 := by unfold plc; rw [if_pos e]
      rw [this]
      rfl
    · rw [if_neg e, plZ_eq t (i + 1) p h.2]
      have : plc id (r :: t) = (plc id t).map (· + 1) := by
        conv => lhs; unfold plc
        rw [if_neg e]
      rw [this]
      cases plc id t with
      | none => rfl
      | some k => show nI (i + 1 + k) = nI (i + (k + 1)); rw [Nat.add_assoc, Nat.add_comm 1 k]
theorem plZ_plI {id : Int32} {L : List Rw} (h : (L.map (·.1)).Nodup) : plZ id 0 (-1) L = plI (plc id L) := by
  rw [plZ_eq L 0 (-1) h]
  cases plc id L with
  | none => rfl
  | some k => show nI (0 + k) = nI k; rw [Nat.zero_add]
theorem plZ_map {id : Int32} {g : Rw → Rw} (hg : ∀ r, (g r).1 = r.1) : ∀ (L : List Rw) (i : Nat) (p : Int32), plZ id i p (L.map g) = plZ id i p L
  | [], _, _ => rfl
  | r :: t, i, p => by
    show plZ id (i + 1) (if (g r).1 = id then nI i else p) (t.map g) = plZ id (i + 1) (if r.1 = id then nI i else p) t
    rw [hg, plZ_map hg t]
section OFF
variable {l : Launch} {E : g_E} {P : Outcome → g_G → Prop} {G : g_G}
/-- reports at addresses -/
def RsAt (E : g_E) (A : Nat → Prop) (G : g_G) (as : List Nat) (L : List Rw) : Prop := as.length = L.length ∧ ∀ (k a : Nat) (r : Rw), as[k]? = some a → L[k]? = some r → RptAt E A G a r
theorem RsAt.keep {A : Nat → Prop} {as : List Nat} {L : List Rw} {G' : g_G} (h : RsAt E A G as L) (hk : g_ke A G G') : RsAt E A G' as L := ⟨h.1, fun k a r x y => (h.2 k a r x y).keep hk⟩
theorem RsAt.ke3 {A B : Nat → Prop} {as : List Nat} {L : List Rw} {G' : g_G} (h : RsAt E A G as L) (hk : g_ke B G G') (hb : ∀ q x, G.1 q = some x → isF x = true → B q) : RsAt E A G' as L := ⟨h.1, fun k a r x y => by
  have h9 := h.2 k a r x y
  obtain ⟨-, ta, h3, -⟩ := h.2 k a r x y
  exact h9.ke2 hk (hb _ _ h3 rfl) (fun q x hx hi => hb q x hx (isF_T hi))⟩
theorem RsAt.monoL {A B : Nat → Prop} {as : List Nat} {L : List Rw} (wf : g_wf G) (h : RsAt E A G as L) (hb : ∀ q, q < G.2.1 → A q → B q) : RsAt E B G as L := ⟨h.1, fun k a r x y => (h.2 k a r x y).monoL wf hb⟩
theorem RsAt.at {A : Nat → Prop} {k : Nat} {as : List Nat} {L : List Rw} {r : Rw} (h : RsAt E A G as L) (hk : L[k]? = some r) : ∃ a, as[k]? = some a ∧ RptAt E A G a r := by
  have hl : k < as.length := by rw [h.1]; exact lt_of_at hk
  exact ⟨as[k], List.getElem?_eq_getElem hl, h.2 _ _ _ (List.getElem?_eq_getElem hl) hk⟩
/-- the office's own cell -/
abbrev offO (o : Of) (s al : Nat) : va_E := g_ob 1 [.ref s, .ref al, .int (o.2.2 5), .int (o.2.2 2), .int (o.2.2 3), .int (o.2.2 4), .int (o.2.2 6), .int (o.2.2 8), .int (o.2.2 9), .int (o.2.2 7)]
/-- an office and its parts: shelf s with places pa, colours fs, list al of reports rs -/
def OffC (E : g_E) (A : Nat → Prop) (n : Nat) (G : g_G) (a : Nat) (o : Of) (s pa : Nat) (fs : List Nat) (al : Nat) (rs : List Nat) : Prop :=
  n ≤ a ∧ A a ∧ isC (o.2.2 5) ∧ G.1 a = some (offO o s al) ∧ ShfS E A n G s pa fs ∧ FsAt E A n G fs (agL o) ∧ AlsAt E A n G al rs ∧ RsAt E A G rs o.2.1 ∧ rs.length ≤ 6 ∧ AlsNo G al pa
def OffAt (E : g_E) (A : Nat → Prop) (n : Nat) (G : g_G) (a : Nat) (o : Of) : Prop := ∃ s pa fs al rs, OffC E A n G a o s pa fs al rs
theorem AlsAt.cell {A : Nat → Prop} {n al : Nat} {as : List Nat} (h : AlsAt E A n G al as) : ∃ (mc : Int32) (ar : Nat), G.1 al = some (g_ob 19 [.int mc, .ref ar, .int (nI as.length)]) := by
  obtain ⟨-, -, mc, ar, h3, -⟩ := h
  exact ⟨mc, ar, h3⟩
theorem AlsNo.back {A : Nat → Prop} {n al pa : Nat} {as : List Nat} {G' : g_G} (h : AlsAt E A n G al as) (hk : ∀ x, G.1 al = some x → G'.1 al = some x) (hn : AlsNo G al pa) : AlsNo G' al pa := by
  obtain ⟨mc, ar, h3⟩ := h.cell
  exact AlsNo.of (hk _ h3) (AlsNo.ne h3 hn)
theorem OffC.keep {A : Nat → Prop} {n a s pa al : Nat} {fs rs : List Nat} {o : Of} {G' : g_G} (h : OffC E A n G a o s pa fs al rs) (hk : g_ke A G G') : OffC E A n G' a o s pa fs al rs := by
  obtain ⟨h1, h2, h3, h4, h5, h6, h7, h8, h9, h10⟩ := h
  exact ⟨h1, h2, h3, hk _ _ h2 h4, h5.keep hk, h6.keep hk, h7.keep hk, h8.keep hk, h9, AlsNo.back h7 (fun x hx => hk _ _ h7.2.1 hx) h10⟩
theorem OffAt.keep {A : Nat → Prop} {n a : Nat} {o : Of} {G' : g_G} (h : OffAt E A n G a o) (hk : g_ke A G G') : OffAt E A n G' a o := by
  obtain ⟨s, pa, fs, al, rs, h⟩ := h
  exact ⟨s, pa, fs, al, rs, h.keep hk⟩
theorem OffAt.monoL {A B : Nat → Prop} {n n' a : Nat} {o : Of} (wf : g_wf G) (h : OffAt E A n G a o) (hn : n' ≤ n) (hb : ∀ q, q < G.2.1 → A q → B q) : OffAt E B n' G a o := by
  obtain ⟨s, pa, fs, al, rs, h1, h2, h3, h4, h5, h6, h7, h8, h9, h10⟩ := h
  exact ⟨s, pa, fs, al, rs, by omega, hb _ (wf _ _ h4) h2, h3, h4, h5.monoL wf hn hb, h6.monoL wf hn hb, h7.monoL wf hn hb, h8.monoL wf hb, h9, h10⟩
theorem OffC.len {A : Nat → Prop} {n a s pa al : Nat} {fs rs : List Nat} {o : Of} (h : OffC E A n G a o s pa fs al rs) : fs.length = o.1.length ∧ rs.length = o.2.1.length ∧ o.1.length ≤ 10 ∧ o.2.1.length ≤ 6 := by
  obtain ⟨h1, h2, h3, h4, h5, h6, h7, h8, h9, h10⟩ := h
  have e1 : fs.length = (agL o).length := h6.1
  have e2 : (agL o).length = o.1.length := List.length_map ..
  have e3 := h5.2.2.2.2.2.1
  have e4 := h8.1
  omega
theorem OffC.place {A : Nat → Prop} {n a s pa al : Nat} {fs rs : List Nat} {o : Of} {id : Int32} (h : OffC E A n G a o s pa fs al rs) (hi : IdO o) : plZ id 0 (-1) (agL o) = plI (plc id o.1) := by
  unfold agL
  rw [plZ_map (g := agd o) (fun _ => rfl), plZ_plI hi.1]
theorem agL_at {o : Of} {k : Nat} {r : Rw} (h : o.1[k]? = some r) : (agL o)[k]? = some (agd o r) := by
  unfold agL
  rw [List.getElem?_map, h]
  rfl
theorem off_metric {A : Nat → Prop} {n a s pa al : Nat} {fs rs : List Nat} {o : Of} (h : OffC E A n G a o s pa fs al rs) (kk : P (.returned (some (.ref (mt_ad E (mt_k (o.2.2 5)))))) G) : g_Spc l E mX2_metric 1 [.ref a] G P := by
  obtain ⟨h1, h2, h3, h4, h5, h6, h7, h8, h9, h10⟩ := h
  refine V_intro (plainFor_of_name plX2) (Nat.le_of_ble_eq_true rfl) ?_
  refine V_aload_n dX2_metric_0 rfl (Or.inl ⟨_, rfl⟩) ?_
  refine V_get ckX2 (by first | assumption | (repeat (first | exact g_up_at | exact g_new_at rfl | assumption | refine g_up_of (by first | assumption | (simp only [g_new, g_up]; omega) | omega) ?_ | refine g_new_of (by first | assumption | (simp only [g_new, g_up]; omega) | omega) ?_))) 2 (by decide) q227 rfl (by rfl) dX2_metric_1 ?_
  refine V_callSN kX1_metricOf q1252 q1253 dX2_metric_4 ?_ (d' := 0) (as := [_]) (hst := rfl)
  refine (co_metricOf ?_)
  refine V_areturnO dX2_metric_7 rfl ?_
  exact kk
theorem plI_m1 {x : Option Nat} (h : ∀ k, x = some k → k < 2 ^ 31) : plI x = -1 ↔ x = none := by
  constructor
  · intro e
    cases x with
    | none => rfl
    | some k =>
      have e : nI k = -1 := e
      exact absurd (show nI k < 0 by rw [e]; decide) (nI_pos (h k rfl))
  · intro e
    subst e
    rfl
theorem off_hasColour {A : Nat → Prop} {n a s pa al : Nat} {fs rs : List Nat} {o : Of} {id : Int32} (h : OffC E A n G a o s pa fs al rs) (hi : IdO o) (kk : P (.returned (some (.int (b2i (plc id o.1).isSome)))) G) : g_Spc l E mX2_hasColour 1 [.ref a, .int id] G P := by
  have hp := h.place hi (id := id)
  have hl := h.len
  obtain ⟨h1, h2, h3, h4, h5, h6, h7, h8, h9, h10⟩ := h
  have hb : ∀ k, plc id o.1 = some k → k < 2 ^ 31 := fun k hk => by have := plc_lt hk; omega
  refine V_intro (plainFor_of_name plX2) (Nat.le_of_ble_eq_true rfl) ?_
  refine V_aload_n dX2_hasColour_0 rfl (Or.inl ⟨_, rfl⟩) ?_
  refine V_get ckX2 (by first | assumption | (repeat (first | exact g_up_at | exact g_new_at rfl | assumption | refine g_up_of (by first | assumption | (simp only [g_new, g_up]; omega) | omega) ?_ | refine g_new_of (by first | assumption | (simp only [g_new, g_up]; omega) | omega) ?_))) 0 (by decide) q223 rfl (by rfl) dX2_hasColour_1 ?_
  refine V_iload_n dX2_hasColour_4 rfl ?_
  refine V_callV (q := (RX3, TX3, 2)) kX3_placeOf q1178 q1179 q1180 h5.2.2.2.2.1 rfl dX2_hasColour_5 ?_ (d' := 0) (as := [_]) (hst := rfl)
  refine (shf_placeOf h5 h6 ?_)
  rw [hp]
  refine V_iconstv (-1) dX2_hasColour_8 (by decide) ?_
  refine V_icmp_eq 16 dX2_hasColour_9 (by decide) (fun c9 => ?_) (fun c9 => ?_)
  · refine V_iconstv 0 dX2_hasColour_16 (by decide) ?_
    refine V_zreturn dX2_hasColour_17 rfl rfl ?_
    rw [(plI_m1 hb).mp c9] at kk
    exact kk
  · refine V_iconstv 1 dX2_hasColour_12 (by decide) ?_
    refine V_goto 17 dX2_hasColour_13 (by decide) ?_
    refine V_zreturn dX2_hasColour_17 rfl rfl ?_
    have e : (plc id o.1).isSome = true := by
      cases hx : plc id o.1 with
      | none => rw [hx] at c9; exact absurd rfl c9
      | some k => rfl
    rw [e] at kk
    exact kk
theorem off_colour {A : Nat → Prop} {n a s pa al k : Nat} {fs rs : List Nat} {o : Of} {id : Int32} (h : OffC E A n G a o s pa fs al rs) (hi : IdO o) (hk : plc id o.1 = some k) (kk : ∀ q r, fs[k]? = some q → o.1[k]? = some r → FndAt E A n G q (agd o r) → P (.returned (some (.ref q))) G) : g_Spc l E mX2_colour 1 [.ref a, .int id] G P := by
  have hp := h.place hi (id := id)
  obtain ⟨h1, h2, h3, h4, h5, h6, h7, h8, h9, h10⟩ := h
  obtain ⟨r, hr, -⟩ := plc_some hk
  obtain ⟨q, hq, hF⟩ := h6.at (agL_at hr)
  refine V_intro (plainFor_of_name plX2) (Nat.le_of_ble_eq_true rfl) ?_
  refine V_aload_n dX2_colour_0 rfl (Or.inl ⟨_, rfl⟩) ?_
  refine V_get ckX2 (by first | assumption | (repeat (first | exact g_up_at | exact g_new_at rfl | assumption | refine g_up_of (by first | assumption | (simp only [g_new, g_up]; omega) | omega) ?_ | refine g_new_of (by first | assumption | (simp only [g_new, g_up]; omega) | omega) ?_))) 0 (by decide) q223 rfl (by rfl) dX2_colour_1 ?_
  refine V_aload_n dX2_colour_4 rfl (Or.inl ⟨_, rfl⟩) ?_
  refine V_get ckX2 (by first | assumption | (repeat (first | exact g_up_at | exact g_new_at rfl | assumption | refine g_up_of (by first | assumption | (simp only [g_new, g_up]; omega) | omega) ?_ | refine g_new_of (by first | assumption | (simp only [g_new, g_up]; omega) | omega) ?_))) 0 (by decide) q223 rfl (by rfl) dX2_colour_5 ?_
  refine V_iload_n dX2_colour_8 rfl ?_
  refine V_callV (q := (RX3, TX3, 2)) kX3_placeOf q1178 q1179 q1180 h5.2.2.2.2.1 rfl dX2_colour_9 ?_ (d' := 0) (as := [_]) (hst := rfl)
  refine (shf_placeOf h5 h6 ?_)
  rw [hp, hk]
  refine V_callV (q := (RX3, TX3, 2)) kX3_at q1400 q1401 q1402 h5.2.2.2.2.1 rfl dX2_colour_12 ?_ (d' := 0) (as := [_]) (hst := rfl)
  refine (shf_at (k := k) h5 rfl hq ?_)
  refine V_areturnO dX2_colour_15 rfl ?_
  exact kk q r hq hr hF
theorem off_placeOfReport {A : Nat → Prop} {n a s pa al : Nat} {fs rs : List Nat} {o : Of} {id : Int32} (h : OffC E A n G a o s pa fs al rs) (hi : IdO o) (kk : P (.returned (some (.int (plI (plc id o.2.1))))) G) : g_Spc l E mX2_placeOfReport 3 [.ref a, .int id] G P := by
  have hl := h.len
  obtain ⟨h1, h2, h3, h4, h5, h6, h7, h8, h9, h10⟩ := h
  obtain ⟨mc, ar, hc⟩ := h7.cell
  rw [← plZ_plI hi.2] at kk
  refine V_intro (plainFor_of_name plX2) (Nat.le_of_ble_eq_true rfl) ?_
  have loop : ∀ (i : Nat), i ≤ o.2.1.length → ∀ p : Int32, P (.returned (some (.int (plZ id i p (o.2.1.drop i))))) G → V l E mX2_placeOfReport 3 P 4 [(0, .ref a), (1, .int id), (2, .int p), (3, .int (nI i))] [] G := by
    refine down _ ?_ ?_
    · intro p k
      rw [List.drop_eq_nil_of_le (Nat.le_refl _)] at k
      refine V_iload_n dX2_placeOfReport_4 rfl ?_
      refine V_aload_n dX2_placeOfReport_5 rfl (Or.inl ⟨_, rfl⟩) ?_
      refine V_get ckX2 (by first | assumption | (repeat (first | exact g_up_at | exact g_new_at rfl | assumption | refine g_up_of (by first | assumption | (simp only [g_new, g_up]; omega) | omega) ?_ | refine g_new_of (by first | assumption | (simp only [g_new, g_up]; omega) | omega) ?_))) 1 (by decide) q225 rfl (by rfl) dX2_placeOfReport_6 ?_
      refine V_callF (q := (RJ2, TJ2, 3)) (x := ⟨"java/util/List", "size", "()I"⟩) kJ2_size q526 ⟨by decide +kernel, by decide +kernel⟩ q528 q527 q533 q531 q529 (by decide +kernel) q532 q530 hc rfl dX2_placeOfReport_9 ?_ (d' := 0) (as := []) (hst := rfl)
      refine (h7.size ?_)
      refine V_icmp_ge 49 dX2_placeOfReport_14 (by decide) (fun _ => ?_) (fun c14 => absurd (by rw [hl.2.1]; exact Int32.le_refl _) c14)
      refine V_iload_n dX2_placeOfReport_49 rfl ?_
      refine V_ireturn dX2_placeOfReport_50 rfl ?_
      exact k
    · intro i hii ih p k
      obtain ⟨r, hr, e⟩ := drop_at hii
      rw [e] at k
      obtain ⟨q, hq, -, ta, hqc, -⟩ := h8.at hr
      refine V_iload_n dX2_placeOfReport_4 rfl ?_
      refine V_aload_n dX2_placeOfReport_5 rfl (Or.inl ⟨_, rfl⟩) ?_
      refine V_get ckX2 (by first | assumption | (repeat (first | exact g_up_at | exact g_new_at rfl | assumption | refine g_up_of (by first | assumption | (simp only [g_new, g_up]; omega) | omega) ?_ | refine g_new_of (by first | assumption | (simp only [g_new, g_up]; omega) | omega) ?_))) 1 (by decide) q225 rfl (by rfl) dX2_placeOfReport_6 ?_
      refine V_callF (q := (RJ2, TJ2, 3)) (x := ⟨"java/util/List", "size", "()I"⟩) kJ2_size q526 ⟨by decide +kernel, by decide +kernel⟩ q528 q527 q533 q531 q529 (by decide +kernel) q532 q530 hc rfl dX2_placeOfReport_9 ?_ (d' := 0) (as := []) (hst := rfl)
      refine (h7.size ?_)
      refine V_icmp_ge 49 dX2_placeOfReport_14 (by decide) (fun c14 => absurd c14 (nI_ge (by omega) (by omega))) (fun _ => ?_)
      refine V_aload_n dX2_placeOfReport_17 rfl (Or.inl ⟨_, rfl⟩) ?_
      refine V_get ckX2 (by first | assumption | (repeat (first | exact g_up_at | exact g_new_at rfl | assumption | refine g_up_of (by first | assumption | (simp only [g_new, g_up]; omega) | omega) ?_ | refine g_new_of (by first | assumption | (simp only [g_new, g_up]; omega) | omega) ?_))) 1 (by decide) q225 rfl (by rfl) dX2_placeOfReport_18 ?_
      refine V_iload_n dX2_placeOfReport_21 rfl ?_
      refine V_callF (q := (RJ2, TJ2, 3)) (x := ⟨"java/util/List", "get", "(I)Ljava/lang/Object;"⟩) kJ2_get q542 ⟨by decide +kernel, by decide +kernel⟩ q544 q543 q548 q546 q529 (by decide +kernel) q547 q545 hc rfl dX2_placeOfReport_22 ?_ (d' := 2) (as := [_]) (hst := rfl)
      refine (als_get (k := i) h7 rfl hq ?_)
      refine V_castS (q := (RX12, TX12, 4)) (by first | assumption | (repeat (first | exact g_up_at | exact g_new_at rfl | assumption | refine g_up_of (by first | assumption | (simp only [g_new, g_up]; omega) | omega) ?_ | refine g_new_of (by first | assumption | (simp only [g_new, g_up]; omega) | omega) ?_))) rfl q836 dX2_placeOfReport_27 ?_
      refine V_getN ckX12 (by first | assumption | (repeat (first | exact g_up_at | exact g_new_at rfl | assumption | refine g_up_of (by first | assumption | (simp only [g_new, g_up]; omega) | omega) ?_ | refine g_new_of (by first | assumption | (simp only [g_new, g_up]; omega) | omega) ?_))) 0 (by decide) q1112 rfl (by rfl) dX2_placeOfReport_30 ?_
      refine V_iload_n dX2_placeOfReport_33 rfl ?_
      refine V_icmp_ne 41 dX2_placeOfReport_34 (by decide) (fun c34 => ?_) (fun c34 => ?_)
      · refine V_iload_n dX2_placeOfReport_41 rfl ?_
        refine V_istore_n dX2_placeOfReport_42 (by decide) ?_
        refine V_iinc dX2_placeOfReport_43 rfl (by decide) ?_
        refine V_goto 4 dX2_placeOfReport_46 (by decide) ?_
        refine V_subk (ih p ?_) ⟨rfl, rfl, rfl, ?_, trivial⟩
        · have k : P (.returned (some (.int (plZ id (i + 1) (if r.1 = id then nI i else p) (o.2.1.drop (i + 1)))))) G := k
          rw [if_neg c34] at k
          exact k
        · rw [← nI_1 i]; rfl
      · refine V_iload_n dX2_placeOfReport_37 rfl ?_
        refine V_goto 42 dX2_placeOfReport_38 (by decide) ?_
        refine V_istore_n dX2_placeOfReport_42 (by decide) ?_
        refine V_iinc dX2_placeOfReport_43 rfl (by decide) ?_
        refine V_goto 4 dX2_placeOfReport_46 (by decide) ?_
        refine V_subk (ih (nI i) ?_) ⟨rfl, rfl, rfl, ?_, trivial⟩
        · have k : P (.returned (some (.int (plZ id (i + 1) (if r.1 = id then nI i else p) (o.2.1.drop (i + 1)))))) G := k
          rw [if_pos c34] at k
          exact k
        · rw [← nI_1 i]; rfl
  refine V_iconstv (-1) dX2_placeOfReport_0 (by decide) ?_
  refine V_istore_n dX2_placeOfReport_1 (by decide) ?_
  refine V_iconstv 0 dX2_placeOfReport_2 (by decide) ?_
  refine V_istore_n dX2_placeOfReport_3 (by decide) ?_
  refine V_subk (loop 0 (Nat.zero_le _) (-1) kk) ⟨rfl, rfl, rfl, rfl, trivial⟩
theorem off_hasReport {A : Nat → Prop} {n a s pa al : Nat} {fs rs : List Nat} {o : Of} {id : Int32} (h : OffC E A n G a o s pa fs al rs) (hi : IdO o) (kk : P (.returned (some (.int (b2i (plc id o.2.1).isSome)))) G) : g_Spc l E mX2_hasReport 4 [.ref a, .int id] G P := by
  have hl := h.len
  have hb : ∀ k, plc id o.2.1 = some k → k < 2 ^ 31 := fun k hk => by have := plc_lt hk; omega
  refine V_intro (plainFor_of_name plX2) (Nat.le_of_ble_eq_true rfl) ?_
  refine V_aload_n dX2_hasReport_0 rfl (Or.inl ⟨_, rfl⟩) ?_
  refine V_iload_n dX2_hasReport_1 rfl ?_
  refine V_callV (q := (RX2, TX2, 10)) kX2_placeOfReport q1143 q1144 q1145 h.2.2.2.1 rfl dX2_hasReport_2 ?_ (d' := 3) (as := [_]) (hst := rfl)
  refine (off_placeOfReport h hi ?_)
  refine V_iconstv (-1) dX2_hasReport_5 (by decide) ?_
  refine V_icmp_eq 13 dX2_hasReport_6 (by decide) (fun c6 => ?_) (fun c6 => ?_)
  · refine V_iconstv 0 dX2_hasReport_13 (by decide) ?_
    refine V_zreturn dX2_hasReport_14 rfl rfl ?_
    rw [(plI_m1 hb).mp c6] at kk
    exact kk
  · refine V_iconstv 1 dX2_hasReport_9 (by decide) ?_
    refine V_goto 14 dX2_hasReport_10 (by decide) ?_
    refine V_zreturn dX2_hasReport_14 rfl rfl ?_
    have e : (plc id o.2.1).isSome = true := by
      cases hx : plc id o.2.1 with
      | none => rw [hx] at c6; exact absurd rfl c6
      | some k => rfl
    rw [e] at kk
    exact kk
theorem off_report {A : Nat → Prop} {n a s pa al k : Nat} {fs rs : List Nat} {o : Of} {id : Int32} (h : OffC E A n G a o s pa fs al rs) (hi : IdO o) (hk : plc id o.2.1 = some k) (kk : ∀ q r, rs[k]? = some q → o.2.1[k]? = some r → RptAt E A G q r → P (.returned (some (.ref q))) G) : g_Spc l E mX2_report 4 [.ref a, .int id] G P := by
  have h0 := h
  obtain ⟨h1, h2, h3, h4, h5, h6, h7, h8, h9, h10⟩ := h
  obtain ⟨mc, ar, hc⟩ := h7.cell
  obtain ⟨r, hr, -⟩ := plc_some hk
  obtain ⟨q, hq, hF⟩ := h8.at hr
  have hF0 := hF
  obtain ⟨-, ta, hqc, -⟩ := hF0
  refine V_intro (plainFor_of_name plX2) (Nat.le_of_ble_eq_true rfl) ?_
  refine V_aload_n dX2_report_0 rfl (Or.inl ⟨_, rfl⟩) ?_
  refine V_get ckX2 (by first | assumption | (repeat (first | exact g_up_at | exact g_new_at rfl | assumption | refine g_up_of (by first | assumption | (simp only [g_new, g_up]; omega) | omega) ?_ | refine g_new_of (by first | assumption | (simp only [g_new, g_up]; omega) | omega) ?_))) 1 (by decide) q225 rfl (by rfl) dX2_report_1 ?_
  refine V_aload_n dX2_report_4 rfl (Or.inl ⟨_, rfl⟩) ?_
  refine V_iload_n dX2_report_5 rfl ?_
  refine V_callV (q := (RX2, TX2, 10)) kX2_placeOfReport q1143 q1144 q1145 (by first | assumption | (repeat (first | exact g_up_at | exact g_new_at rfl | assumption | refine g_up_of (by first | assumption | (simp only [g_new, g_up]; omega) | omega) ?_ | refine g_new_of (by first | assumption | (simp only [g_new, g_up]; omega) | omega) ?_))) rfl dX2_report_6 ?_ (d' := 3) (as := [_]) (hst := rfl)
  refine (off_placeOfReport h0 hi ?_)
  rw [hk]
  refine V_callF (q := (RJ2, TJ2, 3)) (x := ⟨"java/util/List", "get", "(I)Ljava/lang/Object;"⟩) kJ2_get q542 ⟨by decide +kernel, by decide +kernel⟩ q544 q543 q548 q546 q529 (by decide +kernel) q547 q545 hc rfl dX2_report_9 ?_ (d' := 2) (as := [_]) (hst := rfl)
  refine (als_get (k := k) h7 rfl hq ?_)
  refine V_castS (q := (RX12, TX12, 4)) (by first | assumption | (repeat (first | exact g_up_at | exact g_new_at rfl | assumption | refine g_up_of (by first | assumption | (simp only [g_new, g_up]; omega) | omega) ?_ | refine g_new_of (by first | assumption | (simp only [g_new, g_up]; omega) | omega) ?_))) rfl q836 dX2_report_14 ?_
  refine V_areturnO dX2_report_17 rfl ?_
  exact kk q r hq hr hF
theorem TintAt.ag {A : Nat → Prop} {n q : Nat} {o : Of} {r : Rw} (h : FndAt E A n G q (agd o r)) : ∃ ta, G.1 q = some (g_ob 6 [.int r.1, .int r.2.2.1, .ref ta, .int (o.2.2 4 - r.2.2.2)]) ∧ TintAt E A G ta r.2.1 := by
  obtain ⟨-, -, ta, h1, h2⟩ := h
  exact ⟨ta, h1, h2⟩
theorem off_distanceFor {A : Nat → Prop} {n a s pa al k j : Nat} {fs rs : List Nat} {o : Of} {rep id : Int32} (h : OffC E A n G a o s pa fs al rs) (hi : IdO o) (hk : plc rep o.2.1 = some k) (hj : plc id o.1 = some j) (kk : P (.returned (some (.int (dO o (rwAt o.2.1 k).2.1 (rwAt o.1 j))))) G) : g_Spc l E mX2_distanceFor 5 [.ref a, .int rep, .int id] G P := by
  refine V_intro (plainFor_of_name plX2) (Nat.le_of_ble_eq_true rfl) ?_
  refine V_aload_n dX2_distanceFor_0 rfl (Or.inl ⟨_, rfl⟩) ?_
  refine V_callV (q := (RX2, TX2, 10)) kX2_metric q1248 q1249 q1250 h.2.2.2.1 rfl dX2_distanceFor_1 ?_ (d' := 1) (as := []) (hst := rfl)
  refine (off_metric h ?_)
  refine V_aload_n dX2_distanceFor_4 rfl (Or.inl ⟨_, rfl⟩) ?_
  refine V_iload_n dX2_distanceFor_5 rfl ?_
  refine V_callV (q := (RX2, TX2, 10)) kX2_report q1318 q1319 q1320 h.2.2.2.1 rfl dX2_distanceFor_6 ?_ (d' := 4) (as := [_]) (hst := rfl)
  refine (off_report h hi hk (fun q r _ hr hq => ?_))
  obtain ⟨-, ta, hqc, ht⟩ := hq
  rw [rwAt_of hr] at kk
  refine V_getN ckX12 (by first | assumption | (repeat (first | exact g_up_at | exact g_new_at rfl | assumption | refine g_up_of (by first | assumption | (simp only [g_new, g_up]; omega) | omega) ?_ | refine g_new_of (by first | assumption | (simp only [g_new, g_up]; omega) | omega) ?_))) 1 (by decide) q1116 rfl (by rfl) dX2_distanceFor_9 ?_
  refine V_aload_n dX2_distanceFor_12 rfl (Or.inl ⟨_, rfl⟩) ?_
  refine V_iload_n dX2_distanceFor_13 rfl ?_
  refine V_callV (q := (RX2, TX2, 10)) kX2_colour q1396 q1397 q1398 h.2.2.2.1 rfl dX2_distanceFor_14 ?_ (d' := 1) (as := [_]) (hst := rfl)
  refine (off_colour h hi hj (fun q2 r2 _ hr2 hq2 => ?_))
  rw [rwAt_of hr2] at kk
  obtain ⟨tb, hqc2, ht2⟩ := TintAt.ag hq2
  refine V_getN ckX7 (by first | assumption | (repeat (first | exact g_up_at | exact g_new_at rfl | assumption | refine g_up_of (by first | assumption | (simp only [g_new, g_up]; omega) | omega) ?_ | refine g_new_of (by first | assumption | (simp only [g_new, g_up]; omega) | omega) ?_))) 2 (by decide) q508 rfl (by rfl) dX2_distanceFor_17 ?_
  refine V_callSN kX1_distance q1404 q1340 dX2_distanceFor_20 ?_ (d' := 3) (as := [_, _, _]) (hst := rfl)
  refine (co_distance ht ht2 ?_)
  refine V_ireturn dX2_distanceFor_23 rfl ?_
  exact kk
theorem off_fits {A : Nat → Prop} {n a s pa al k j : Nat} {fs rs : List Nat} {o : Of} {rep id : Int32} (h : OffC E A n G a o s pa fs al rs) (hi : IdO o) (hk : plc rep o.2.1 = some k) (hj : plc id o.1 = some j) (kk : P (.returned (some (.int (b2i (fitO o (rwAt o.2.1 k) (rwAt o.1 j)))))) G) : g_Spc l E mX2_fits 6 [.ref a, .int rep, .int id] G P := by
  refine V_intro (plainFor_of_name plX2) (Nat.le_of_ble_eq_true rfl) ?_
  refine V_aload_n dX2_fits_0 rfl (Or.inl ⟨_, rfl⟩) ?_
  refine V_iload_n dX2_fits_1 rfl ?_
  refine V_iload_n dX2_fits_2 rfl ?_
  refine V_callV (q := (RX2, TX2, 10)) kX2_distanceFor q1392 q1393 q1394 h.2.2.2.1 rfl dX2_fits_3 ?_ (d' := 5) (as := [_, _]) (hst := rfl)
  refine (off_distanceFor h hi hk hj ?_)
  refine V_aload_n dX2_fits_6 rfl (Or.inl ⟨_, rfl⟩) ?_
  refine V_iload_n dX2_fits_7 rfl ?_
  refine V_callV (q := (RX2, TX2, 10)) kX2_report q1318 q1319 q1320 h.2.2.2.1 rfl dX2_fits_8 ?_ (d' := 4) (as := [_]) (hst := rfl)
  refine (off_report h hi hk (fun q r _ hr hq => ?_))
  obtain ⟨-, ta, hqc, ht⟩ := hq
  refine V_getN ckX12 (by first | assumption | (repeat (first | exact g_up_at | exact g_new_at rfl | assumption | refine g_up_of (by first | assumption | (simp only [g_new, g_up]; omega) | omega) ?_ | refine g_new_of (by first | assumption | (simp only [g_new, g_up]; omega) | omega) ?_))) 2 (by decide) q1120 rfl (by rfl) dX2_fits_11 ?_
  refine V_icmp_gt 21 dX2_fits_14 (by decide) (fun c14 => ?_) (fun c14 => ?_)
  · refine V_iconstv 0 dX2_fits_21 (by decide) ?_
    refine V_zreturn dX2_fits_22 rfl rfl ?_
    have e : fitO o (rwAt o.2.1 k) (rwAt o.1 j) = false := by
      unfold fitO
      rw [rwAt_of hr] at c14 ⊢
      exact decide_eq_false (Int32.not_le.mpr c14)
    rw [e] at kk
    exact kk
  · refine V_iconstv 1 dX2_fits_17 (by decide) ?_
    refine V_goto 22 dX2_fits_18 (by decide) ?_
    refine V_zreturn dX2_fits_22 rfl rfl ?_
    have e : fitO o (rwAt o.2.1 k) (rwAt o.1 j) = true := by
      unfold fitO
      rw [rwAt_of hr] at c14 ⊢
      exact decide_eq_true (Int32.not_lt.mp c14)
    rw [e] at kk
    exact kk
end OFF
