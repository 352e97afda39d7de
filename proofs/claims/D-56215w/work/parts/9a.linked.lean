/-! MODULE LinkedList -/
set_option maxRecDepth 100000
def pv (ns : List Nat) (k : Nat) : Option Nat := match k with
  | 0 => none
  | k + 1 => ns[k]?
section LINKED
variable {l : Launch} {E : g_E} {P : Outcome → g_G → Prop} {G : g_G}
def LlN (G : g_G) (ns as : List Nat) : Prop := ns.length = as.length ∧ ns.Nodup ∧ ∀ k y a, ns[k]? = some y → as[k]? = some a → G.1 y = some (g_ob 23 [.ref a, va_rf ns[k + 1]?, va_rf (pv ns k)])
/-- a LinkedList at ll: what it holds -/
def LlAt (n : Nat) (G : g_G) (ll : Nat) (as : List Nat) : Prop := n ≤ ll ∧ ∃ (mc : Int32) (ns : List Nat), (∀ y ∈ ns, n ≤ y) ∧ G.1 ll = some (g_ob 20 [.int mc, .int (nI as.length), va_rf ns[0]?, va_rf ns[ns.length - 1]?]) ∧ LlN G ns as
/-- no list, no node -/
def noLL (G : g_G) (q : Nat) : Prop := ∀ vs, G.1 q ≠ some (g_ob 20 vs) ∧ G.1 q ≠ some (g_ob 23 vs)
theorem LlAt.cell {n ll : Nat} {as : List Nat} (h : LlAt n G ll as) : ∃ (mc : Int32) (x y : Value), G.1 ll = some (g_ob 20 [.int mc, .int (nI as.length), x, y]) := by
  obtain ⟨-, mc, ns, -, h, -⟩ := h
  exact ⟨mc, _, _, h⟩
theorem LlAt.ke2 {n ll : Nat} {as : List Nat} {B : Nat → Prop} {G' : g_G} (h : LlAt n G ll as) (hk : g_ke B G G') (hb : ∀ q vs, (G.1 q = some (g_ob 20 vs) ∨ G.1 q = some (g_ob 23 vs)) → B q) : LlAt n G' ll as := by
  obtain ⟨h1, mc, ns, h2, h3, h4, h5, h6⟩ := h
  refine ⟨h1, mc, ns, h2, hk _ _ (hb _ _ (Or.inl h3)) h3, h4, h5, fun k y a hy ha => ?_⟩
  have hc := h6 k y a hy ha
  exact hk _ _ (hb _ _ (Or.inr hc)) hc
theorem ll_init1 {a : Nat} {vs : List Value} (h : G.1 a = some (g_ob 20 (.int 0 :: vs))) (hB : g_B E ≤ a) (k : P (.returned none) G) : g_Spc l E mJ1_init 2 [.ref a] G P := by
  refine V_intro (plainFor_of_name plJ1) (Nat.le_of_ble_eq_true rfl) ?_
  refine V_aload_n dJ1_init_0 rfl (Or.inl ⟨_, rfl⟩) ?_
  refine V_callI kJ0_init rfl rfl q203 q204 dJ1_init_1 ?_ (d' := 1) (as := []) (hst := rfl)
  refine (als_init0 (fs := []) ?_)
  refine V_aload_n dJ1_init_4 rfl (Or.inl ⟨_, rfl⟩) ?_
  refine V_iconstv 0 dJ1_init_5 (by decide) ?_
  refine V_put ckJ4 (by first | assumption | (repeat (first | exact g_up_at | exact g_new_at rfl | assumption | refine g_up_of (by first | assumption | (simp only [g_new, g_up]; omega) | omega) ?_ | refine g_new_of (by first | assumption | (simp only [g_new, g_up]; omega) | omega) ?_))) (by first | assumption | omega | (simp only [g_new, g_up]; omega) | (simp only [g_new, g_up, g_B] at *; omega)) 0 (by decide) q211 rfl rfl rfl rfl (Nat.le_of_ble_eq_true rfl) dJ1_init_6 ?_
  refine V_return dJ1_init_9 rfl ?_
  rw [show g_up G a (g_ob 20 ((.int 0 :: vs).set 0 (.int 0))) = G from g_up_same h]
  exact k
theorem ll_init {a : Nat} (h : G.1 a = some (g_ob 20 [.int 0, .int 0, .null, .null])) (hB : g_B E ≤ a) (k : P (.returned none) G) : g_Spc l E mJ4_init 4 [.ref a] G P := by
  have in3 : ∀ (P' : Outcome → g_G → Prop), P' (.returned none) G → g_Spc l E mJ3_init 3 [.ref a] G P' := by
    intro P' k
    refine V_intro (plainFor_of_name plJ3) (Nat.le_of_ble_eq_true rfl) ?_
    refine V_aload_n dJ3_init_0 rfl (Or.inl ⟨_, rfl⟩) ?_
    refine V_callI kJ1_init rfl rfl q274 q201 dJ3_init_1 ?_ (d' := 2) (as := []) (hst := rfl)
    refine (ll_init1 h hB ?_)
    refine V_return dJ3_init_4 rfl ?_
    exact k
  refine V_intro (plainFor_of_name plJ4) (Nat.le_of_ble_eq_true rfl) ?_
  refine V_aload_n dJ4_init_0 rfl (Or.inl ⟨_, rfl⟩) ?_
  refine V_callI kJ3_init rfl rfl q271 q272 dJ4_init_1 ?_ (d' := 3) (as := []) (hst := rfl)
  refine (in3 _ ?_)
  refine V_aload_n dJ4_init_4 rfl (Or.inl ⟨_, rfl⟩) ?_
  refine V_iconstv 0 dJ4_init_5 (by decide) ?_
  refine V_put ckJ4 (by first | assumption | (repeat (first | exact g_up_at | exact g_new_at rfl | assumption | refine g_up_of (by first | assumption | (simp only [g_new, g_up]; omega) | omega) ?_ | refine g_new_of (by first | assumption | (simp only [g_new, g_up]; omega) | omega) ?_))) (by first | assumption | omega | (simp only [g_new, g_up]; omega) | (simp only [g_new, g_up, g_B] at *; omega)) 1 (by decide) q275 rfl rfl rfl rfl (Nat.le_of_ble_eq_true rfl) dJ4_init_6 ?_
  rw [show g_up G a (g_ob 20 ([.int 0, .int 0, .null, .null].set 1 (.int 0))) = G from g_up_same h]
  refine V_return dJ4_init_9 rfl ?_
  exact k
theorem ll_new {n a : Nat} (hn : n ≤ a) (h : G.1 a = some (g_ob 20 [.int 0, .int 0, .null, .null])) : LlAt n G a [] := ⟨hn, 0, [], (fun y hy => by cases hy), h, rfl, List.nodup_nil, (fun k y a hy => by cases hy)⟩
theorem ll_size {n ll : Nat} {as : List Nat} (h : LlAt n G ll as) (k : P (.returned (some (.int (nI as.length)))) G) : g_Spc l E mJ4_size 0 [.ref ll] G P := by
  obtain ⟨mc, x, y, hc⟩ := h.cell
  refine V_intro (plainFor_of_name plJ4) (Nat.le_of_ble_eq_true rfl) ?_
  refine V_aload_n dJ4_size_0 rfl (Or.inl ⟨_, rfl⟩) ?_
  refine V_get ckJ4 (by first | assumption | (repeat (first | exact g_up_at | exact g_new_at rfl | assumption | refine g_up_of (by first | assumption | (simp only [g_new, g_up]; omega) | omega) ?_ | refine g_new_of (by first | assumption | (simp only [g_new, g_up]; omega) | omega) ?_))) 1 (by decide) q275 rfl (by rfl) dJ4_size_1 ?_
  refine V_ireturn dJ4_size_4 rfl ?_
  exact k
theorem nd_init22 {y a : Nat} {p : Option Nat} (h : G.1 y = some (g_ob 23 [.null, .null, .null])) (hB : g_B E ≤ y) (k : P (.returned none) (g_up G y (g_ob 23 [.ref a, .null, va_rf p]))) : g_Spc l E mJ22_init 1 [.ref y, va_rf p, .ref a, .null] G P := by
  cases p with
  | none =>
    refine V_intro (plainFor_of_name plJ22) (Nat.le_of_ble_eq_true rfl) ?_
    refine V_aload_n dJ22_init_0 rfl (Or.inl ⟨_, rfl⟩) ?_
    refine V_objInit q922 q170 q171 dJ22_init_1 (by decide) (by decide) ?_
    refine V_aload_n dJ22_init_4 rfl (Or.inl ⟨_, rfl⟩) ?_
    refine V_aload_n dJ22_init_5 rfl (Or.inl ⟨_, rfl⟩) ?_
    refine V_put ckJ22 (by first | assumption | (repeat (first | exact g_up_at | exact g_new_at rfl | assumption | refine g_up_of (by first | assumption | (simp only [g_new, g_up]; omega) | omega) ?_ | refine g_new_of (by first | assumption | (simp only [g_new, g_up]; omega) | omega) ?_))) (by first | assumption | omega | (simp only [g_new, g_up]; omega) | (simp only [g_new, g_up, g_B] at *; omega)) 0 (by decide) q923 rfl rfl rfl rfl (Nat.le_of_ble_eq_true rfl) dJ22_init_6 ?_
    refine V_aload_n dJ22_init_9 rfl (Or.inl ⟨_, rfl⟩) ?_
    refine V_aload_n dJ22_init_10 rfl g_nv ?_
    refine V_put ckJ22 g_up_at (by first | assumption | omega | (simp only [g_new, g_up]; omega) | (simp only [g_new, g_up, g_B] at *; omega)) 1 (by decide) q925 rfl rfl rfl rfl (Nat.le_of_ble_eq_true rfl) dJ22_init_11 ?_
    rw [g_up_up]
    refine V_aload_n dJ22_init_14 rfl (Or.inl ⟨_, rfl⟩) ?_
    refine V_aload_n dJ22_init_15 rfl g_nv ?_
    refine V_put ckJ22 g_up_at (by first | assumption | omega | (simp only [g_new, g_up]; omega) | (simp only [g_new, g_up, g_B] at *; omega)) 2 (by decide) q927 rfl rfl rfl rfl (Nat.le_of_ble_eq_true rfl) dJ22_init_16 ?_
    refine V_return dJ22_init_19 rfl ?_
    rw [g_up_up]
    exact k
  | some p =>
    refine V_intro (plainFor_of_name plJ22) (Nat.le_of_ble_eq_true rfl) ?_
    refine V_aload_n dJ22_init_0 rfl (Or.inl ⟨_, rfl⟩) ?_
    refine V_objInit q922 q170 q171 dJ22_init_1 (by decide) (by decide) ?_
    refine V_aload_n dJ22_init_4 rfl (Or.inl ⟨_, rfl⟩) ?_
    refine V_aload_n dJ22_init_5 rfl (Or.inl ⟨_, rfl⟩) ?_
    refine V_put ckJ22 (by first | assumption | (repeat (first | exact g_up_at | exact g_new_at rfl | assumption | refine g_up_of (by first | assumption | (simp only [g_new, g_up]; omega) | omega) ?_ | refine g_new_of (by first | assumption | (simp only [g_new, g_up]; omega) | omega) ?_))) (by first | assumption | omega | (simp only [g_new, g_up]; omega) | (simp only [g_new, g_up, g_B] at *; omega)) 0 (by decide) q923 rfl rfl rfl rfl (Nat.le_of_ble_eq_true rfl) dJ22_init_6 ?_
    refine V_aload_n dJ22_init_9 rfl (Or.inl ⟨_, rfl⟩) ?_
    refine V_aload_n dJ22_init_10 rfl g_nv ?_
    refine V_put ckJ22 g_up_at (by first | assumption | omega | (simp only [g_new, g_up]; omega) | (simp only [g_new, g_up, g_B] at *; omega)) 1 (by decide) q925 rfl rfl rfl rfl (Nat.le_of_ble_eq_true rfl) dJ22_init_11 ?_
    rw [g_up_up]
    refine V_aload_n dJ22_init_14 rfl (Or.inl ⟨_, rfl⟩) ?_
    refine V_aload_n dJ22_init_15 rfl (Or.inl ⟨_, rfl⟩) ?_
    refine V_put ckJ22 g_up_at (by first | assumption | omega | (simp only [g_new, g_up]; omega) | (simp only [g_new, g_up, g_B] at *; omega)) 2 (by decide) q927 rfl rfl rfl rfl (Nat.le_of_ble_eq_true rfl) dJ22_init_16 ?_
    refine V_return dJ22_init_19 rfl ?_
    rw [g_up_up]
    exact k
theorem noLL.of {q : Nat} {x : va_E} (hx : G.1 q = some x) (h : noLL G q) {b : Nat} {vs : List Value} (hb : G.1 b = some (g_ob 20 vs) ∨ G.1 b = some (g_ob 23 vs)) : q ≠ b := fun e => by
  subst e
  rcases hb with hb | hb
  · exact (h vs).1 hb
  · exact (h vs).2 hb
theorem ll_linkLast {n ll a : Nat} {as : List Nat} (h : LlAt n G ll as) (hB : g_B E ≤ n) (hn : n ≤ G.2.1) (hf : g_fit E G 1 3) (kk : ∀ G', g_mod (noLL G) G G' 1 3 → LlAt n G' ll (as ++ [a]) → P (.returned none) G') : g_Spc l E mJ4_linkLast 2 [.ref ll, .ref a] G P := by
  obtain ⟨h1, mc, ns, h2, h3, h4, h5, h6⟩ := h
  obtain ⟨hf1, hf2⟩ := hf
  have hBl : g_B E ≤ ll := Nat.le_trans hB h1
  refine V_intro (plainFor_of_name plJ4) (Nat.le_of_ble_eq_true rfl) ?_
  refine V_wf (fun wf hBG => ?_)
  have hll := wf.ne h3
  have esz : nI as.length + 1 = nI (as.length + 1) := nI_1 _
  have hlen : (as ++ [a]).length = as.length + 1 := by rw [List.length_append]; rfl
  cases hns : ns with
  | nil =>
    subst hns
    have has : as = [] := List.eq_nil_of_length_eq_zero h4.symm
    subst has
    have h3 : G.1 ll = some (g_ob 20 [.int mc, .int (nI 0), .null, .null]) := h3
    refine V_aload_n dJ4_linkLast_0 rfl (Or.inl ⟨_, rfl⟩) ?_
    refine V_get ckJ4 (by first | assumption | (repeat (first | exact g_up_at | exact g_new_at rfl | assumption | refine g_up_of (by first | assumption | (simp only [g_new, g_up]; omega) | omega) ?_ | refine g_new_of (by first | assumption | (simp only [g_new, g_up]; omega) | omega) ?_))) 3 (by decide) q277 rfl (by rfl) dJ4_linkLast_1 ?_
    refine V_astore_n dJ4_linkLast_4 g_nv (by decide) ?_
    refine V_new ckJ22 q917 dJ4_linkLast_5 (by first | omega | (simp only [g_new, g_up]; omega)) (by first | omega | (simp only [g_new, g_up]; omega)) ?_
    refine V_dup dJ4_linkLast_8 rfl ?_
    refine V_aload_n dJ4_linkLast_9 rfl g_nv ?_
    refine V_aload_n dJ4_linkLast_10 rfl (Or.inl ⟨_, rfl⟩) ?_
    refine V_null dJ4_linkLast_11 ?_
    refine V_callI kJ22_init rfl rfl q919 q920 dJ4_linkLast_12 ?_ (d' := 1) (as := [_, _, _]) (hst := rfl)
    refine (nd_init22 (p := none) (g_new_at rfl) hBG ?_)
    rw [g_new_up rfl]
    refine V_astore_n dJ4_linkLast_15 (Or.inl ⟨_, rfl⟩) (by decide) ?_
    refine V_aload_n dJ4_linkLast_16 rfl (Or.inl ⟨_, rfl⟩) ?_
    refine V_aload_n dJ4_linkLast_17 rfl (Or.inl ⟨_, rfl⟩) ?_
    refine V_put ckJ4 (g_new_of hll h3) (by first | assumption | omega | (simp only [g_new, g_up]; omega) | (simp only [g_new, g_up, g_B] at *; omega)) 3 (by decide) q277 rfl rfl rfl rfl (Nat.le_of_ble_eq_true rfl) dJ4_linkLast_18 ?_
    refine V_aload_n dJ4_linkLast_21 rfl g_nv ?_
    refine V_ifnonnullN dJ4_linkLast_22 ?_
    refine V_aload_n dJ4_linkLast_25 rfl (Or.inl ⟨_, rfl⟩) ?_
    refine V_aload_n dJ4_linkLast_26 rfl (Or.inl ⟨_, rfl⟩) ?_
    refine V_put ckJ4 g_up_at (by first | assumption | omega | (simp only [g_new, g_up]; omega) | (simp only [g_new, g_up, g_B] at *; omega)) 2 (by decide) q276 rfl rfl rfl rfl (Nat.le_of_ble_eq_true rfl) dJ4_linkLast_27 ?_
    refine V_goto 38 dJ4_linkLast_30 (by decide) ?_
    rw [g_up_up]
    refine V_aload_n dJ4_linkLast_38 rfl (Or.inl ⟨_, rfl⟩) ?_
    refine V_dup dJ4_linkLast_39 rfl ?_
    refine V_get ckJ4 g_up_at 1 (by decide) q275 rfl (by rfl) dJ4_linkLast_40 ?_
    refine V_iconstv 1 dJ4_linkLast_43 (by decide) ?_
    refine V_iadd dJ4_linkLast_44 ?_
    refine V_put ckJ4 g_up_at (by first | assumption | omega | (simp only [g_new, g_up]; omega) | (simp only [g_new, g_up, g_B] at *; omega)) 1 (by decide) q275 rfl rfl rfl rfl (Nat.le_of_ble_eq_true rfl) dJ4_linkLast_45 ?_
    rw [g_up_up]
    refine V_aload_n dJ4_linkLast_48 rfl (Or.inl ⟨_, rfl⟩) ?_
    refine V_dup dJ4_linkLast_49 rfl ?_
    refine V_getI ckJ4 g_up_at 0 (by decide) q212 q213 (by rfl) dJ4_linkLast_50 ?_
    refine V_iconstv 1 dJ4_linkLast_53 (by decide) ?_
    refine V_iadd dJ4_linkLast_54 ?_
    refine V_putI ckJ4 g_up_at (by first | assumption | omega | (simp only [g_new, g_up]; omega) | (simp only [g_new, g_up, g_B] at *; omega)) 0 (by decide) q212 q213 rfl rfl rfl (Nat.le_of_ble_eq_true rfl) dJ4_linkLast_55 ?_
    refine V_return dJ4_linkLast_58 rfl ?_
    rw [g_up_up]
    refine kk _ ⟨fun q x hq hx => g_up_of (hq.of hx (Or.inl h3)) (g_new_of (wf.ne hx) hx), Nat.le_succ _, Nat.le_refl _, Nat.le_add_right _ _, Nat.le_refl _⟩ ⟨h1, mc + 1, [G.2.1], fun y hy => by rw [List.mem_singleton.mp hy]; exact hn, g_up_at, rfl, List.nodup_cons.mpr ⟨(fun h => by cases h), List.nodup_nil⟩, fun k y b hy hb => ?_⟩
    match k, hy, hb with
    | 0, hy, hb =>
      cases hy
      cases hb
      exact g_up_of (Ne.symm hll) (g_new_at rfl)
    | k + 1, hy, hb => cases hy
  | cons y0 t =>
    have hpos : 0 < ns.length := by rw [hns]; exact Nat.succ_pos _
    clear hns
    obtain ⟨z, hz, -⟩ := drop_at (show ns.length - 1 < ns.length by omega)
    obtain ⟨az, haz, -⟩ := drop_at (show ns.length - 1 < as.length by omega)
    have hc := h6 _ _ _ hz haz
    have hnx : ns[ns.length - 1 + 1]? = none := List.getElem?_eq_none (by omega)
    rw [hnx] at hc
    rw [hz] at h3
    have hzl : z ≠ ll := g_apart hc h3 (by intro e; cases e)
    have hzn := wf.ne hc
    have hBz : g_B E ≤ z := Nat.le_trans hB (h2 z (List.mem_of_getElem? hz))
    refine V_aload_n dJ4_linkLast_0 rfl (Or.inl ⟨_, rfl⟩) ?_
    refine V_get ckJ4 (by first | assumption | (repeat (first | exact g_up_at | exact g_new_at rfl | assumption | refine g_up_of (by first | assumption | (simp only [g_new, g_up]; omega) | omega) ?_ | refine g_new_of (by first | assumption | (simp only [g_new, g_up]; omega) | omega) ?_))) 3 (by decide) q277 rfl (by rfl) dJ4_linkLast_1 ?_
    refine V_astore_n dJ4_linkLast_4 (Or.inl ⟨_, rfl⟩) (by decide) ?_
    refine V_new ckJ22 q917 dJ4_linkLast_5 (by first | omega | (simp only [g_new, g_up]; omega)) (by first | omega | (simp only [g_new, g_up]; omega)) ?_
    refine V_dup dJ4_linkLast_8 rfl ?_
    refine V_aload_n dJ4_linkLast_9 rfl (Or.inl ⟨_, rfl⟩) ?_
    refine V_aload_n dJ4_linkLast_10 rfl (Or.inl ⟨_, rfl⟩) ?_
    refine V_null dJ4_linkLast_11 ?_
    refine V_callI kJ22_init rfl rfl q919 q920 dJ4_linkLast_12 ?_ (d' := 1) (as := [_, _, _]) (hst := rfl)
    refine (nd_init22 (p := some z) (g_new_at rfl) hBG ?_)
    rw [g_new_up rfl]
    refine V_astore_n dJ4_linkLast_15 (Or.inl ⟨_, rfl⟩) (by decide) ?_
    refine V_aload_n dJ4_linkLast_16 rfl (Or.inl ⟨_, rfl⟩) ?_
    refine V_aload_n dJ4_linkLast_17 rfl (Or.inl ⟨_, rfl⟩) ?_
    refine V_put ckJ4 (g_new_of hll h3) (by first | assumption | omega | (simp only [g_new, g_up]; omega) | (simp only [g_new, g_up, g_B] at *; omega)) 3 (by decide) q277 rfl rfl rfl rfl (Nat.le_of_ble_eq_true rfl) dJ4_linkLast_18 ?_
    refine V_aload_n dJ4_linkLast_21 rfl (Or.inl ⟨_, rfl⟩) ?_
    refine V_ifnonnull 33 dJ4_linkLast_22 (by decide) ?_
    refine V_aload_n dJ4_linkLast_33 rfl (Or.inl ⟨_, rfl⟩) ?_
    refine V_aload_n dJ4_linkLast_34 rfl (Or.inl ⟨_, rfl⟩) ?_
    refine V_put ckJ22 (g_up_of hzl (g_new_of hzn hc)) (by first | assumption | omega | (simp only [g_new, g_up]; omega) | (simp only [g_new, g_up, g_B] at *; omega)) 1 (by decide) q926 rfl rfl rfl rfl (Nat.le_of_ble_eq_true rfl) dJ4_linkLast_35 ?_
    refine V_aload_n dJ4_linkLast_38 rfl (Or.inl ⟨_, rfl⟩) ?_
    refine V_dup dJ4_linkLast_39 rfl ?_
    refine V_get ckJ4 (g_up_of hzl.symm g_up_at) 1 (by decide) q275 rfl (by rfl) dJ4_linkLast_40 ?_
    refine V_iconstv 1 dJ4_linkLast_43 (by decide) ?_
    refine V_iadd dJ4_linkLast_44 ?_
    refine V_put ckJ4 (g_up_of hzl.symm g_up_at) (by first | assumption | omega | (simp only [g_new, g_up]; omega) | (simp only [g_new, g_up, g_B] at *; omega)) 1 (by decide) q275 rfl rfl rfl rfl (Nat.le_of_ble_eq_true rfl) dJ4_linkLast_45 ?_
    rw [esz]
    refine V_aload_n dJ4_linkLast_48 rfl (Or.inl ⟨_, rfl⟩) ?_
    refine V_dup dJ4_linkLast_49 rfl ?_
    refine V_getI ckJ4 g_up_at 0 (by decide) q212 q213 (by rfl) dJ4_linkLast_50 ?_
    refine V_iconstv 1 dJ4_linkLast_53 (by decide) ?_
    refine V_iadd dJ4_linkLast_54 ?_
    refine V_putI ckJ4 g_up_at (by first | assumption | omega | (simp only [g_new, g_up]; omega) | (simp only [g_new, g_up, g_B] at *; omega)) 0 (by decide) q212 q213 rfl rfl rfl (Nat.le_of_ble_eq_true rfl) dJ4_linkLast_55 ?_
    refine V_return dJ4_linkLast_58 rfl ?_
    rw [g_up_up]
    refine kk _ ⟨fun q x hq hx => g_up_of (hq.of hx (Or.inl h3)) (g_up_of (hq.of hx (Or.inr hc)) (g_up_of (hq.of hx (Or.inl h3)) (g_new_of (wf.ne hx) hx))), Nat.le_succ _, Nat.le_refl _, Nat.le_add_right _ _, Nat.le_refl _⟩ ⟨h1, mc + 1, ns ++ [G.2.1], fun y hy => ?_, ?_, ?_, ?_, fun k y b hy hb => ?_⟩
    · rcases List.mem_append.mp hy with hy | hy
      · exact h2 y hy
      · rw [List.mem_singleton.mp hy]; exact hn
    · rw [g_up_self, hlen, List.length_append]
      rw [List.getElem?_append_left hpos, List.getElem?_append_right (by simp only [List.length_singleton]; omega)]
      rw [show ns.length + [G.2.1].length - 1 - ns.length = 0 from by simp only [List.length_singleton]; omega]
      rfl
    · rw [List.length_append, hlen, h4]; rfl
    · refine List.nodup_append.mpr ⟨h5, List.nodup_cons.mpr ⟨(fun h => by cases h), List.nodup_nil⟩, fun x hx y hy e => ?_⟩
      rw [List.mem_singleton.mp hy] at e
      obtain ⟨k, hk⟩ := List.mem_iff_getElem?.mp hx
      obtain ⟨b, hb, -⟩ := drop_at (show k < as.length by have := (List.getElem?_eq_some_iff.mp hk).1; omega)
      exact wf.ne (h6 k x b hk hb) e
    · by_cases e : k < ns.length
      · rw [List.getElem?_append_left e] at hy
        rw [List.getElem?_append_left (by omega)] at hb
        have hcy := h6 k y b hy hb
        have epv : pv (ns ++ [G.2.1]) k = pv ns k := by
          cases k with
          | zero => rfl
          | succ k => exact List.getElem?_append_left (by omega)
        by_cases ez : k = ns.length - 1
        · subst ez
          rw [hz] at hy
          cases hy
          rw [haz] at hb
          cases hb
          rw [epv, show (ns ++ [G.2.1])[ns.length - 1 + 1]? = some G.2.1 from by rw [List.getElem?_append_right (by omega), show ns.length - 1 + 1 - ns.length = 0 from by omega]; rfl]
          exact g_up_of hzl g_up_at
        · have hyz : y ≠ z := fun e2 => by
            subst e2
            have hkl : k < ns.length := e
            exact ez ((List.getElem?_inj hkl h5).mp (by rw [hy, hz]))
          rw [epv, List.getElem?_append_left (by omega)]
          exact g_up_of (g_apart hcy h3 (by intro e; cases e)) (g_up_of hyz (g_up_of (g_apart hcy h3 (by intro e; cases e)) (g_new_of (wf.ne hcy) hcy)))
      · have hkl := (List.getElem?_eq_some_iff.mp hy).1
        rw [List.length_append] at hkl
        have hkl : k < ns.length + 1 := hkl
        have ek : k = ns.length := by omega
        subst ek
        rw [List.getElem?_append_right (Nat.le_refl _), Nat.sub_self] at hy
        cases hy
        rw [List.getElem?_append_right (by omega), h4, Nat.sub_self] at hb
        cases hb
        have epv : pv (ns ++ [G.2.1]) ns.length = some z := by
          obtain ⟨j, hj⟩ : ∃ j, ns.length = j + 1 := ⟨ns.length - 1, by omega⟩
          rw [hj]
          show (ns ++ [G.2.1])[j]? = some z
          rw [List.getElem?_append_left (by omega), show j = ns.length - 1 from by omega]
          exact hz
        rw [epv, show (ns ++ [G.2.1])[ns.length + 1]? = none from List.getElem?_eq_none (by rw [List.length_append]; exact Nat.le_refl _)]
        exact g_up_of (Ne.symm hll) (g_up_of (Ne.symm hzn) (g_up_of (Ne.symm hll) (g_new_at rfl)))
theorem ll_addLast {n ll a : Nat} {as : List Nat} (h : LlAt n G ll as) (hB : g_B E ≤ n) (hn : n ≤ G.2.1) (hf : g_fit E G 1 3) (kk : ∀ G', g_mod (noLL G) G G' 1 3 → LlAt n G' ll (as ++ [a]) → P (.returned none) G') : g_Spc l E mJ4_addLast 3 [.ref ll, .ref a] G P := by
  obtain ⟨mc, x, y, hc⟩ := h.cell
  refine V_intro (plainFor_of_name plJ4) (Nat.le_of_ble_eq_true rfl) ?_
  refine V_aload_n dJ4_addLast_0 rfl (Or.inl ⟨_, rfl⟩) ?_
  refine V_aload_n dJ4_addLast_1 rfl (Or.inl ⟨_, rfl⟩) ?_
  refine V_callV (q := (RJ4, TJ4, 4)) kJ4_linkLast q913 q914 q915 (by first | assumption | (repeat (first | exact g_up_at | exact g_new_at rfl | assumption | refine g_up_of (by first | assumption | (simp only [g_new, g_up]; omega) | omega) ?_ | refine g_new_of (by first | assumption | (simp only [g_new, g_up]; omega) | omega) ?_))) rfl dJ4_addLast_2 ?_ (d' := 2) (as := [_]) (hst := rfl)
  refine (ll_linkLast h hB hn hf (fun G' m h' => ?_))
  refine V_return dJ4_addLast_5 rfl ?_
  exact kk G' m h'
theorem ll_unlinkFirst {n ll y a : Nat} {as ns : List Nat} {mc : Int32} (h1 : n ≤ ll) (h2 : ∀ z ∈ y :: ns, n ≤ z) (h3 : G.1 ll = some (g_ob 20 [.int mc, .int (nI (a :: as).length), .ref y, va_rf (y :: ns)[(y :: ns).length - 1]?])) (h4 : LlN G (y :: ns) (a :: as)) (hB : g_B E ≤ n) (kk : ∀ G', g_mod (noLL G) G G' 0 0 → LlAt n G' ll as → P (.returned (some (.ref a))) G') : g_Spc l E mJ4_unlinkFirst 0 [.ref ll, .ref y] G P := by
  obtain ⟨h4, h5, h6⟩ := h4
  have hBl : g_B E ≤ ll := Nat.le_trans hB h1
  have hBy : g_B E ≤ y := Nat.le_trans hB (h2 y List.mem_cons_self)
  have hc : G.1 y = some (g_ob 23 [.ref a, va_rf ns[0]?, .null]) := h6 0 y a rfl rfl
  have hyl : y ≠ ll := g_apart hc h3 (by intro e; cases e)
  have esz : nI (as.length + 1) - 1 = nI as.length := nI_pred _
  have h3 : G.1 ll = some (g_ob 20 [.int mc, .int (nI (as.length + 1)), .ref y, va_rf (y :: ns)[(y :: ns).length - 1]?]) := h3
  rw [List.nodup_cons] at h5
  refine V_intro (plainFor_of_name plJ4) (Nat.le_of_ble_eq_true rfl) ?_
  cases ns with
  | nil =>
    have has : as = [] := List.eq_nil_of_length_eq_zero (Nat.succ.inj h4.symm)
    subst has
    have hc : G.1 y = some (g_ob 23 [.ref a, .null, .null]) := hc
    refine V_aload_n dJ4_unlinkFirst_0 rfl (Or.inl ⟨_, rfl⟩) ?_
    refine V_get ckJ22 (by first | assumption | (repeat (first | exact g_up_at | exact g_new_at rfl | assumption | refine g_up_of (by first | assumption | (simp only [g_new, g_up]; omega) | omega) ?_ | refine g_new_of (by first | assumption | (simp only [g_new, g_up]; omega) | omega) ?_))) 0 (by decide) q924 rfl (by rfl) dJ4_unlinkFirst_1 ?_
    refine V_astore_n dJ4_unlinkFirst_4 (Or.inl ⟨_, rfl⟩) (by decide) ?_
    refine V_aload_n dJ4_unlinkFirst_5 rfl (Or.inl ⟨_, rfl⟩) ?_
    refine V_get ckJ22 (by first | assumption | (repeat (first | exact g_up_at | exact g_new_at rfl | assumption | refine g_up_of (by first | assumption | (simp only [g_new, g_up]; omega) | omega) ?_ | refine g_new_of (by first | assumption | (simp only [g_new, g_up]; omega) | omega) ?_))) 1 (by decide) q926 rfl (by rfl) dJ4_unlinkFirst_6 ?_
    refine V_astore_n dJ4_unlinkFirst_9 g_nv (by decide) ?_
    refine V_aload_n dJ4_unlinkFirst_10 rfl (Or.inl ⟨_, rfl⟩) ?_
    refine V_null dJ4_unlinkFirst_11 ?_
    refine V_put ckJ22 (by first | assumption | (repeat (first | exact g_up_at | exact g_new_at rfl | assumption | refine g_up_of (by first | assumption | (simp only [g_new, g_up]; omega) | omega) ?_ | refine g_new_of (by first | assumption | (simp only [g_new, g_up]; omega) | omega) ?_))) (by first | assumption | omega | (simp only [g_new, g_up]; omega) | (simp only [g_new, g_up, g_B] at *; omega)) 0 (by decide) q924 rfl rfl rfl rfl (Nat.le_of_ble_eq_true rfl) dJ4_unlinkFirst_12 ?_
    refine V_aload_n dJ4_unlinkFirst_15 rfl (Or.inl ⟨_, rfl⟩) ?_
    refine V_null dJ4_unlinkFirst_16 ?_
    refine V_put ckJ22 g_up_at (by first | assumption | omega | (simp only [g_new, g_up]; omega) | (simp only [g_new, g_up, g_B] at *; omega)) 1 (by decide) q926 rfl rfl rfl rfl (Nat.le_of_ble_eq_true rfl) dJ4_unlinkFirst_17 ?_
    rw [g_up_up]
    refine V_aload_n dJ4_unlinkFirst_20 rfl (Or.inl ⟨_, rfl⟩) ?_
    refine V_aload_n dJ4_unlinkFirst_21 rfl g_nv ?_
    refine V_put ckJ4 (g_up_of hyl.symm h3) (by first | assumption | omega | (simp only [g_new, g_up]; omega) | (simp only [g_new, g_up, g_B] at *; omega)) 2 (by decide) q276 rfl rfl rfl rfl (Nat.le_of_ble_eq_true rfl) dJ4_unlinkFirst_22 ?_
    refine V_aload_n dJ4_unlinkFirst_25 rfl g_nv ?_
    refine V_ifnonnullN dJ4_unlinkFirst_26 ?_
    refine V_aload_n dJ4_unlinkFirst_29 rfl (Or.inl ⟨_, rfl⟩) ?_
    refine V_null dJ4_unlinkFirst_30 ?_
    refine V_put ckJ4 g_up_at (by first | assumption | omega | (simp only [g_new, g_up]; omega) | (simp only [g_new, g_up, g_B] at *; omega)) 3 (by decide) q277 rfl rfl rfl rfl (Nat.le_of_ble_eq_true rfl) dJ4_unlinkFirst_31 ?_
    refine V_goto 42 dJ4_unlinkFirst_34 (by decide) ?_
    rw [g_up_up]
    refine V_aload_n dJ4_unlinkFirst_42 rfl (Or.inl ⟨_, rfl⟩) ?_
    refine V_dup dJ4_unlinkFirst_43 rfl ?_
    refine V_get ckJ4 g_up_at 1 (by decide) q275 rfl (by rfl) dJ4_unlinkFirst_44 ?_
    refine V_iconstv 1 dJ4_unlinkFirst_47 (by decide) ?_
    refine V_isub dJ4_unlinkFirst_48 ?_
    refine V_put ckJ4 g_up_at (by first | assumption | omega | (simp only [g_new, g_up]; omega) | (simp only [g_new, g_up, g_B] at *; omega)) 1 (by decide) q275 rfl rfl rfl rfl (Nat.le_of_ble_eq_true rfl) dJ4_unlinkFirst_49 ?_
    rw [g_up_up]
    refine V_aload_n dJ4_unlinkFirst_52 rfl (Or.inl ⟨_, rfl⟩) ?_
    refine V_dup dJ4_unlinkFirst_53 rfl ?_
    refine V_getI ckJ4 g_up_at 0 (by decide) q212 q213 (by rfl) dJ4_unlinkFirst_54 ?_
    refine V_iconstv 1 dJ4_unlinkFirst_57 (by decide) ?_
    refine V_iadd dJ4_unlinkFirst_58 ?_
    refine V_putI ckJ4 g_up_at (by first | assumption | omega | (simp only [g_new, g_up]; omega) | (simp only [g_new, g_up, g_B] at *; omega)) 0 (by decide) q212 q213 rfl rfl rfl (Nat.le_of_ble_eq_true rfl) dJ4_unlinkFirst_59 ?_
    refine V_aload_n dJ4_unlinkFirst_62 rfl (Or.inl ⟨_, rfl⟩) ?_
    refine V_areturnO dJ4_unlinkFirst_63 rfl ?_
    rw [g_up_up]
    exact kk _ ⟨fun q x hq hx => g_up_of (hq.of hx (Or.inl h3)) (g_up_of (hq.of hx (Or.inr hc)) hx), Nat.le_refl _, Nat.le_refl _, Nat.le_refl _, Nat.le_refl _⟩ ⟨h1, mc + 1, [], (fun y hy => by cases hy), g_up_at, rfl, List.nodup_nil, fun k y a hy => by cases hy⟩
  | cons z t =>
    obtain ⟨az, has⟩ : ∃ az, as[0]? = some az := by
      obtain ⟨az, haz, -⟩ := drop_at (L := as) (i := 0) (by have : (y :: z :: t).length = as.length + 1 := h4; simp only [List.length_cons] at this; omega)
      exact ⟨az, haz⟩
    have hcz : G.1 z = some (g_ob 23 [.ref az, va_rf t[0]?, .ref y]) := h6 1 z az rfl has
    have hzl : z ≠ ll := g_apart hcz h3 (by intro e; cases e)
    have hzy : z ≠ y := fun e => h5.1 (by rw [e]; exact List.mem_cons_self)
    have hBz : g_B E ≤ z := Nat.le_trans hB (h2 z (List.mem_cons_of_mem _ List.mem_cons_self))
    refine V_aload_n dJ4_unlinkFirst_0 rfl (Or.inl ⟨_, rfl⟩) ?_
    refine V_get ckJ22 (by first | assumption | (repeat (first | exact g_up_at | exact g_new_at rfl | assumption | refine g_up_of (by first | assumption | (simp only [g_new, g_up]; omega) | omega) ?_ | refine g_new_of (by first | assumption | (simp only [g_new, g_up]; omega) | omega) ?_))) 0 (by decide) q924 rfl (by rfl) dJ4_unlinkFirst_1 ?_
    refine V_astore_n dJ4_unlinkFirst_4 (Or.inl ⟨_, rfl⟩) (by decide) ?_
    refine V_aload_n dJ4_unlinkFirst_5 rfl (Or.inl ⟨_, rfl⟩) ?_
    refine V_get ckJ22 (by first | assumption | (repeat (first | exact g_up_at | exact g_new_at rfl | assumption | refine g_up_of (by first | assumption | (simp only [g_new, g_up]; omega) | omega) ?_ | refine g_new_of (by first | assumption | (simp only [g_new, g_up]; omega) | omega) ?_))) 1 (by decide) q926 rfl (by rfl) dJ4_unlinkFirst_6 ?_
    refine V_astore_n dJ4_unlinkFirst_9 (Or.inl ⟨_, rfl⟩) (by decide) ?_
    refine V_aload_n dJ4_unlinkFirst_10 rfl (Or.inl ⟨_, rfl⟩) ?_
    refine V_null dJ4_unlinkFirst_11 ?_
    refine V_put ckJ22 (by first | assumption | (repeat (first | exact g_up_at | exact g_new_at rfl | assumption | refine g_up_of (by first | assumption | (simp only [g_new, g_up]; omega) | omega) ?_ | refine g_new_of (by first | assumption | (simp only [g_new, g_up]; omega) | omega) ?_))) (by first | assumption | omega | (simp only [g_new, g_up]; omega) | (simp only [g_new, g_up, g_B] at *; omega)) 0 (by decide) q924 rfl rfl rfl rfl (Nat.le_of_ble_eq_true rfl) dJ4_unlinkFirst_12 ?_
    refine V_aload_n dJ4_unlinkFirst_15 rfl (Or.inl ⟨_, rfl⟩) ?_
    refine V_null dJ4_unlinkFirst_16 ?_
    refine V_put ckJ22 g_up_at (by first | assumption | omega | (simp only [g_new, g_up]; omega) | (simp only [g_new, g_up, g_B] at *; omega)) 1 (by decide) q926 rfl rfl rfl rfl (Nat.le_of_ble_eq_true rfl) dJ4_unlinkFirst_17 ?_
    rw [g_up_up]
    refine V_aload_n dJ4_unlinkFirst_20 rfl (Or.inl ⟨_, rfl⟩) ?_
    refine V_aload_n dJ4_unlinkFirst_21 rfl (Or.inl ⟨_, rfl⟩) ?_
    refine V_put ckJ4 (g_up_of hyl.symm h3) (by first | assumption | omega | (simp only [g_new, g_up]; omega) | (simp only [g_new, g_up, g_B] at *; omega)) 2 (by decide) q276 rfl rfl rfl rfl (Nat.le_of_ble_eq_true rfl) dJ4_unlinkFirst_22 ?_
    refine V_aload_n dJ4_unlinkFirst_25 rfl (Or.inl ⟨_, rfl⟩) ?_
    refine V_ifnonnull 37 dJ4_unlinkFirst_26 (by decide) ?_
    refine V_aload_n dJ4_unlinkFirst_37 rfl (Or.inl ⟨_, rfl⟩) ?_
    refine V_null dJ4_unlinkFirst_38 ?_
    refine V_put ckJ22 (g_up_of hzl (g_up_of hzy hcz)) (by first | assumption | omega | (simp only [g_new, g_up]; omega) | (simp only [g_new, g_up, g_B] at *; omega)) 2 (by decide) q928 rfl rfl rfl rfl (Nat.le_of_ble_eq_true rfl) dJ4_unlinkFirst_39 ?_
    refine V_aload_n dJ4_unlinkFirst_42 rfl (Or.inl ⟨_, rfl⟩) ?_
    refine V_dup dJ4_unlinkFirst_43 rfl ?_
    refine V_get ckJ4 (g_up_of hzl.symm g_up_at) 1 (by decide) q275 rfl (by rfl) dJ4_unlinkFirst_44 ?_
    refine V_iconstv 1 dJ4_unlinkFirst_47 (by decide) ?_
    refine V_isub dJ4_unlinkFirst_48 ?_
    refine V_put ckJ4 (g_up_of hzl.symm g_up_at) (by first | assumption | omega | (simp only [g_new, g_up]; omega) | (simp only [g_new, g_up, g_B] at *; omega)) 1 (by decide) q275 rfl rfl rfl rfl (Nat.le_of_ble_eq_true rfl) dJ4_unlinkFirst_49 ?_
    rw [esz]
    refine V_aload_n dJ4_unlinkFirst_52 rfl (Or.inl ⟨_, rfl⟩) ?_
    refine V_dup dJ4_unlinkFirst_53 rfl ?_
    refine V_getI ckJ4 g_up_at 0 (by decide) q212 q213 (by rfl) dJ4_unlinkFirst_54 ?_
    refine V_iconstv 1 dJ4_unlinkFirst_57 (by decide) ?_
    refine V_iadd dJ4_unlinkFirst_58 ?_
    refine V_putI ckJ4 g_up_at (by first | assumption | omega | (simp only [g_new, g_up]; omega) | (simp only [g_new, g_up, g_B] at *; omega)) 0 (by decide) q212 q213 rfl rfl rfl (Nat.le_of_ble_eq_true rfl) dJ4_unlinkFirst_59 ?_
    refine V_aload_n dJ4_unlinkFirst_62 rfl (Or.inl ⟨_, rfl⟩) ?_
    refine V_areturnO dJ4_unlinkFirst_63 rfl ?_
    rw [g_up_up]
    refine kk _ ⟨fun q x hq hx => g_up_of (hq.of hx (Or.inl h3)) (g_up_of (hq.of hx (Or.inr hcz)) (g_up_of (hq.of hx (Or.inl h3)) (g_up_of (hq.of hx (Or.inr hc)) hx))), Nat.le_refl _, Nat.le_refl _, Nat.le_refl _, Nat.le_refl _⟩ ⟨h1, mc + 1, z :: t, (fun y hy => h2 y (List.mem_cons_of_mem _ hy)), g_up_at, Nat.succ.inj h4, h5.2, fun k x b hx hb => ?_⟩
    have hcx := h6 (k + 1) x b hx hb
    have hxl : x ≠ ll := g_apart hcx h3 (by intro e; cases e)
    have hxy : x ≠ y := fun e => h5.1 (by rw [← e]; exact List.mem_of_getElem? hx)
    match k, hx, hb, hcx with
    | 0, hx, hb, hcx =>
      cases hx
      rw [has] at hb
      cases hb
      exact g_up_of hzl g_up_at
    | k + 1, hx, hb, hcx =>
      have hxz : x ≠ z := fun e => by
        subst e
        have h9 := (List.nodup_cons.mp h5.2).1
        exact h9 (List.mem_of_getElem? (show t[k]? = some x from hx))
      exact g_up_of hxl (g_up_of hxz (g_up_of hxl (g_up_of hxy hcx)))
theorem ll_removeFirst {n ll a : Nat} {as : List Nat} (h : LlAt n G ll (a :: as)) (hB : g_B E ≤ n) (kk : ∀ G', g_mod (noLL G) G G' 0 0 → LlAt n G' ll as → P (.returned (some (.ref a))) G') : g_Spc l E mJ4_removeFirst 1 [.ref ll] G P := by
  obtain ⟨h1, mc, ns, h2, h3, h4⟩ := h
  cases ns with
  | nil => have := h4.1; cases this
  | cons y t =>
    have h3' : G.1 ll = some (g_ob 20 [.int mc, .int (nI (a :: as).length), .ref y, va_rf (y :: t)[(y :: t).length - 1]?]) := h3
    refine V_intro (plainFor_of_name plJ4) (Nat.le_of_ble_eq_true rfl) ?_
    refine V_aload_n dJ4_removeFirst_0 rfl (Or.inl ⟨_, rfl⟩) ?_
    refine V_get ckJ4 h3' 2 (by decide) q276 rfl (by rfl) dJ4_removeFirst_1 ?_
    refine V_astore_n dJ4_removeFirst_4 (Or.inl ⟨_, rfl⟩) (by decide) ?_
    refine V_aload_n dJ4_removeFirst_5 rfl (Or.inl ⟨_, rfl⟩) ?_
    refine V_ifnonnull 17 dJ4_removeFirst_6 (by decide) ?_
    refine V_aload_n dJ4_removeFirst_17 rfl (Or.inl ⟨_, rfl⟩) ?_
    refine V_aload_n dJ4_removeFirst_18 rfl (Or.inl ⟨_, rfl⟩) ?_
    refine V_callV (q := (RJ4, TJ4, 4)) kJ4_unlinkFirst q1532 q1534 qs20 h3' rfl dJ4_removeFirst_19 ?_ (d' := 0) (as := [_]) (hst := rfl)
    refine (ll_unlinkFirst h1 h2 h3' h4 hB (fun G' m h' => ?_))
    refine V_areturnO dJ4_removeFirst_22 rfl ?_
    exact kk G' m h'
theorem ll_unlinkLast {n ll y a : Nat} {as ns : List Nat} {mc : Int32} (h1 : n ≤ ll) (h2 : ∀ z ∈ ns ++ [y], n ≤ z) (h3 : G.1 ll = some (g_ob 20 [.int mc, .int (nI (as.length + 1)), va_rf (ns ++ [y])[0]?, .ref y])) (h4 : LlN G (ns ++ [y]) (as ++ [a])) (hB : g_B E ≤ n) (kk : ∀ G', g_mod (noLL G) G G' 0 0 → LlAt n G' ll as → P (.returned (some (.ref a))) G') : g_Spc l E mJ4_unlinkLast 0 [.ref ll, .ref y] G P := by
  obtain ⟨h4, h5, h6⟩ := h4
  have h4 : ns.length = as.length := by
    rw [List.length_append, List.length_append] at h4
    exact Nat.succ.inj h4
  have hBl : g_B E ≤ ll := Nat.le_trans hB h1
  have hBy : g_B E ≤ y := Nat.le_trans hB (h2 y (List.mem_append_right _ List.mem_cons_self))
  have hgy : (ns ++ [y])[ns.length]? = some y := by rw [List.getElem?_append_right (Nat.le_refl _), Nat.sub_self]; rfl
  have hga : (as ++ [a])[ns.length]? = some a := by rw [h4, List.getElem?_append_right (Nat.le_refl _), Nat.sub_self]; rfl
  have hc0 := h6 _ _ _ hgy hga
  have hnx : (ns ++ [y])[ns.length + 1]? = none := List.getElem?_eq_none (by rw [List.length_append]; exact Nat.le_refl _)
  rw [hnx] at hc0
  have hyl : y ≠ ll := g_apart hc0 h3 (by intro e; cases e)
  have esz : nI (as.length + 1) - 1 = nI as.length := nI_pred _
  have hnd := List.nodup_append.mp h5
  have hyn : y ∉ ns := fun h => hnd.2.2 y h y List.mem_cons_self rfl
  refine V_intro (plainFor_of_name plJ4) (Nat.le_of_ble_eq_true rfl) ?_
  by_cases hns : ns = []
  · subst hns
    have has : as = [] := List.eq_nil_of_length_eq_zero h4.symm
    subst has
    have hc : G.1 y = some (g_ob 23 [.ref a, .null, .null]) := hc0
    have h3 : G.1 ll = some (g_ob 20 [.int mc, .int (nI 1), .ref y, .ref y]) := h3
    refine V_aload_n dJ4_unlinkLast_0 rfl (Or.inl ⟨_, rfl⟩) ?_
    refine V_get ckJ22 (by first | assumption | (repeat (first | exact g_up_at | exact g_new_at rfl | assumption | refine g_up_of (by first | assumption | (simp only [g_new, g_up]; omega) | omega) ?_ | refine g_new_of (by first | assumption | (simp only [g_new, g_up]; omega) | omega) ?_))) 0 (by decide) q924 rfl (by rfl) dJ4_unlinkLast_1 ?_
    refine V_astore_n dJ4_unlinkLast_4 (Or.inl ⟨_, rfl⟩) (by decide) ?_
    refine V_aload_n dJ4_unlinkLast_5 rfl (Or.inl ⟨_, rfl⟩) ?_
    refine V_get ckJ22 (by first | assumption | (repeat (first | exact g_up_at | exact g_new_at rfl | assumption | refine g_up_of (by first | assumption | (simp only [g_new, g_up]; omega) | omega) ?_ | refine g_new_of (by first | assumption | (simp only [g_new, g_up]; omega) | omega) ?_))) 2 (by decide) q928 rfl (by rfl) dJ4_unlinkLast_6 ?_
    refine V_astore_n dJ4_unlinkLast_9 g_nv (by decide) ?_
    refine V_aload_n dJ4_unlinkLast_10 rfl (Or.inl ⟨_, rfl⟩) ?_
    refine V_null dJ4_unlinkLast_11 ?_
    refine V_put ckJ22 (by first | assumption | (repeat (first | exact g_up_at | exact g_new_at rfl | assumption | refine g_up_of (by first | assumption | (simp only [g_new, g_up]; omega) | omega) ?_ | refine g_new_of (by first | assumption | (simp only [g_new, g_up]; omega) | omega) ?_))) (by first | assumption | omega | (simp only [g_new, g_up]; omega) | (simp only [g_new, g_up, g_B] at *; omega)) 0 (by decide) q924 rfl rfl rfl rfl (Nat.le_of_ble_eq_true rfl) dJ4_unlinkLast_12 ?_
    refine V_aload_n dJ4_unlinkLast_15 rfl (Or.inl ⟨_, rfl⟩) ?_
    refine V_null dJ4_unlinkLast_16 ?_
    refine V_put ckJ22 g_up_at (by first | assumption | omega | (simp only [g_new, g_up]; omega) | (simp only [g_new, g_up, g_B] at *; omega)) 2 (by decide) q928 rfl rfl rfl rfl (Nat.le_of_ble_eq_true rfl) dJ4_unlinkLast_17 ?_
    rw [g_up_up]
    refine V_aload_n dJ4_unlinkLast_20 rfl (Or.inl ⟨_, rfl⟩) ?_
    refine V_aload_n dJ4_unlinkLast_21 rfl g_nv ?_
    refine V_put ckJ4 (g_up_of hyl.symm h3) (by first | assumption | omega | (simp only [g_new, g_up]; omega) | (simp only [g_new, g_up, g_B] at *; omega)) 3 (by decide) q277 rfl rfl rfl rfl (Nat.le_of_ble_eq_true rfl) dJ4_unlinkLast_22 ?_
    refine V_aload_n dJ4_unlinkLast_25 rfl g_nv ?_
    refine V_ifnonnullN dJ4_unlinkLast_26 ?_
    refine V_aload_n dJ4_unlinkLast_29 rfl (Or.inl ⟨_, rfl⟩) ?_
    refine V_null dJ4_unlinkLast_30 ?_
    refine V_put ckJ4 g_up_at (by first | assumption | omega | (simp only [g_new, g_up]; omega) | (simp only [g_new, g_up, g_B] at *; omega)) 2 (by decide) q276 rfl rfl rfl rfl (Nat.le_of_ble_eq_true rfl) dJ4_unlinkLast_31 ?_
    refine V_goto 42 dJ4_unlinkLast_34 (by decide) ?_
    rw [g_up_up]
    refine V_aload_n dJ4_unlinkLast_42 rfl (Or.inl ⟨_, rfl⟩) ?_
    refine V_dup dJ4_unlinkLast_43 rfl ?_
    refine V_get ckJ4 g_up_at 1 (by decide) q275 rfl (by rfl) dJ4_unlinkLast_44 ?_
    refine V_iconstv 1 dJ4_unlinkLast_47 (by decide) ?_
    refine V_isub dJ4_unlinkLast_48 ?_
    refine V_put ckJ4 g_up_at (by first | assumption | omega | (simp only [g_new, g_up]; omega) | (simp only [g_new, g_up, g_B] at *; omega)) 1 (by decide) q275 rfl rfl rfl rfl (Nat.le_of_ble_eq_true rfl) dJ4_unlinkLast_49 ?_
    rw [g_up_up]
    refine V_aload_n dJ4_unlinkLast_52 rfl (Or.inl ⟨_, rfl⟩) ?_
    refine V_dup dJ4_unlinkLast_53 rfl ?_
    refine V_getI ckJ4 g_up_at 0 (by decide) q212 q213 (by rfl) dJ4_unlinkLast_54 ?_
    refine V_iconstv 1 dJ4_unlinkLast_57 (by decide) ?_
    refine V_iadd dJ4_unlinkLast_58 ?_
    refine V_putI ckJ4 g_up_at (by first | assumption | omega | (simp only [g_new, g_up]; omega) | (simp only [g_new, g_up, g_B] at *; omega)) 0 (by decide) q212 q213 rfl rfl rfl (Nat.le_of_ble_eq_true rfl) dJ4_unlinkLast_59 ?_
    refine V_aload_n dJ4_unlinkLast_62 rfl (Or.inl ⟨_, rfl⟩) ?_
    refine V_areturnO dJ4_unlinkLast_63 rfl ?_
    rw [g_up_up]
    exact kk _ ⟨fun q x hq hx => g_up_of (hq.of hx (Or.inl h3)) (g_up_of (hq.of hx (Or.inr hc)) hx), Nat.le_refl _, Nat.le_refl _, Nat.le_refl _, Nat.le_refl _⟩ ⟨h1, mc + 1, [], (fun y hy => by cases hy), g_up_at, rfl, List.nodup_nil, fun k y a hy => by cases hy⟩
  · have hpos : 0 < ns.length := List.length_pos_iff.mpr hns
    obtain ⟨j, hj⟩ : ∃ j, ns.length = j + 1 := ⟨ns.length - 1, by omega⟩
    obtain ⟨z, hz, -⟩ := drop_at (show j < ns.length by omega)
    obtain ⟨az, haz, -⟩ := drop_at (show j < as.length by omega)
    have epv : pv (ns ++ [y]) ns.length = some z := by
      rw [hj]
      show (ns ++ [y])[j]? = some z
      rw [List.getElem?_append_left (by omega)]
      exact hz
    rw [epv] at hc0
    have hcz := h6 j z az (by rw [List.getElem?_append_left (by omega)]; exact hz) (by rw [List.getElem?_append_left (by omega)]; exact haz)
    have hzl : z ≠ ll := g_apart hcz h3 (by intro e; cases e)
    have hzy : z ≠ y := fun e => hyn (by rw [← e]; exact List.mem_of_getElem? hz)
    have hBz : g_B E ≤ z := Nat.le_trans hB (h2 z (List.mem_append_left _ (List.mem_of_getElem? hz)))
    refine V_aload_n dJ4_unlinkLast_0 rfl (Or.inl ⟨_, rfl⟩) ?_
    refine V_get ckJ22 (by first | assumption | (repeat (first | exact g_up_at | exact g_new_at rfl | assumption | refine g_up_of (by first | assumption | (simp only [g_new, g_up]; omega) | omega) ?_ | refine g_new_of (by first | assumption | (simp only [g_new, g_up]; omega) | omega) ?_))) 0 (by decide) q924 rfl (by rfl) dJ4_unlinkLast_1 ?_
    refine V_astore_n dJ4_unlinkLast_4 (Or.inl ⟨_, rfl⟩) (by decide) ?_
    refine V_aload_n dJ4_unlinkLast_5 rfl (Or.inl ⟨_, rfl⟩) ?_
    refine V_get ckJ22 (by first | assumption | (repeat (first | exact g_up_at | exact g_new_at rfl | assumption | refine g_up_of (by first | assumption | (simp only [g_new, g_up]; omega) | omega) ?_ | refine g_new_of (by first | assumption | (simp only [g_new, g_up]; omega) | omega) ?_))) 2 (by decide) q928 rfl (by rfl) dJ4_unlinkLast_6 ?_
    refine V_astore_n dJ4_unlinkLast_9 (Or.inl ⟨_, rfl⟩) (by decide) ?_
    refine V_aload_n dJ4_unlinkLast_10 rfl (Or.inl ⟨_, rfl⟩) ?_
    refine V_null dJ4_unlinkLast_11 ?_
    refine V_put ckJ22 (by first | assumption | (repeat (first | exact g_up_at | exact g_new_at rfl | assumption | refine g_up_of (by first | assumption | (simp only [g_new, g_up]; omega) | omega) ?_ | refine g_new_of (by first | assumption | (simp only [g_new, g_up]; omega) | omega) ?_))) (by first | assumption | omega | (simp only [g_new, g_up]; omega) | (simp only [g_new, g_up, g_B] at *; omega)) 0 (by decide) q924 rfl rfl rfl rfl (Nat.le_of_ble_eq_true rfl) dJ4_unlinkLast_12 ?_
    refine V_aload_n dJ4_unlinkLast_15 rfl (Or.inl ⟨_, rfl⟩) ?_
    refine V_null dJ4_unlinkLast_16 ?_
    refine V_put ckJ22 g_up_at (by first | assumption | omega | (simp only [g_new, g_up]; omega) | (simp only [g_new, g_up, g_B] at *; omega)) 2 (by decide) q928 rfl rfl rfl rfl (Nat.le_of_ble_eq_true rfl) dJ4_unlinkLast_17 ?_
    rw [g_up_up]
    refine V_aload_n dJ4_unlinkLast_20 rfl (Or.inl ⟨_, rfl⟩) ?_
    refine V_aload_n dJ4_unlinkLast_21 rfl (Or.inl ⟨_, rfl⟩) ?_
    refine V_put ckJ4 (g_up_of hyl.symm h3) (by first | assumption | omega | (simp only [g_new, g_up]; omega) | (simp only [g_new, g_up, g_B] at *; omega)) 3 (by decide) q277 rfl rfl rfl rfl (Nat.le_of_ble_eq_true rfl) dJ4_unlinkLast_22 ?_
    refine V_aload_n dJ4_unlinkLast_25 rfl (Or.inl ⟨_, rfl⟩) ?_
    refine V_ifnonnull 37 dJ4_unlinkLast_26 (by decide) ?_
    refine V_aload_n dJ4_unlinkLast_37 rfl (Or.inl ⟨_, rfl⟩) ?_
    refine V_null dJ4_unlinkLast_38 ?_
    refine V_put ckJ22 (g_up_of hzl (g_up_of hzy hcz)) (by first | assumption | omega | (simp only [g_new, g_up]; omega) | (simp only [g_new, g_up, g_B] at *; omega)) 1 (by decide) q926 rfl rfl rfl rfl (Nat.le_of_ble_eq_true rfl) dJ4_unlinkLast_39 ?_
    refine V_aload_n dJ4_unlinkLast_42 rfl (Or.inl ⟨_, rfl⟩) ?_
    refine V_dup dJ4_unlinkLast_43 rfl ?_
    refine V_get ckJ4 (g_up_of hzl.symm g_up_at) 1 (by decide) q275 rfl (by rfl) dJ4_unlinkLast_44 ?_
    refine V_iconstv 1 dJ4_unlinkLast_47 (by decide) ?_
    refine V_isub dJ4_unlinkLast_48 ?_
    refine V_put ckJ4 (g_up_of hzl.symm g_up_at) (by first | assumption | omega | (simp only [g_new, g_up]; omega) | (simp only [g_new, g_up, g_B] at *; omega)) 1 (by decide) q275 rfl rfl rfl rfl (Nat.le_of_ble_eq_true rfl) dJ4_unlinkLast_49 ?_
    rw [esz]
    refine V_aload_n dJ4_unlinkLast_52 rfl (Or.inl ⟨_, rfl⟩) ?_
    refine V_dup dJ4_unlinkLast_53 rfl ?_
    refine V_getI ckJ4 g_up_at 0 (by decide) q212 q213 (by rfl) dJ4_unlinkLast_54 ?_
    refine V_iconstv 1 dJ4_unlinkLast_57 (by decide) ?_
    refine V_iadd dJ4_unlinkLast_58 ?_
    refine V_putI ckJ4 g_up_at (by first | assumption | omega | (simp only [g_new, g_up]; omega) | (simp only [g_new, g_up, g_B] at *; omega)) 0 (by decide) q212 q213 rfl rfl rfl (Nat.le_of_ble_eq_true rfl) dJ4_unlinkLast_59 ?_
    refine V_aload_n dJ4_unlinkLast_62 rfl (Or.inl ⟨_, rfl⟩) ?_
    refine V_areturnO dJ4_unlinkLast_63 rfl ?_
    rw [g_up_up]
    refine kk _ ⟨fun q x hq hx => g_up_of (hq.of hx (Or.inl h3)) (g_up_of (hq.of hx (Or.inr hcz)) (g_up_of (hq.of hx (Or.inl h3)) (g_up_of (hq.of hx (Or.inr hc0)) hx))), Nat.le_refl _, Nat.le_refl _, Nat.le_refl _, Nat.le_refl _⟩ ⟨h1, mc + 1, ns, (fun y hy => h2 y (List.mem_append_left _ hy)), ?_, h4, hnd.1, fun k x b hx hb => ?_⟩
    · rw [g_up_self, show ns.length - 1 = j from by omega, hz, List.getElem?_append_left hpos]
      rfl
    · have hkl := (List.getElem?_eq_some_iff.mp hx).1
      have hcx := h6 k x b (by rw [List.getElem?_append_left hkl]; exact hx) (by rw [List.getElem?_append_left (by omega)]; exact hb)
      have hxl : x ≠ ll := g_apart hcx h3 (by intro e; cases e)
      have hxy : x ≠ y := fun e => hyn (by rw [← e]; exact List.mem_of_getElem? hx)
      have ep : pv (ns ++ [y]) k = pv ns k := by
        cases k with
        | zero => rfl
        | succ k => exact List.getElem?_append_left (by omega)
      rw [ep] at hcx
      by_cases ek : k = j
      · subst ek
        rw [hz] at hx
        cases hx
        rw [haz] at hb
        cases hb
        rw [List.getElem?_eq_none (l := ns) (by omega)]
        rw [ep] at hcz
        exact (g_up_of hzl g_up_at).trans (by rw [ep]; rfl)
      · have hxz : x ≠ z := fun e => by
          subst e
          exact ek ((List.getElem?_inj hkl hnd.1).mp (by rw [hx, hz]))
        rw [List.getElem?_append_left (by omega)] at hcx
        exact g_up_of hxl (g_up_of hxz (g_up_of hxl (g_up_of hxy hcx)))
theorem ll_removeLast {n ll a : Nat} {as : List Nat} (h : LlAt n G ll (as ++ [a])) (hB : g_B E ≤ n) (kk : ∀ G', g_mod (noLL G) G G' 0 0 → LlAt n G' ll as → P (.returned (some (.ref a))) G') : g_Spc l E mJ4_removeLast 1 [.ref ll] G P := by
  obtain ⟨h1, mc, ns, h2, h3, h4⟩ := h
  have hlen : ns.length = as.length + 1 := by rw [h4.1, List.length_append]; rfl
  have hne : ns ≠ [] := fun e => by rw [e] at hlen; cases hlen
  obtain ⟨t, y, rfl⟩ : ∃ t y, ns = t ++ [y] := ⟨ns.dropLast, ns.getLast hne, (List.dropLast_concat_getLast hne).symm⟩
  have h3' : G.1 ll = some (g_ob 20 [.int mc, .int (nI (as.length + 1)), va_rf (t ++ [y])[0]?, .ref y]) := by
    rw [h3, List.length_append, List.length_append, show t.length + [y].length - 1 = t.length from by simp only [List.length_singleton]; omega, List.getElem?_append_right (Nat.le_refl _), Nat.sub_self]
    rfl
  refine V_intro (plainFor_of_name plJ4) (Nat.le_of_ble_eq_true rfl) ?_
  refine V_aload_n dJ4_removeLast_0 rfl (Or.inl ⟨_, rfl⟩) ?_
  refine V_get ckJ4 h3' 3 (by decide) q277 rfl (by rfl) dJ4_removeLast_1 ?_
  refine V_astore_n dJ4_removeLast_4 (Or.inl ⟨_, rfl⟩) (by decide) ?_
  refine V_aload_n dJ4_removeLast_5 rfl (Or.inl ⟨_, rfl⟩) ?_
  refine V_ifnonnull 17 dJ4_removeLast_6 (by decide) ?_
  refine V_aload_n dJ4_removeLast_17 rfl (Or.inl ⟨_, rfl⟩) ?_
  refine V_aload_n dJ4_removeLast_18 rfl (Or.inl ⟨_, rfl⟩) ?_
  refine V_callV (q := (RJ4, TJ4, 4)) kJ4_unlinkLast q2673 q2675 qs46 h3' rfl dJ4_removeLast_19 ?_ (d' := 0) (as := [_]) (hst := rfl)
  refine (ll_unlinkLast h1 h2 h3' h4 hB (fun G' m h' => ?_))
  refine V_areturnO dJ4_removeLast_22 rfl ?_
  exact kk G' m h'
theorem ll_clear {n ll : Nat} {as : List Nat} (h : LlAt n G ll as) (hB : g_B E ≤ n) (kk : ∀ G', g_mod (noLL G) G G' 0 0 → LlAt n G' ll [] → P (.returned none) G') : g_Spc l E mJ4_clear 0 [.ref ll] G P := by
  obtain ⟨h1, mc, ns, h2, h3, h4, h5, h6⟩ := h
  have hBl : g_B E ≤ ll := Nat.le_trans hB h1
  refine V_intro (plainFor_of_name plJ4) (Nat.le_of_ble_eq_true rfl) ?_
  have loop : ∀ i, i ≤ ns.length → ∀ G1 : g_G, g_mod (noLL G) G G1 0 0 → G1.1 ll = G.1 ll → (∀ k y a, i ≤ k → ns[k]? = some y → as[k]? = some a → G1.1 y = some (g_ob 23 [.ref a, va_rf ns[k + 1]?, va_rf (pv ns k)])) → V l E mJ4_clear 0 P 5 [(0, .ref ll), (1, va_rf ns[i]?)] [] G1 := by
    refine down _ ?_ ?_
    · intro G1 m e1 e2
      rw [h3] at e1
      rw [List.getElem?_eq_none (Nat.le_refl _)]
      refine V_aload_n dJ4_clear_5 rfl g_nv ?_
      refine V_ifnullN 34 dJ4_clear_6 (by decide) ?_
      refine V_aload_n dJ4_clear_34 rfl (Or.inl ⟨_, rfl⟩) ?_
      refine V_aload_n dJ4_clear_35 rfl (Or.inl ⟨_, rfl⟩) ?_
      refine V_null dJ4_clear_36 ?_
      refine V_dup_x1 dJ4_clear_37 rfl rfl ?_
      refine V_put ckJ4 (by first | assumption | (repeat (first | exact g_up_at | exact g_new_at rfl | assumption | refine g_up_of (by first | assumption | (simp only [g_new, g_up]; omega) | omega) ?_ | refine g_new_of (by first | assumption | (simp only [g_new, g_up]; omega) | omega) ?_))) (by first | assumption | omega | (simp only [g_new, g_up]; omega) | (simp only [g_new, g_up, g_B] at *; omega)) 3 (by decide) q277 rfl rfl rfl rfl (Nat.le_of_ble_eq_true rfl) dJ4_clear_38 ?_
      refine V_put ckJ4 g_up_at (by first | assumption | omega | (simp only [g_new, g_up]; omega) | (simp only [g_new, g_up, g_B] at *; omega)) 2 (by decide) q276 rfl rfl rfl rfl (Nat.le_of_ble_eq_true rfl) dJ4_clear_41 ?_
      rw [g_up_up]
      refine V_aload_n dJ4_clear_44 rfl (Or.inl ⟨_, rfl⟩) ?_
      refine V_iconstv 0 dJ4_clear_45 (by decide) ?_
      refine V_put ckJ4 g_up_at (by first | assumption | omega | (simp only [g_new, g_up]; omega) | (simp only [g_new, g_up, g_B] at *; omega)) 1 (by decide) q275 rfl rfl rfl rfl (Nat.le_of_ble_eq_true rfl) dJ4_clear_46 ?_
      rw [g_up_up]
      refine V_aload_n dJ4_clear_49 rfl (Or.inl ⟨_, rfl⟩) ?_
      refine V_dup dJ4_clear_50 rfl ?_
      refine V_getI ckJ4 (by first | assumption | (repeat (first | exact g_up_at | exact g_new_at rfl | assumption | refine g_up_of (by first | assumption | (simp only [g_new, g_up]; omega) | omega) ?_ | refine g_new_of (by first | assumption | (simp only [g_new, g_up]; omega) | omega) ?_))) 0 (by decide) q212 q213 (by rfl) dJ4_clear_51 ?_
      refine V_iconstv 1 dJ4_clear_54 (by decide) ?_
      refine V_iadd dJ4_clear_55 ?_
      refine V_putI ckJ4 (by first | assumption | (repeat (first | exact g_up_at | exact g_new_at rfl | assumption | refine g_up_of (by first | assumption | (simp only [g_new, g_up]; omega) | omega) ?_ | refine g_new_of (by first | assumption | (simp only [g_new, g_up]; omega) | omega) ?_))) (by first | assumption | omega | (simp only [g_new, g_up]; omega) | (simp only [g_new, g_up, g_B] at *; omega)) 0 (by decide) q212 q213 rfl rfl rfl (Nat.le_of_ble_eq_true rfl) dJ4_clear_56 ?_
      refine V_return dJ4_clear_59 rfl ?_
      rw [g_up_up]
      obtain ⟨m1, m2, m3, m4, m5⟩ := m
      exact kk _ ⟨fun q x hq hx => g_up_of (hq.of hx (Or.inl h3)) (m1 q x hq hx), m2, m3, m4, m5⟩ ⟨h1, mc + 1, [], (fun y hy => by cases hy), g_up_at, rfl, List.nodup_nil, fun k y a hy => by cases hy⟩
    · intro i hi ih G1 m e1 e2
      obtain ⟨y, hy, -⟩ := drop_at hi
      obtain ⟨a, ha, -⟩ := drop_at (show i < as.length by omega)
      have hc := e2 i y a (Nat.le_refl _) hy ha
      have hc0 := h6 i y a hy ha
      have hyl : y ≠ ll := g_apart hc0 h3 (by intro e; cases e)
      have hBy : g_B E ≤ y := Nat.le_trans hB (h2 y (List.mem_of_getElem? hy))
      rw [hy]
      have hv : V l E mJ4_clear 0 P 5 [(0, .ref ll), (1, va_rf ns[i + 1]?)] [] (g_up G1 y (g_ob 23 [.null, .null, .null])) := ih _ (by
        obtain ⟨m1, m2, m3, m4, m5⟩ := m
        exact ⟨fun q x hq hx => g_up_of (hq.of hx (Or.inr hc0)) (m1 q x hq hx), m2, m3, m4, m5⟩) (by rw [g_up_ne _ _ hyl.symm]; exact e1) (fun k z b hk hz hb => by
        have hzy : z ≠ y := fun e => by
          subst e
          have hkl := (List.getElem?_eq_some_iff.mp hz).1
          have e9 : ns[k]? = ns[i]? := by rw [hz, hy]
          have := (List.getElem?_inj hkl h5).mp e9
          omega
        exact g_up_of hzy (e2 k z b (by omega) hz hb))
      generalize hnx : ns[i + 1]? = nx at hc hv
      refine V_aload_n dJ4_clear_5 rfl (Or.inl ⟨_, rfl⟩) ?_
      refine V_ifnull dJ4_clear_6 ?_
      refine V_aload_n dJ4_clear_9 rfl (Or.inl ⟨_, rfl⟩) ?_
      refine V_get ckJ22 (by first | assumption | (repeat (first | exact g_up_at | exact g_new_at rfl | assumption | refine g_up_of (by first | assumption | (simp only [g_new, g_up]; omega) | omega) ?_ | refine g_new_of (by first | assumption | (simp only [g_new, g_up]; omega) | omega) ?_))) 1 (by decide) q926 rfl (by rfl) dJ4_clear_10 ?_
      refine V_astore_n dJ4_clear_13 (g_rfv _) (by decide) ?_
      refine V_aload_n dJ4_clear_14 rfl (Or.inl ⟨_, rfl⟩) ?_
      refine V_null dJ4_clear_15 ?_
      refine V_put ckJ22 (by first | assumption | (repeat (first | exact g_up_at | exact g_new_at rfl | assumption | refine g_up_of (by first | assumption | (simp only [g_new, g_up]; omega) | omega) ?_ | refine g_new_of (by first | assumption | (simp only [g_new, g_up]; omega) | omega) ?_))) (by first | assumption | omega | (simp only [g_new, g_up]; omega) | (simp only [g_new, g_up, g_B] at *; omega)) 0 (by decide) q924 rfl rfl rfl rfl (Nat.le_of_ble_eq_true rfl) dJ4_clear_16 ?_
      refine V_aload_n dJ4_clear_19 rfl (Or.inl ⟨_, rfl⟩) ?_
      refine V_null dJ4_clear_20 ?_
      refine V_put ckJ22 g_up_at (by first | assumption | omega | (simp only [g_new, g_up]; omega) | (simp only [g_new, g_up, g_B] at *; omega)) 1 (by decide) q926 rfl rfl rfl rfl (Nat.le_of_ble_eq_true rfl) dJ4_clear_21 ?_
      rw [g_up_up]
      refine V_aload_n dJ4_clear_24 rfl (Or.inl ⟨_, rfl⟩) ?_
      refine V_null dJ4_clear_25 ?_
      refine V_put ckJ22 g_up_at (by first | assumption | omega | (simp only [g_new, g_up]; omega) | (simp only [g_new, g_up, g_B] at *; omega)) 2 (by decide) q928 rfl rfl rfl rfl (Nat.le_of_ble_eq_true rfl) dJ4_clear_26 ?_
      rw [g_up_up]
      refine V_aload_n dJ4_clear_29 rfl (g_rfv _) ?_
      refine V_astore_n dJ4_clear_30 (g_rfv _) (by decide) ?_
      refine V_goto 5 dJ4_clear_31 (by decide) ?_
      exact V_subk hv ⟨rfl, (by cases nx <;> rfl), trivial⟩
  refine V_aload_n dJ4_clear_0 rfl (Or.inl ⟨_, rfl⟩) ?_
  refine V_get ckJ4 (by first | assumption | (repeat (first | exact g_up_at | exact g_new_at rfl | assumption | refine g_up_of (by first | assumption | (simp only [g_new, g_up]; omega) | omega) ?_ | refine g_new_of (by first | assumption | (simp only [g_new, g_up]; omega) | omega) ?_))) 2 (by decide) q276 rfl (by rfl) dJ4_clear_1 ?_
  refine V_astore_n dJ4_clear_4 (g_rfv _) (by decide) ?_
  refine V_subk (loop 0 (Nat.zero_le _) G ⟨g_ke.refl, Nat.le_refl _, Nat.le_refl _, Nat.le_refl _, Nat.le_refl _⟩ rfl (fun k y a _ hy ha => h6 k y a hy ha)) ⟨rfl, (by cases ns[0]? <;> rfl), trivial⟩
end LINKED
