/-! MODULE Tree, Node -/
set_option maxRecDepth 100000
/-- a found colour with its address -/
abbrev FD : Type := Nat × Rw
def lfB (a : Nat) (c : Rw) (t : Tn) : Bool := decide (tn_at t a ≤ tn_at c.2.1 a)
/-- the colours that are laid to the left of c, to its right -/
def lfL (a : Nat) (c : FD) (r : List FD) : List FD := r.filter (fun x => lfB a c.2 x.2.2.1)
def rgL (a : Nat) (c : FD) (r : List FD) : List FD := r.filter (fun x => !lfB a c.2 x.2.2.1)
/-- the tree of a list, from axis a on -/
def NdAt (tr : Nat) (A : Nat → Prop) (G : g_G) : Nat → Option Nat → Nat → List FD → Prop
  | _, x, _, [] => x = none
  | 0, _, _, _ :: _ => False
  | f + 1, x, a, c :: r => ∃ p y z, x = some p ∧ A p ∧ a < 3 ∧ G.1 p = some (g_ob 12 [.ref c.1, .int (nI a), va_rf y, va_rf z, .ref tr]) ∧ NdAt tr A G f y ((a + 1) % 3) (lfL a c r) ∧ NdAt tr A G f z ((a + 1) % 3) (rgL a c r)
theorem NdAt_nil {tr : Nat} {A : Nat → Prop} {G : g_G} {f a : Nat} {x : Option Nat} : NdAt tr A G f x a [] ↔ x = none := by cases f <;> exact Iff.rfl
theorem lfL_sub {a : Nat} {c x : FD} {r : List FD} (h : x ∈ lfL a c r) : x ∈ r := (List.mem_filter.mp h).1
theorem rgL_sub {a : Nat} {c x : FD} {r : List FD} (h : x ∈ rgL a c r) : x ∈ r := (List.mem_filter.mp h).1
/-- z is no node of the founds of M -/
def NoNd (A : Nat → Prop) (G : g_G) (M : List FD) (z : Nat) : Prop := ¬ A z ∨ ∀ b ∈ M, ∀ vs, G.1 z ≠ some (g_ob 12 (.ref b.1 :: vs))
theorem NdAt.ke {tr : Nat} {A B : Nat → Prop} {G G' : g_G} (hk : g_ke B G G') : ∀ (f : Nat) (M : List FD) (a : Nat) (x : Option Nat), (∀ b ∈ M, ∀ z vs, G.1 z = some (g_ob 12 (.ref b.1 :: vs)) → B z) → NdAt tr A G f x a M → NdAt tr A G' f x a M
  | _, [], _, _, _, h => NdAt_nil.mpr (NdAt_nil.mp h)
  | 0, _ :: _, _, _, _, h => h
  | f + 1, c :: r, a, x, hb, h => by
    obtain ⟨p, y, z, h1, h2, h3, h4, h5, h6⟩ := h
    exact ⟨p, y, z, h1, h2, h3, hk _ _ (hb c List.mem_cons_self _ _ h4) h4, NdAt.ke hk f _ _ _ (fun b hm => hb b (List.mem_cons_of_mem _ (lfL_sub hm))) h5, NdAt.ke hk f _ _ _ (fun b hm => hb b (List.mem_cons_of_mem _ (rgL_sub hm))) h6⟩
theorem NdAt.up {tr : Nat} {A : Nat → Prop} {G : g_G} : ∀ (f : Nat) (M : List FD) (a : Nat) (x : Option Nat), NdAt tr A G f x a M → NdAt tr A G (f + 1) x a M
  | _, [], _, _, h => NdAt_nil.mpr (NdAt_nil.mp h)
  | 0, _ :: _, _, _, h => h.elim
  | f + 1, c :: r, a, x, h => by
    obtain ⟨p, y, z, h1, h2, h3, h4, h5, h6⟩ := h
    exact ⟨p, y, z, h1, h2, h3, h4, NdAt.up f _ _ _ h5, NdAt.up f _ _ _ h6⟩
theorem NdAt_mod {a : Nat} (h : a < 3) : nI a + 1 - (nI a + 1) / 3 * 3 = nI ((a + 1) % 3) := by
  have e : ∀ a, a < 3 → nI a + 1 - (nI a + 1) / 3 * 3 = nI ((a + 1) % 3) := by decide +kernel
  exact e a h
theorem nodup_inj {M : List FD} (h : (M.map (·.1)).Nodup) {x y : FD} (hx : x ∈ M) (hy : y ∈ M) (e : x.1 = y.1) : x = y := by
  induction M with
  | nil => cases hx
  | cons m t ih =>
    rw [List.map_cons, List.nodup_cons] at h
    rcases List.mem_cons.mp hx with ex | hx2
    · rcases List.mem_cons.mp hy with ey | hy2
      · rw [ex, ey]
      · exact absurd (List.mem_map.mpr ⟨y, hy2, by rw [← ex]; exact e.symm⟩) h.1
    · rcases List.mem_cons.mp hy with ey | hy2
      · exact absurd (List.mem_map.mpr ⟨x, hx2, by rw [← ey]; exact e⟩) h.1
      · exact ih h.2 hx2 hy2
theorem lf_rg {a : Nat} {c x : FD} {r : List FD} (h : x ∈ lfL a c r) (g : x ∈ rgL a c r) : False := by
  have h1 := (List.mem_filter.mp h).2
  have h2 := (List.mem_filter.mp g).2
  rw [h1] at h2
  cases h2
section TREE
variable {l : Launch} {E : g_E} {P : Outcome → g_G → Prop} {G : g_G}
theorem nd_init {p tr q : Nat} {x : Int32} (h : G.1 p = some (g_ob 12 [.null, .int 0, .null, .null, .null])) (hB : g_B E ≤ p) (k : P (.returned none) (g_up G p (g_ob 12 [.ref q, .int x, .null, .null, .ref tr]))) : g_Spc l E mX14_init 1 [.ref p, .ref tr, .ref q, .int x] G P := by
  refine V_intro (plainFor_of_name plX14) (Nat.le_of_ble_eq_true rfl) ?_
  refine V_aload_n dX14_init_0 rfl (Or.inl ⟨_, rfl⟩) ?_
  refine V_aload_n dX14_init_1 rfl (Or.inl ⟨_, rfl⟩) ?_
  refine V_putF ckX14 (by first | assumption | (repeat (first | exact g_up_at | exact g_new_at rfl | assumption | refine g_up_of (by first | assumption | (simp only [g_new, g_up]; omega) | omega) ?_ | refine g_new_of (by first | assumption | (simp only [g_new, g_up]; omega) | omega) ?_))) (by first | assumption | omega | (simp only [g_new, g_up]; omega) | (simp only [g_new, g_up, g_B] at *; omega)) 4 (by decide) q1283 rfl rfl rfl rfl rfl rfl (Nat.le_of_ble_eq_true rfl) dX14_init_2 ?_
  refine V_aload_n dX14_init_5 rfl (Or.inl ⟨_, rfl⟩) ?_
  refine V_objInit q1277 q170 q171 dX14_init_6 (by decide) (by decide) ?_
  refine V_aload_n dX14_init_9 rfl (Or.inl ⟨_, rfl⟩) ?_
  refine V_aload_n dX14_init_10 rfl (Or.inl ⟨_, rfl⟩) ?_
  refine V_putF ckX14 (by first | assumption | (repeat (first | exact g_up_at | exact g_new_at rfl | assumption | refine g_up_of (by first | assumption | (simp only [g_new, g_up]; omega) | omega) ?_ | refine g_new_of (by first | assumption | (simp only [g_new, g_up]; omega) | omega) ?_))) (by first | assumption | omega | (simp only [g_new, g_up]; omega) | (simp only [g_new, g_up, g_B] at *; omega)) 0 (by decide) q1278 rfl rfl rfl rfl rfl rfl (Nat.le_of_ble_eq_true rfl) dX14_init_11 ?_
  rw [g_up_up]
  refine V_aload_n dX14_init_14 rfl (Or.inl ⟨_, rfl⟩) ?_
  refine V_iload_n dX14_init_15 rfl ?_
  refine V_putF ckX14 (by first | assumption | (repeat (first | exact g_up_at | exact g_new_at rfl | assumption | refine g_up_of (by first | assumption | (simp only [g_new, g_up]; omega) | omega) ?_ | refine g_new_of (by first | assumption | (simp only [g_new, g_up]; omega) | omega) ?_))) (by first | assumption | omega | (simp only [g_new, g_up]; omega) | (simp only [g_new, g_up, g_B] at *; omega)) 1 (by decide) q1280 rfl rfl rfl rfl rfl rfl (Nat.le_of_ble_eq_true rfl) dX14_init_16 ?_
  rw [g_up_up]
  refine V_return dX14_init_19 rfl ?_
  exact k
theorem nd_isLeft {A : Nat → Prop} {n p tr q a ta : Nat} {x y : Value} {c : Rw} {t : Tn} (hp : G.1 p = some (g_ob 12 [.ref q, .int (nI a), x, y, .ref tr])) (hq : FndAt E A n G q c) (ha : a < 3) (ht : TintAt E A G ta t) (k : P (.returned (some (.int (b2i (lfB a c t))))) G) : g_Spc l E mX14_isLeft 1 [.ref p, .ref ta] G P := by
  obtain ⟨-, -, tq, hqc, htq⟩ := hq
  obtain ⟨p1, hp1⟩ := ht.obj
  obtain ⟨p2, hp2⟩ := htq.obj
  refine V_intro (plainFor_of_name plX14) (Nat.le_of_ble_eq_true rfl) ?_
  refine V_aload_n dX14_isLeft_0 rfl (Or.inl ⟨_, rfl⟩) ?_
  refine V_aload_n dX14_isLeft_1 rfl (Or.inl ⟨_, rfl⟩) ?_
  refine V_get ckX14 (by first | assumption | (repeat (first | exact g_up_at | exact g_new_at rfl | assumption | refine g_up_of (by first | assumption | (simp only [g_new, g_up]; omega) | omega) ?_ | refine g_new_of (by first | assumption | (simp only [g_new, g_up]; omega) | omega) ?_))) 1 (by decide) q1280 rfl (by rfl) dX14_isLeft_2 ?_
  refine V_callV (q := (RX11, TX11, 1)) kX11_part q1303 q1103 q1104 (by first | assumption | (repeat (first | exact g_up_at | exact g_new_at rfl | assumption | refine g_up_of (by first | assumption | (simp only [g_new, g_up]; omega) | omega) ?_ | refine g_new_of (by first | assumption | (simp only [g_new, g_up]; omega) | omega) ?_))) rfl dX14_isLeft_5 ?_ (d' := 0) (as := [_]) (hst := rfl)
  refine (tint_part (k := a) ht rfl ha ?_)
  refine V_aload_n dX14_isLeft_8 rfl (Or.inl ⟨_, rfl⟩) ?_
  refine V_get ckX14 (by first | assumption | (repeat (first | exact g_up_at | exact g_new_at rfl | assumption | refine g_up_of (by first | assumption | (simp only [g_new, g_up]; omega) | omega) ?_ | refine g_new_of (by first | assumption | (simp only [g_new, g_up]; omega) | omega) ?_))) 0 (by decide) q1278 rfl (by rfl) dX14_isLeft_9 ?_
  refine V_getN ckX7 (by first | assumption | (repeat (first | exact g_up_at | exact g_new_at rfl | assumption | refine g_up_of (by first | assumption | (simp only [g_new, g_up]; omega) | omega) ?_ | refine g_new_of (by first | assumption | (simp only [g_new, g_up]; omega) | omega) ?_))) 2 (by decide) q507 rfl (by rfl) dX14_isLeft_12 ?_
  refine V_aload_n dX14_isLeft_15 rfl (Or.inl ⟨_, rfl⟩) ?_
  refine V_get ckX14 (by first | assumption | (repeat (first | exact g_up_at | exact g_new_at rfl | assumption | refine g_up_of (by first | assumption | (simp only [g_new, g_up]; omega) | omega) ?_ | refine g_new_of (by first | assumption | (simp only [g_new, g_up]; omega) | omega) ?_))) 1 (by decide) q1280 rfl (by rfl) dX14_isLeft_16 ?_
  refine V_callV (q := (RX11, TX11, 1)) kX11_part q1303 q1103 q1104 (by first | assumption | (repeat (first | exact g_up_at | exact g_new_at rfl | assumption | refine g_up_of (by first | assumption | (simp only [g_new, g_up]; omega) | omega) ?_ | refine g_new_of (by first | assumption | (simp only [g_new, g_up]; omega) | omega) ?_))) rfl dX14_isLeft_19 ?_ (d' := 0) (as := [_]) (hst := rfl)
  refine (tint_part (k := a) htq rfl ha ?_)
  refine V_icmp_gt 29 dX14_isLeft_22 (by decide) (fun c22 => ?_) (fun c22 => ?_)
  · refine V_iconstv 0 dX14_isLeft_29 (by decide) ?_
    refine V_zreturn dX14_isLeft_30 rfl rfl ?_
    rw [show lfB a c t = false from decide_eq_false (Int32.not_le.mpr c22)] at k
    exact k
  · refine V_iconstv 1 dX14_isLeft_25 (by decide) ?_
    refine V_goto 30 dX14_isLeft_26 (by decide) ?_
    refine V_zreturn dX14_isLeft_30 rfl rfl ?_
    rw [show lfB a c t = true from decide_eq_true (Int32.not_lt.mp c22)] at k
    exact k
theorem nd_insert_L {A A1 : Nat → Prop} {n tr q f d1 a p : Nat} {cq : Rw} {r : List FD} {c : FD} (hd1 : 2 ≤ d1) (hlf : lfB a c.2 cq.2.1 = true) (rcr : ∀ (r1 : List FD) (c1 : FD) (a1 p1 : Nat) (P1 : Outcome → g_G → Prop), r1.length < r.length → NdAt tr A G f (some p1) a1 (c1 :: r1) → (∀ x ∈ c1 :: r1, x ∈ r) → ((c1 :: r1).map (·.1)).Nodup → (∀ G', g_mod (NoNd A G (c1 :: r1)) G G' 1 5 → NdAt tr A G' (f + 1) (some p1) a1 (c1 :: (r1 ++ [(q, cq)])) → P1 (.returned none) G') → g_Spc l E mX14_insert d1 [.ref p1, .ref q] G P1)
    (hN : NdAt tr A G (f + 1) (some p) a (c :: r)) (hFs : ∀ x ∈ c :: r, FndAt E A1 n G x.1 x.2) (hF : FndAt E A1 n G q cq) (hnd : ((c :: r).map (·.1)).Nodup) (hAn : ∀ z, A z → g_B E ≤ z) (hA : ∀ z, G.2.1 ≤ z → A z) (hf : g_fit E G 1 5) (kk : ∀ G', g_mod (NoNd A G (c :: r)) G G' 1 5 → NdAt tr A G' (f + 2) (some p) a (c :: (r ++ [(q, cq)])) → P (.returned none) G') : g_Spc l E mX14_insert (d1 + 1) [.ref p, .ref q] G P := by
  obtain ⟨p', y, z, e, hAp, ha, hc, hy, hz⟩ := hN
  cases e
  obtain ⟨hf1, hf2⟩ := hf
  have hFc := hFs c List.mem_cons_self
  have hF0 := hF
  obtain ⟨-, -, tq, hqc, htq⟩ := hF0
  have hm : (a + 1) % 3 < 3 := Nat.mod_lt _ (by decide)
  have hnd2 := List.nodup_cons.mp hnd
  have hB2 : g_B E ≤ p := hAn _ hAp
  have eL : lfL a c (r ++ [(q, cq)]) = lfL a c r ++ [(q, cq)] := by
    unfold lfL
    rw [List.filter_append, List.filter_cons_of_pos (by exact hlf)]
    rfl
  have eR : rgL a c (r ++ [(q, cq)]) = rgL a c r := by
    unfold rgL
    rw [List.filter_append, List.filter_cons_of_neg (by rw [show lfB a c.2 (q, cq).2.2.1 = true from hlf]; decide), List.filter_nil, List.append_nil]
  refine V_intro (plainFor_of_name plX14) (Nat.le_of_ble_eq_true rfl) ?_
  refine V_wf (fun wf hBG => ?_)
  have hpG := wf.ne hc
  refine V_aload_n dX14_insert_0 rfl (Or.inl ⟨_, rfl⟩) ?_
  refine V_aload_n dX14_insert_1 rfl (Or.inl ⟨_, rfl⟩) ?_
  refine V_getN ckX7 (by first | assumption | (repeat (first | exact g_up_at | exact g_new_at rfl | assumption | refine g_up_of (by first | assumption | (simp only [g_new, g_up]; omega) | omega) ?_ | refine g_new_of (by first | assumption | (simp only [g_new, g_up]; omega) | omega) ?_))) 2 (by decide) q507 rfl (by rfl) dX14_insert_2 ?_
  refine V_callV (q := (RX14, TX14, 5)) kX14_isLeft q1299 q1301 qs11 (by first | assumption | (repeat (first | exact g_up_at | exact g_new_at rfl | assumption | refine g_up_of (by first | assumption | (simp only [g_new, g_up]; omega) | omega) ?_ | refine g_new_of (by first | assumption | (simp only [g_new, g_up]; omega) | omega) ?_))) rfl dX14_insert_5 ?_ (d' := 1) (as := [_]) (hst := rfl) (hdd := (by omega))
  refine (nd_isLeft hc hFc ha htq ?_)
  rw [hlf]
  refine V_if_eq 18 dX14_insert_8 (by decide) (fun c8 => absurd c8 (by decide)) (fun _ => ?_)
  refine V_aload_n dX14_insert_11 rfl (Or.inl ⟨_, rfl⟩) ?_
  refine V_get ckX14 (by first | assumption | (repeat (first | exact g_up_at | exact g_new_at rfl | assumption | refine g_up_of (by first | assumption | (simp only [g_new, g_up]; omega) | omega) ?_ | refine g_new_of (by first | assumption | (simp only [g_new, g_up]; omega) | omega) ?_))) 2 (by decide) q1281 rfl (by rfl) dX14_insert_12 ?_
  refine V_goto 22 dX14_insert_15 (by decide) ?_
  cases hsub : lfL a c r with
  | nil =>
    rw [hsub] at hy eL
    have hy0 := NdAt_nil.mp hy
    subst hy0
    refine V_astore_n dX14_insert_22 g_nv (by decide) ?_
    refine V_aload_n dX14_insert_23 rfl g_nv ?_
    refine V_ifnullN 35 dX14_insert_24 (by decide) ?_
    refine V_aload_n dX14_insert_35 rfl (Or.inl ⟨_, rfl⟩) ?_
    refine V_aload_n dX14_insert_36 rfl (Or.inl ⟨_, rfl⟩) ?_
    refine V_getN ckX7 (by first | assumption | (repeat (first | exact g_up_at | exact g_new_at rfl | assumption | refine g_up_of (by first | assumption | (simp only [g_new, g_up]; omega) | omega) ?_ | refine g_new_of (by first | assumption | (simp only [g_new, g_up]; omega) | omega) ?_))) 2 (by decide) q507 rfl (by rfl) dX14_insert_37 ?_
    refine V_callV (q := (RX14, TX14, 5)) kX14_isLeft q1299 q1301 qs11 (by first | assumption | (repeat (first | exact g_up_at | exact g_new_at rfl | assumption | refine g_up_of (by first | assumption | (simp only [g_new, g_up]; omega) | omega) ?_ | refine g_new_of (by first | assumption | (simp only [g_new, g_up]; omega) | omega) ?_))) rfl dX14_insert_40 ?_ (d' := 1) (as := [_]) (hst := rfl) (hdd := (by omega))
    refine (nd_isLeft hc hFc ha htq ?_)
    rw [hlf]
    refine V_if_eq 73 dX14_insert_43 (by decide) (fun c43 => absurd c43 (by decide)) (fun _ => ?_)
    refine V_aload_n dX14_insert_46 rfl (Or.inl ⟨_, rfl⟩) ?_
    refine V_new ckX14 q1305 dX14_insert_47 (by first | omega | (simp only [g_new, g_up]; omega)) (by first | omega | (simp only [g_new, g_up]; omega)) ?_
    refine V_dup dX14_insert_50 rfl ?_
    refine V_aload_n dX14_insert_51 rfl (Or.inl ⟨_, rfl⟩) ?_
    refine V_get ckX14 (by first | assumption | (repeat (first | exact g_up_at | exact g_new_at rfl | assumption | refine g_up_of (by first | assumption | (simp only [g_new, g_up]; omega) | omega) ?_ | refine g_new_of (by first | assumption | (simp only [g_new, g_up]; omega) | omega) ?_))) 4 (by decide) q1283 rfl (by rfl) dX14_insert_52 ?_
    refine V_aload_n dX14_insert_55 rfl (Or.inl ⟨_, rfl⟩) ?_
    refine V_aload_n dX14_insert_56 rfl (Or.inl ⟨_, rfl⟩) ?_
    refine V_get ckX14 (by first | assumption | (repeat (first | exact g_up_at | exact g_new_at rfl | assumption | refine g_up_of (by first | assumption | (simp only [g_new, g_up]; omega) | omega) ?_ | refine g_new_of (by first | assumption | (simp only [g_new, g_up]; omega) | omega) ?_))) 1 (by decide) q1280 rfl (by rfl) dX14_insert_57 ?_
    refine V_iconstv 1 dX14_insert_60 (by decide) ?_
    refine V_iadd dX14_insert_61 ?_
    refine V_iconstv 3 dX14_insert_62 (by decide) ?_
    refine V_irem dX14_insert_63 (by decide) ?_
    refine V_callI kX14_init rfl rfl q1306 q1275 dX14_insert_64 ?_ (d' := 1) (as := [_, _, _]) (hst := rfl) (hdd := (by omega))
    refine (nd_init (g_new_at rfl) (by first | assumption | omega | (simp only [g_new, g_up]; omega) | (simp only [g_new, g_up, g_B] at *; omega)) ?_)
    rw [g_new_up rfl, NdAt_mod ha]
    refine V_put ckX14 (g_new_of hpG hc) (by first | assumption | omega | (simp only [g_new, g_up]; omega) | (simp only [g_new, g_up, g_B] at *; omega)) 2 (by decide) q1281 rfl rfl rfl rfl (Nat.le_of_ble_eq_true rfl) dX14_insert_67 ?_
    refine V_goto 97 dX14_insert_70 (by decide) ?_
    refine V_return dX14_insert_97 rfl ?_
    have kA : g_ke (fun w => w ≠ p) (g_new G (g_ob 12 [.ref q, .int (nI ((a + 1) % 3)), .null, .null, .ref tr]) 5) (g_up (g_new G (g_ob 12 [.ref q, .int (nI ((a + 1) % 3)), .null, .null, .ref tr]) 5) p (g_ob 12 [.ref c.1, .int (nI a), .ref G.2.1, va_rf z, .ref tr])) := g_ke.up (fun w => w rfl) _
    have kG : g_ke (fun w => w ≠ p) G (g_up (g_new G (g_ob 12 [.ref q, .int (nI ((a + 1) % 3)), .null, .null, .ref tr]) 5) p (g_ob 12 [.ref c.1, .int (nI a), .ref G.2.1, va_rf z, .ref tr])) := (g_ke.new wf _ _).trans kA
    have nodeQ : NdAt tr A (g_up (g_new G (g_ob 12 [.ref q, .int (nI ((a + 1) % 3)), .null, .null, .ref tr]) 5) p (g_ob 12 [.ref c.1, .int (nI a), .ref G.2.1, va_rf z, .ref tr])) (f + 1) (some G.2.1) ((a + 1) % 3) [(q, cq)] := ⟨G.2.1, none, none, rfl, hA _ (Nat.le_refl _), hm, g_up_of hpG.symm (g_new_at rfl), NdAt_nil.mpr rfl, NdAt_nil.mpr rfl⟩
    have other : NdAt tr A (g_up (g_new G (g_ob 12 [.ref q, .int (nI ((a + 1) % 3)), .null, .null, .ref tr]) 5) p (g_ob 12 [.ref c.1, .int (nI a), .ref G.2.1, va_rf z, .ref tr])) (f + 1) z ((a + 1) % 3) (rgL a c r) := NdAt.up _ _ _ _ (NdAt.ke kG f _ _ _ (fun b hb w vs hw e => by
      subst e
      rw [hc] at hw
      injection hw with hw
      injection hw with hw
      injection hw with _ hw
      injection hw with hw _
      injection hw with hw
      exact hnd2.1 (List.mem_map.mpr ⟨b, rgL_sub hb, hw.symm⟩)) hz)
    refine kk _ ⟨kG.mono (fun w hw e => by
      subst e
      exact hw.elim (fun hw => hw hAp) (fun hw => hw c List.mem_cons_self _ hc)), ?_, ?_, ?_, ?_⟩ ⟨p, some G.2.1, z, rfl, hAp, ha, g_up_at, by rw [eL]; exact nodeQ, by rw [eR]; exact other⟩
    · simp only [g_up, g_new]; omega
    · simp only [g_up, g_new]; omega
    · simp only [g_up, g_new]; omega
    · simp only [g_up, g_new]; omega
  | cons c1 r1 =>
    rw [hsub] at hy eL
    have hsubM : ∀ x ∈ c1 :: r1, x ∈ r := fun x hx => lfL_sub (a := a) (c := c) (by rw [hsub]; exact hx)
    have hlen : r1.length < r.length := by
      have e9 : (lfL a c r).length ≤ r.length := List.length_filter_le ..
      rw [hsub, List.length_cons] at e9
      exact e9
    have hnd1 : ((c1 :: r1).map (·.1)).Nodup := by
      rw [← hsub]
      exact hnd2.2.sublist ((List.filter_sublist ..).map _)
    cases f with
    | zero => exact False.elim hy
    | succ f =>
    obtain ⟨p1, y1, z1, rfl, rest⟩ := hy
    have hy1 : NdAt tr A G (f + 1) (some p1) ((a + 1) % 3) (c1 :: r1) := ⟨p1, y1, z1, rfl, rest⟩
    refine V_astore_n dX14_insert_22 (Or.inl ⟨_, rfl⟩) (by decide) ?_
    refine V_aload_n dX14_insert_23 rfl (Or.inl ⟨_, rfl⟩) ?_
    refine V_ifnull dX14_insert_24 ?_
    refine V_aload_n dX14_insert_27 rfl (Or.inl ⟨_, rfl⟩) ?_
    refine V_aload_n dX14_insert_28 rfl (Or.inl ⟨_, rfl⟩) ?_
    refine V_callV (q := (RX14, TX14, 5)) kX14_insert q1304 q1296 q1297 rest.2.2.1 rfl dX14_insert_29 ?_ (d' := d1) (as := [_]) (hst := rfl) (hdd := (by omega))
    refine (rcr r1 c1 ((a + 1) % 3) p1 _ hlen hy1 hsubM hnd1 (fun G' m hN' => ?_))
    refine V_goto 97 dX14_insert_32 (by decide) ?_
    refine V_return dX14_insert_97 rfl ?_
    obtain ⟨m1, m2, m3, m4, m5⟩ := m
    have hpn : NoNd A G (c1 :: r1) p := Or.inr fun b hb vs hw => by
      rw [hc] at hw
      injection hw with hw
      injection hw with hw
      injection hw with _ hw
      injection hw with hw _
      injection hw with hw
      exact hnd2.1 (List.mem_map.mpr ⟨b, hsubM b hb, hw.symm⟩)
    have other : NdAt tr A G' (f + 1 + 1) z ((a + 1) % 3) (rgL a c r) := NdAt.up _ _ _ _ (NdAt.ke m1 _ _ _ _ (fun b hb w vs hw => Or.inr fun b1 hb1 vs1 hw1 => by
      rw [hw] at hw1
      injection hw1 with hw1
      injection hw1 with hw1
      injection hw1 with _ hw1
      injection hw1 with hw1 _
      injection hw1 with hw1
      have e9 := nodup_inj hnd2.2 (rgL_sub hb) (hsubM b1 hb1) hw1
      rw [← hsub] at hb1
      subst e9
      exact lf_rg hb1 hb) hz)
    refine kk G' ⟨m1.mono (fun w hw => hw.imp id (fun hw b hb => hw b (List.mem_cons_of_mem _ (hsubM b hb)))), m2, m3, m4, m5⟩ ⟨p, some p1, z, rfl, hAp, ha, m1 _ _ hpn hc, by rw [eL]; exact hN', by rw [eR]; exact other⟩
theorem nd_insert_R {A A1 : Nat → Prop} {n tr q f d1 a p : Nat} {cq : Rw} {r : List FD} {c : FD} (hd1 : 2 ≤ d1) (hlf : lfB a c.2 cq.2.1 = false) (rcr : ∀ (r1 : List FD) (c1 : FD) (a1 p1 : Nat) (P1 : Outcome → g_G → Prop), r1.length < r.length → NdAt tr A G f (some p1) a1 (c1 :: r1) → (∀ x ∈ c1 :: r1, x ∈ r) → ((c1 :: r1).map (·.1)).Nodup → (∀ G', g_mod (NoNd A G (c1 :: r1)) G G' 1 5 → NdAt tr A G' (f + 1) (some p1) a1 (c1 :: (r1 ++ [(q, cq)])) → P1 (.returned none) G') → g_Spc l E mX14_insert d1 [.ref p1, .ref q] G P1)
    (hN : NdAt tr A G (f + 1) (some p) a (c :: r)) (hFs : ∀ x ∈ c :: r, FndAt E A1 n G x.1 x.2) (hF : FndAt E A1 n G q cq) (hnd : ((c :: r).map (·.1)).Nodup) (hAn : ∀ z, A z → g_B E ≤ z) (hA : ∀ z, G.2.1 ≤ z → A z) (hf : g_fit E G 1 5) (kk : ∀ G', g_mod (NoNd A G (c :: r)) G G' 1 5 → NdAt tr A G' (f + 2) (some p) a (c :: (r ++ [(q, cq)])) → P (.returned none) G') : g_Spc l E mX14_insert (d1 + 1) [.ref p, .ref q] G P := by
  obtain ⟨p', y, z, e, hAp, ha, hc, hy, hz⟩ := hN
  cases e
  obtain ⟨hf1, hf2⟩ := hf
  have hFc := hFs c List.mem_cons_self
  have hF0 := hF
  obtain ⟨-, -, tq, hqc, htq⟩ := hF0
  have hm : (a + 1) % 3 < 3 := Nat.mod_lt _ (by decide)
  have hnd2 := List.nodup_cons.mp hnd
  have hB2 : g_B E ≤ p := hAn _ hAp
  have eL : rgL a c (r ++ [(q, cq)]) = rgL a c r ++ [(q, cq)] := by
    unfold rgL
    rw [List.filter_append, List.filter_cons_of_pos (by rw [show lfB a c.2 (q, cq).2.2.1 = false from hlf]; rfl)]
    rfl
  have eR : lfL a c (r ++ [(q, cq)]) = lfL a c r := by
    unfold lfL
    rw [List.filter_append, List.filter_cons_of_neg (by rw [show lfB a c.2 (q, cq).2.2.1 = false from hlf]; decide), List.filter_nil, List.append_nil]
  refine V_intro (plainFor_of_name plX14) (Nat.le_of_ble_eq_true rfl) ?_
  refine V_wf (fun wf hBG => ?_)
  have hpG := wf.ne hc
  refine V_aload_n dX14_insert_0 rfl (Or.inl ⟨_, rfl⟩) ?_
  refine V_aload_n dX14_insert_1 rfl (Or.inl ⟨_, rfl⟩) ?_
  refine V_getN ckX7 (by first | assumption | (repeat (first | exact g_up_at | exact g_new_at rfl | assumption | refine g_up_of (by first | assumption | (simp only [g_new, g_up]; omega) | omega) ?_ | refine g_new_of (by first | assumption | (simp only [g_new, g_up]; omega) | omega) ?_))) 2 (by decide) q507 rfl (by rfl) dX14_insert_2 ?_
  refine V_callV (q := (RX14, TX14, 5)) kX14_isLeft q1299 q1301 qs11 (by first | assumption | (repeat (first | exact g_up_at | exact g_new_at rfl | assumption | refine g_up_of (by first | assumption | (simp only [g_new, g_up]; omega) | omega) ?_ | refine g_new_of (by first | assumption | (simp only [g_new, g_up]; omega) | omega) ?_))) rfl dX14_insert_5 ?_ (d' := 1) (as := [_]) (hst := rfl) (hdd := (by omega))
  refine (nd_isLeft hc hFc ha htq ?_)
  rw [hlf]
  refine V_if_eq 18 dX14_insert_8 (by decide) (fun _ => ?_) (fun c8 => absurd rfl c8)
  refine V_aload_n dX14_insert_18 rfl (Or.inl ⟨_, rfl⟩) ?_
  refine V_get ckX14 (by first | assumption | (repeat (first | exact g_up_at | exact g_new_at rfl | assumption | refine g_up_of (by first | assumption | (simp only [g_new, g_up]; omega) | omega) ?_ | refine g_new_of (by first | assumption | (simp only [g_new, g_up]; omega) | omega) ?_))) 3 (by decide) q1282 rfl (by rfl) dX14_insert_19 ?_
  cases hsub : rgL a c r with
  | nil =>
    rw [hsub] at hz eL
    have hy0 := NdAt_nil.mp hz
    subst hy0
    refine V_astore_n dX14_insert_22 g_nv (by decide) ?_
    refine V_aload_n dX14_insert_23 rfl g_nv ?_
    refine V_ifnullN 35 dX14_insert_24 (by decide) ?_
    refine V_aload_n dX14_insert_35 rfl (Or.inl ⟨_, rfl⟩) ?_
    refine V_aload_n dX14_insert_36 rfl (Or.inl ⟨_, rfl⟩) ?_
    refine V_getN ckX7 (by first | assumption | (repeat (first | exact g_up_at | exact g_new_at rfl | assumption | refine g_up_of (by first | assumption | (simp only [g_new, g_up]; omega) | omega) ?_ | refine g_new_of (by first | assumption | (simp only [g_new, g_up]; omega) | omega) ?_))) 2 (by decide) q507 rfl (by rfl) dX14_insert_37 ?_
    refine V_callV (q := (RX14, TX14, 5)) kX14_isLeft q1299 q1301 qs11 (by first | assumption | (repeat (first | exact g_up_at | exact g_new_at rfl | assumption | refine g_up_of (by first | assumption | (simp only [g_new, g_up]; omega) | omega) ?_ | refine g_new_of (by first | assumption | (simp only [g_new, g_up]; omega) | omega) ?_))) rfl dX14_insert_40 ?_ (d' := 1) (as := [_]) (hst := rfl) (hdd := (by omega))
    refine (nd_isLeft hc hFc ha htq ?_)
    rw [hlf]
    refine V_if_eq 73 dX14_insert_43 (by decide) (fun _ => ?_) (fun c43 => absurd rfl c43)
    refine V_aload_n dX14_insert_73 rfl (Or.inl ⟨_, rfl⟩) ?_
    refine V_new ckX14 q1305 dX14_insert_74 (by first | omega | (simp only [g_new, g_up]; omega)) (by first | omega | (simp only [g_new, g_up]; omega)) ?_
    refine V_dup dX14_insert_77 rfl ?_
    refine V_aload_n dX14_insert_78 rfl (Or.inl ⟨_, rfl⟩) ?_
    refine V_get ckX14 (by first | assumption | (repeat (first | exact g_up_at | exact g_new_at rfl | assumption | refine g_up_of (by first | assumption | (simp only [g_new, g_up]; omega) | omega) ?_ | refine g_new_of (by first | assumption | (simp only [g_new, g_up]; omega) | omega) ?_))) 4 (by decide) q1283 rfl (by rfl) dX14_insert_79 ?_
    refine V_aload_n dX14_insert_82 rfl (Or.inl ⟨_, rfl⟩) ?_
    refine V_aload_n dX14_insert_83 rfl (Or.inl ⟨_, rfl⟩) ?_
    refine V_get ckX14 (by first | assumption | (repeat (first | exact g_up_at | exact g_new_at rfl | assumption | refine g_up_of (by first | assumption | (simp only [g_new, g_up]; omega) | omega) ?_ | refine g_new_of (by first | assumption | (simp only [g_new, g_up]; omega) | omega) ?_))) 1 (by decide) q1280 rfl (by rfl) dX14_insert_84 ?_
    refine V_iconstv 1 dX14_insert_87 (by decide) ?_
    refine V_iadd dX14_insert_88 ?_
    refine V_iconstv 3 dX14_insert_89 (by decide) ?_
    refine V_irem dX14_insert_90 (by decide) ?_
    refine V_callI kX14_init rfl rfl q1306 q1275 dX14_insert_91 ?_ (d' := 1) (as := [_, _, _]) (hst := rfl) (hdd := (by omega))
    refine (nd_init (g_new_at rfl) (by first | assumption | omega | (simp only [g_new, g_up]; omega) | (simp only [g_new, g_up, g_B] at *; omega)) ?_)
    rw [g_new_up rfl, NdAt_mod ha]
    refine V_put ckX14 (g_new_of hpG hc) (by first | assumption | omega | (simp only [g_new, g_up]; omega) | (simp only [g_new, g_up, g_B] at *; omega)) 3 (by decide) q1282 rfl rfl rfl rfl (Nat.le_of_ble_eq_true rfl) dX14_insert_94 ?_
    refine V_return dX14_insert_97 rfl ?_
    have kA : g_ke (fun w => w ≠ p) (g_new G (g_ob 12 [.ref q, .int (nI ((a + 1) % 3)), .null, .null, .ref tr]) 5) (g_up (g_new G (g_ob 12 [.ref q, .int (nI ((a + 1) % 3)), .null, .null, .ref tr]) 5) p (g_ob 12 [.ref c.1, .int (nI a), va_rf y, .ref G.2.1, .ref tr])) := g_ke.up (fun w => w rfl) _
    have kG : g_ke (fun w => w ≠ p) G (g_up (g_new G (g_ob 12 [.ref q, .int (nI ((a + 1) % 3)), .null, .null, .ref tr]) 5) p (g_ob 12 [.ref c.1, .int (nI a), va_rf y, .ref G.2.1, .ref tr])) := (g_ke.new wf _ _).trans kA
    have nodeQ : NdAt tr A (g_up (g_new G (g_ob 12 [.ref q, .int (nI ((a + 1) % 3)), .null, .null, .ref tr]) 5) p (g_ob 12 [.ref c.1, .int (nI a), va_rf y, .ref G.2.1, .ref tr])) (f + 1) (some G.2.1) ((a + 1) % 3) [(q, cq)] := ⟨G.2.1, none, none, rfl, hA _ (Nat.le_refl _), hm, g_up_of hpG.symm (g_new_at rfl), NdAt_nil.mpr rfl, NdAt_nil.mpr rfl⟩
    have other : NdAt tr A (g_up (g_new G (g_ob 12 [.ref q, .int (nI ((a + 1) % 3)), .null, .null, .ref tr]) 5) p (g_ob 12 [.ref c.1, .int (nI a), va_rf y, .ref G.2.1, .ref tr])) (f + 1) y ((a + 1) % 3) (lfL a c r) := NdAt.up _ _ _ _ (NdAt.ke kG f _ _ _ (fun b hb w vs hw e => by
      subst e
      rw [hc] at hw
      injection hw with hw
      injection hw with hw
      injection hw with _ hw
      injection hw with hw _
      injection hw with hw
      exact hnd2.1 (List.mem_map.mpr ⟨b, lfL_sub hb, hw.symm⟩)) hy)
    refine kk _ ⟨kG.mono (fun w hw e => by
      subst e
      exact hw.elim (fun hw => hw hAp) (fun hw => hw c List.mem_cons_self _ hc)), ?_, ?_, ?_, ?_⟩ ⟨p, y, some G.2.1, rfl, hAp, ha, g_up_at, by rw [eR]; exact other, by rw [eL]; exact nodeQ⟩
    · simp only [g_up, g_new]; omega
    · simp only [g_up, g_new]; omega
    · simp only [g_up, g_new]; omega
    · simp only [g_up, g_new]; omega
  | cons c1 r1 =>
    rw [hsub] at hz eL
    have hsubM : ∀ x ∈ c1 :: r1, x ∈ r := fun x hx => rgL_sub (a := a) (c := c) (by rw [hsub]; exact hx)
    have hlen : r1.length < r.length := by
      have e9 : (rgL a c r).length ≤ r.length := List.length_filter_le ..
      rw [hsub, List.length_cons] at e9
      exact e9
    have hnd1 : ((c1 :: r1).map (·.1)).Nodup := by
      rw [← hsub]
      exact hnd2.2.sublist ((List.filter_sublist ..).map _)
    cases f with
    | zero => exact False.elim hz
    | succ f =>
    obtain ⟨p1, y1, z1, rfl, rest⟩ := hz
    have hy1 : NdAt tr A G (f + 1) (some p1) ((a + 1) % 3) (c1 :: r1) := ⟨p1, y1, z1, rfl, rest⟩
    refine V_astore_n dX14_insert_22 (Or.inl ⟨_, rfl⟩) (by decide) ?_
    refine V_aload_n dX14_insert_23 rfl (Or.inl ⟨_, rfl⟩) ?_
    refine V_ifnull dX14_insert_24 ?_
    refine V_aload_n dX14_insert_27 rfl (Or.inl ⟨_, rfl⟩) ?_
    refine V_aload_n dX14_insert_28 rfl (Or.inl ⟨_, rfl⟩) ?_
    refine V_callV (q := (RX14, TX14, 5)) kX14_insert q1304 q1296 q1297 rest.2.2.1 rfl dX14_insert_29 ?_ (d' := d1) (as := [_]) (hst := rfl) (hdd := (by omega))
    refine (rcr r1 c1 ((a + 1) % 3) p1 _ hlen hy1 hsubM hnd1 (fun G' m hN' => ?_))
    refine V_goto 97 dX14_insert_32 (by decide) ?_
    refine V_return dX14_insert_97 rfl ?_
    obtain ⟨m1, m2, m3, m4, m5⟩ := m
    have hpn : NoNd A G (c1 :: r1) p := Or.inr fun b hb vs hw => by
      rw [hc] at hw
      injection hw with hw
      injection hw with hw
      injection hw with _ hw
      injection hw with hw _
      injection hw with hw
      exact hnd2.1 (List.mem_map.mpr ⟨b, hsubM b hb, hw.symm⟩)
    have other : NdAt tr A G' (f + 1 + 1) y ((a + 1) % 3) (lfL a c r) := NdAt.up _ _ _ _ (NdAt.ke m1 _ _ _ _ (fun b hb w vs hw => Or.inr fun b1 hb1 vs1 hw1 => by
      rw [hw] at hw1
      injection hw1 with hw1
      injection hw1 with hw1
      injection hw1 with _ hw1
      injection hw1 with hw1 _
      injection hw1 with hw1
      have e9 := nodup_inj hnd2.2 (lfL_sub hb) (hsubM b1 hb1) hw1
      rw [← hsub] at hb1
      subst e9
      exact lf_rg hb hb1) hy)
    refine kk G' ⟨m1.mono (fun w hw => hw.imp id (fun hw b hb => hw b (List.mem_cons_of_mem _ (hsubM b hb)))), m2, m3, m4, m5⟩ ⟨p, y, some p1, rfl, hAp, ha, m1 _ _ hpn hc, by rw [eR]; exact other, by rw [eL]; exact hN'⟩
theorem nd_insert {A A1 : Nat → Prop} {n tr q : Nat} {cq : Rw} (hF : FndAt E A1 n G q cq) (hAn : ∀ z, A z → g_B E ≤ z) (hA : ∀ z, G.2.1 ≤ z → A z) (hf : g_fit E G 1 5) : ∀ (f : Nat) (r : List FD) (c : FD) (a p : Nat) (P : Outcome → g_G → Prop), r.length ≤ f → NdAt tr A G (f + 1) (some p) a (c :: r) → (∀ x ∈ c :: r, FndAt E A1 n G x.1 x.2) → ((c :: r).map (·.1)).Nodup → (∀ G', g_mod (NoNd A G (c :: r)) G G' 1 5 → NdAt tr A G' (f + 2) (some p) a (c :: (r ++ [(q, cq)])) → P (.returned none) G') → g_Spc l E mX14_insert (f + 3) [.ref p, .ref q] G P := by
  intro f
  induction f with
  | zero =>
    intro r c a p P hr hN hFs hnd kk
    have hr0 : r = [] := List.length_eq_zero_iff.mp (Nat.le_zero.mp hr)
    subst hr0
    cases hlf : lfB a c.2 cq.2.1 with
    | true => exact nd_insert_L (d1 := 2) (by decide) hlf (fun r1 _ _ _ _ h => absurd h (Nat.not_lt_zero _)) hN hFs hF hnd hAn hA hf kk
    | false => exact nd_insert_R (d1 := 2) (by decide) hlf (fun r1 _ _ _ _ h => absurd h (Nat.not_lt_zero _)) hN hFs hF hnd hAn hA hf kk
  | succ f ih =>
    intro r c a p P hr hN hFs hnd kk
    have rcr : ∀ (r1 : List FD) (c1 : FD) (a1 p1 : Nat) (P1 : Outcome → g_G → Prop), r1.length < r.length → NdAt tr A G (f + 1) (some p1) a1 (c1 :: r1) → (∀ x ∈ c1 :: r1, x ∈ r) → ((c1 :: r1).map (·.1)).Nodup → (∀ G', g_mod (NoNd A G (c1 :: r1)) G G' 1 5 → NdAt tr A G' (f + 2) (some p1) a1 (c1 :: (r1 ++ [(q, cq)])) → P1 (.returned none) G') → g_Spc l E mX14_insert (f + 3) [.ref p1, .ref q] G P1 := fun r1 c1 a1 p1 P1 h1 h2 h3 h4 h5 => ih r1 c1 a1 p1 P1 (by omega) h2 (fun x hx => hFs x (List.mem_cons_of_mem _ (h3 x hx))) h4 h5
    cases hlf : lfB a c.2 cq.2.1 with
    | true => exact nd_insert_L (d1 := f + 3) (by omega) hlf rcr hN hFs hF hnd hAn hA hf kk
    | false => exact nd_insert_R (d1 := f + 3) (by omega) hlf rcr hN hFs hF hnd hAn hA hf kk
end TREE
