/-! MODULE Shelf, Walk -/
set_option maxRecDepth 100000
theorem va_rf_s {a : Nat} : va_rf (some a) = .ref a := rfl
theorem g_ke.low {G G' : g_G} (wf : g_wf G) (h : g_ke (fun q => q < G.2.1) G G') : g_ke g_all G G' := fun q x _ hx => h q x (wf _ _ hx) hx
/-- what found colours and reports are made of -/
def isF (x : va_E) : Bool := isT x || (match x with
  | .inr o => decide (o.1 = 6) || decide (o.1 = 10)
  | .inl _ => false)
theorem isF_T {x : va_E} (h : isT x = true) : isF x = true := by unfold isF; rw [h]; rfl
theorem g_cast_self {E : g_E} {ci : Nat} {fs : List Value} {q : vw_C} (h : g_cl[ci]? = some q) : g_cast E (g_ob ci fs) q.1 := ⟨q, h, Or.inl rfl⟩
theorem g_cast_of {E : g_E} {ci : Nat} {fs : List Value} {q : vw_C} {nm : String} (h : g_cl[ci]? = some q) (hw : Cond.castable q.1 nm ∈ lw_tbl) : g_cast E (g_ob ci fs) nm := ⟨q, h, Or.inr hw⟩
section SHELF
variable {l : Launch} {E : g_E} {P : Outcome → g_G → Prop} {G : g_G}
/-- a shelf: its object s, its array pa, the addresses in it -/
def ShfS (E : g_E) (A : Nat → Prop) (n : Nat) (G : g_G) (s pa : Nat) (as : List Nat) : Prop := n ≤ s ∧ n ≤ pa ∧ A s ∧ A pa ∧ G.1 s = some (g_ob 2 [.ref pa, .int (nI as.length)]) ∧ as.length ≤ 10 ∧ ∃ f, G.1 pa = some (g_aq E "ColourOffice$Found" 10 f) ∧ ∀ (k a : Nat), as[k]? = some a → f k = some a
/-- found colours at addresses -/
def FsAt (E : g_E) (A : Nat → Prop) (n : Nat) (G : g_G) (as : List Nat) (L : List Rw) : Prop := as.length = L.length ∧ as.Nodup ∧ ∀ (k a : Nat) (r : Rw), as[k]? = some a → L[k]? = some r → FndAt E A n G a r
def ShfAt (E : g_E) (A : Nat → Prop) (n : Nat) (G : g_G) (s : Nat) (L : List Rw) : Prop := ∃ pa as, ShfS E A n G s pa as ∧ FsAt E A n G as L
theorem ShfS.keep {A : Nat → Prop} {n s pa : Nat} {as : List Nat} {G' : g_G} (h : ShfS E A n G s pa as) (hk : g_ke A G G') : ShfS E A n G' s pa as := by
  obtain ⟨h1, h2, h3, h4, h5, h6, f, h7, h8⟩ := h
  exact ⟨h1, h2, h3, h4, hk _ _ h3 h5, h6, f, hk _ _ h4 h7, h8⟩
theorem ShfS.ke2 {A B : Nat → Prop} {n s pa : Nat} {as : List Nat} {G' : g_G} (h : ShfS E A n G s pa as) (hk : g_ke B G G') (hs : B s) (hp : B pa) : ShfS E A n G' s pa as := by
  obtain ⟨h1, h2, h3, h4, h5, h6, f, h7, h8⟩ := h
  exact ⟨h1, h2, h3, h4, hk _ _ hs h5, h6, f, hk _ _ hp h7, h8⟩
theorem ShfS.monoL {A B : Nat → Prop} {n n' s pa : Nat} {as : List Nat} (wf : g_wf G) (h : ShfS E A n G s pa as) (hn : n' ≤ n) (hb : ∀ q, q < G.2.1 → A q → B q) : ShfS E B n' G s pa as := by
  obtain ⟨h1, h2, h3, h4, h5, h6, f, h7, h8⟩ := h
  exact ⟨by omega, by omega, hb _ (wf _ _ h5) h3, hb _ (wf _ _ h7) h4, h5, h6, f, h7, h8⟩
/-- the shelf's own cells are no found colours' -/
theorem ShfS.no {A : Nat → Prop} {n s pa q : Nat} {as : List Nat} {x : va_E} (h : ShfS E A n G s pa as) (hx : G.1 q = some x) (hi : isF x = true) : q ≠ s ∧ q ≠ pa := by
  obtain ⟨h1, h2, h3, h4, h5, h6, f, h7, h8⟩ := h
  constructor
  · intro e
    subst e
    rw [hx] at h5
    cases h5
    cases (show false = true from hi)
  · intro e
    subst e
    rw [hx] at h7
    cases h7
    cases (show false = true from hi)
theorem FsAt.keep {A : Nat → Prop} {n : Nat} {as : List Nat} {L : List Rw} {G' : g_G} (h : FsAt E A n G as L) (hk : g_ke A G G') : FsAt E A n G' as L := ⟨h.1, h.2.1, fun k a r x y => (h.2.2 k a r x y).keep hk⟩
theorem FsAt.ke3 {A B : Nat → Prop} {n : Nat} {as : List Nat} {L : List Rw} {G' : g_G} (h : FsAt E A n G as L) (hk : g_ke B G G') (hb : ∀ q x, G.1 q = some x → isF x = true → B q) : FsAt E A n G' as L := ⟨h.1, h.2.1, fun k a r x y => by
  have h9 := h.2.2 k a r x y
  obtain ⟨-, -, ta, h3, -⟩ := h.2.2 k a r x y
  exact h9.ke2 hk (hb _ _ h3 rfl) (fun q x hx hi => hb q x hx (isF_T hi))⟩
theorem FsAt.monoL {A B : Nat → Prop} {n n' : Nat} {as : List Nat} {L : List Rw} (wf : g_wf G) (h : FsAt E A n G as L) (hn : n' ≤ n) (hb : ∀ q, q < G.2.1 → A q → B q) : FsAt E B n' G as L := ⟨h.1, h.2.1, fun k a r x y => (h.2.2 k a r x y).monoL wf hn hb⟩
theorem ShfAt.keep {A : Nat → Prop} {n s : Nat} {L : List Rw} {G' : g_G} (h : ShfAt E A n G s L) (hk : g_ke A G G') : ShfAt E A n G' s L := by
  obtain ⟨pa, as, h1, h2⟩ := h
  exact ⟨pa, as, h1.keep hk, h2.keep hk⟩
theorem ShfAt.monoL {A B : Nat → Prop} {n n' s : Nat} {L : List Rw} (wf : g_wf G) (h : ShfAt E A n G s L) (hn : n' ≤ n) (hb : ∀ q, q < G.2.1 → A q → B q) : ShfAt E B n' G s L := by
  obtain ⟨pa, as, h1, h2⟩ := h
  exact ⟨pa, as, h1.monoL wf hn hb, h2.monoL wf hn hb⟩
theorem FsAt.at {A : Nat → Prop} {n k : Nat} {as : List Nat} {L : List Rw} {r : Rw} (h : FsAt E A n G as L) (hk : L[k]? = some r) : ∃ a, as[k]? = some a ∧ FndAt E A n G a r := by
  have hl : k < as.length := by rw [h.1]; exact lt_of_at hk
  exact ⟨as[k], List.getElem?_eq_getElem hl, h.2.2 _ _ _ (List.getElem?_eq_getElem hl) hk⟩
theorem shf_init {s : Nat} (h : G.1 s = some (g_ob 2 [.null, .int 0])) (hB : g_B E ≤ s) (hf : g_fit E G 1 10) (k : P (.returned none) (g_up (g_new G (g_aq E "ColourOffice$Found" 10 (fun _ => none)) 10) s (g_ob 2 [.ref G.2.1, .int 0]))) : g_Spc l E mX3_init 1 [.ref s] G P := by
  obtain ⟨hf1, hf2⟩ := hf
  refine V_intro (plainFor_of_name plX3) (Nat.le_of_ble_eq_true rfl) ?_
  refine V_wf (fun wf hBG => ?_)
  have hs := wf _ _ h
  refine V_aload_n dX3_init_0 rfl (Or.inl ⟨_, rfl⟩) ?_
  refine V_objInit q183 q170 q171 dX3_init_1 (by decide) (by decide) ?_
  refine V_aload_n dX3_init_4 rfl (Or.inl ⟨_, rfl⟩) ?_
  refine V_bipushv 10 dX3_init_5 (by decide) ?_
  refine V_anewarray 10 rfl (by decide) q184 q185 dX3_init_7 (by first | omega | (simp only [g_new, g_up]; omega)) (by first | omega | (simp only [g_new, g_up]; omega)) ?_
  refine V_putF ckX3 (by first | assumption | (repeat (first | exact g_up_at | exact g_new_at rfl | assumption | refine g_up_of (by first | assumption | (simp only [g_new, g_up]; omega) | omega) ?_ | refine g_new_of (by first | assumption | (simp only [g_new, g_up]; omega) | omega) ?_))) (by first | assumption | omega | (simp only [g_new, g_up]; omega) | (simp only [g_new, g_up, g_B] at *; omega)) 0 (by decide) q186 rfl rfl rfl rfl rfl rfl (Nat.le_of_ble_eq_true rfl) dX3_init_10 ?_
  refine V_return dX3_init_13 rfl ?_
  exact k
theorem shf_count {s pa n : Nat} (h : G.1 s = some (g_ob 2 [.ref pa, .int (nI n)])) (k : P (.returned (some (.int (nI n)))) G) : g_Spc l E mX3_count 0 [.ref s] G P := by
  refine V_intro (plainFor_of_name plX3) (Nat.le_of_ble_eq_true rfl) ?_
  refine V_aload_n dX3_count_0 rfl (Or.inl ⟨_, rfl⟩) ?_
  refine V_get ckX3 (by first | assumption | (repeat (first | exact g_up_at | exact g_new_at rfl | assumption | refine g_up_of (by first | assumption | (simp only [g_new, g_up]; omega) | omega) ?_ | refine g_new_of (by first | assumption | (simp only [g_new, g_up]; omega) | omega) ?_))) 1 (by decide) q189 rfl (by rfl) dX3_count_1 ?_
  refine V_ireturn dX3_count_4 rfl ?_
  exact k
theorem shf_at {A : Nat → Prop} {n s pa k a : Nat} {as : List Nat} {x : Int32} (h : ShfS E A n G s pa as) (hx : x = nI k) (ha : as[k]? = some a) (kk : P (.returned (some (.ref a))) G) : g_Spc l E mX3_at 0 [.ref s, .int x] G P := by
  obtain ⟨h1, h2, h3, h4, h5, h6, f, h7, h8⟩ := h
  have hk := lt_of_at ha
  subst hx
  have hin : vp_in (nI k) 10 := vp_in_nI (by omega) (by decide)
  refine V_intro (plainFor_of_name plX3) (Nat.le_of_ble_eq_true rfl) ?_
  refine V_aload_n dX3_at_0 rfl (Or.inl ⟨_, rfl⟩) ?_
  refine V_get ckX3 (by first | assumption | (repeat (first | exact g_up_at | exact g_new_at rfl | assumption | refine g_up_of (by first | assumption | (simp only [g_new, g_up]; omega) | omega) ?_ | refine g_new_of (by first | assumption | (simp only [g_new, g_up]; omega) | omega) ?_))) 0 (by decide) q186 rfl (by rfl) dX3_at_1 ?_
  refine V_iload_n dX3_at_4 rfl ?_
  refine V_aaload (by first | assumption | (repeat (first | exact g_up_at | exact g_new_at rfl | assumption | refine g_up_of (by first | assumption | (simp only [g_new, g_up]; omega) | omega) ?_ | refine g_new_of (by first | assumption | (simp only [g_new, g_up]; omega) | omega) ?_))) (by first | assumption | exact g_in (by decide)) q185 dX3_at_5 ?_
  rw [nI_clamp (by omega), h8 k a ha, va_rf_s]
  refine V_areturnO dX3_at_6 rfl ?_
  exact kk
theorem shf_add {A : Nat → Prop} {n s pa a : Nat} {as : List Nat} {fs : List Value} (h : ShfS E A n G s pa as) (hB : g_B E ≤ n) (h10 : as.length < 10) (ha : G.1 a = some (g_ob 6 fs)) (kk : ∀ G', G'.2 = G.2 → g_ke (fun q => q ≠ s ∧ q ≠ pa) G G' → ShfS E A n G' s pa (as ++ [a]) → P (.returned none) G') : g_Spc l E mX3_add 0 [.ref s, .ref a] G P := by
  obtain ⟨h1, h2, h3, h4, h5, h6, f, h7, h8⟩ := h
  have hne : s ≠ pa := g_apart h5 h7 (by intro e; cases e)
  have hin : vp_in (nI as.length) 10 := vp_in_nI (by omega) (by decide)
  refine V_intro (plainFor_of_name plX3) (Nat.le_of_ble_eq_true rfl) ?_
  refine V_aload_n dX3_add_0 rfl (Or.inl ⟨_, rfl⟩) ?_
  refine V_get ckX3 (by first | assumption | (repeat (first | exact g_up_at | exact g_new_at rfl | assumption | refine g_up_of (by first | assumption | (simp only [g_new, g_up]; omega) | omega) ?_ | refine g_new_of (by first | assumption | (simp only [g_new, g_up]; omega) | omega) ?_))) 0 (by decide) q186 rfl (by rfl) dX3_add_1 ?_
  refine V_aload_n dX3_add_4 rfl (Or.inl ⟨_, rfl⟩) ?_
  refine V_get ckX3 (by first | assumption | (repeat (first | exact g_up_at | exact g_new_at rfl | assumption | refine g_up_of (by first | assumption | (simp only [g_new, g_up]; omega) | omega) ?_ | refine g_new_of (by first | assumption | (simp only [g_new, g_up]; omega) | omega) ?_))) 1 (by decide) q189 rfl (by rfl) dX3_add_5 ?_
  refine V_aload_n dX3_add_8 rfl (Or.inl ⟨_, rfl⟩) ?_
  refine V_aastore (by first | assumption | (repeat (first | exact g_up_at | exact g_new_at rfl | assumption | refine g_up_of (by first | assumption | (simp only [g_new, g_up]; omega) | omega) ?_ | refine g_new_of (by first | assumption | (simp only [g_new, g_up]; omega) | omega) ?_))) (by first | assumption | omega | (simp only [g_new, g_up]; omega) | (simp only [g_new, g_up, g_B] at *; omega)) (by first | assumption | (repeat (first | exact g_up_at | exact g_new_at rfl | assumption | refine g_up_of (by first | assumption | (simp only [g_new, g_up]; omega) | omega) ?_ | refine g_new_of (by first | assumption | (simp only [g_new, g_up]; omega) | omega) ?_))) (g_cast_self (q := (RX7, TX7, 4)) rfl) (by first | assumption | exact g_in (by decide)) q185 dX3_add_9 ?_
  refine V_aload_n dX3_add_10 rfl (Or.inl ⟨_, rfl⟩) ?_
  refine V_dup dX3_add_11 rfl ?_
  refine V_get ckX3 (by first | assumption | (repeat (first | exact g_up_at | exact g_new_at rfl | assumption | refine g_up_of (by first | assumption | (simp only [g_new, g_up]; omega) | omega) ?_ | refine g_new_of (by first | assumption | (simp only [g_new, g_up]; omega) | omega) ?_))) 1 (by decide) q189 rfl (by rfl) dX3_add_12 ?_
  refine V_iconstv 1 dX3_add_15 (by decide) ?_
  refine V_iadd dX3_add_16 ?_
  refine V_put ckX3 (by first | assumption | (repeat (first | exact g_up_at | exact g_new_at rfl | assumption | refine g_up_of (by first | assumption | (simp only [g_new, g_up]; omega) | omega) ?_ | refine g_new_of (by first | assumption | (simp only [g_new, g_up]; omega) | omega) ?_))) (by first | assumption | omega | (simp only [g_new, g_up]; omega) | (simp only [g_new, g_up, g_B] at *; omega)) 1 (by decide) q189 rfl rfl rfl rfl (Nat.le_of_ble_eq_true rfl) dX3_add_17 ?_
  refine V_return dX3_add_20 rfl ?_
  refine kk _ rfl ?_ ⟨h1, h2, h3, h4, ?_, ?_, ?_⟩
  · exact (g_ke.up (A := fun q => q ≠ s ∧ q ≠ pa) (fun q => q.2 rfl) _).trans (g_ke.up (fun q => q.1 rfl) _)
  · rw [List.length_append, show [a].length = 1 from rfl, ← nI_1]
    exact g_up_at
  · rw [List.length_append, show [a].length = 1 from rfl]
    omega
  · refine ⟨_, g_up_of hne.symm g_up_at, fun k b hb => ?_⟩
    rw [nI_clamp (by omega)]
    rcases at_push hb with e | ⟨e1, e2⟩
    · have hl := lt_of_at e
      rw [va_up_ne _ _ (by omega)]
      exact h8 k b e
    · subst e1
      subst e2
      exact va_up_self _ _ _
/-- the last place of an id, as the component looks for it -/
def plZ (id : Int32) : Nat → Int32 → List Rw → Int32
  | _, p, [] => p
  | i, p, r :: t => plZ id (i + 1) (if r.1 = id then nI i else p) t
theorem shf_placeOf {A : Nat → Prop} {n s pa : Nat} {as : List Nat} {L : List Rw} {x : Int32} (h : ShfS E A n G s pa as) (hF : FsAt E A n G as L) (kk : P (.returned (some (.int (plZ x 0 (-1) L)))) G) : g_Spc l E mX3_placeOf 0 [.ref s, .int x] G P := by
  obtain ⟨h1, h2, h3, h4, h5, h6, f, h7, h8⟩ := h
  have hlen := hF.1
  refine V_intro (plainFor_of_name plX3) (Nat.le_of_ble_eq_true rfl) ?_
  have loop : ∀ (i : Nat), i ≤ L.length → ∀ p : Int32, P (.returned (some (.int (plZ x i p (L.drop i))))) G → V l E mX3_placeOf 0 P 4 [(0, .ref s), (1, .int x), (2, .int p), (3, .int (nI i))] [] G := by
    refine down _ ?_ ?_
    · intro p k
      rw [List.drop_eq_nil_of_le (Nat.le_refl _)] at k
      refine V_iload_n dX3_placeOf_4 rfl ?_
      refine V_aload_n dX3_placeOf_5 rfl (Or.inl ⟨_, rfl⟩) ?_
      refine V_get ckX3 (by first | assumption | (repeat (first | exact g_up_at | exact g_new_at rfl | assumption | refine g_up_of (by first | assumption | (simp only [g_new, g_up]; omega) | omega) ?_ | refine g_new_of (by first | assumption | (simp only [g_new, g_up]; omega) | omega) ?_))) 1 (by decide) q189 rfl (by rfl) dX3_placeOf_6 ?_
      refine V_icmp_ge 37 dX3_placeOf_9 (by decide) (fun _ => ?_) (fun c9 => absurd (by rw [hlen]; exact Int32.le_refl _) c9)
      refine V_iload_n dX3_placeOf_37 rfl ?_
      refine V_ireturn dX3_placeOf_38 rfl ?_
      exact k
    · intro i hi ih p k
      obtain ⟨r, hr, e⟩ := drop_at hi
      rw [e] at k
      obtain ⟨a, ha, -, -, ta, hc, -⟩ := hF.at hr
      have hin : vp_in (nI i) 10 := vp_in_nI (by omega) (by decide)
      refine V_iload_n dX3_placeOf_4 rfl ?_
      refine V_aload_n dX3_placeOf_5 rfl (Or.inl ⟨_, rfl⟩) ?_
      refine V_get ckX3 (by first | assumption | (repeat (first | exact g_up_at | exact g_new_at rfl | assumption | refine g_up_of (by first | assumption | (simp only [g_new, g_up]; omega) | omega) ?_ | refine g_new_of (by first | assumption | (simp only [g_new, g_up]; omega) | omega) ?_))) 1 (by decide) q189 rfl (by rfl) dX3_placeOf_6 ?_
      refine V_icmp_ge 37 dX3_placeOf_9 (by decide) (fun c9 => absurd c9 (nI_ge (by omega) (by omega))) (fun _ => ?_)
      refine V_aload_n dX3_placeOf_12 rfl (Or.inl ⟨_, rfl⟩) ?_
      refine V_get ckX3 (by first | assumption | (repeat (first | exact g_up_at | exact g_new_at rfl | assumption | refine g_up_of (by first | assumption | (simp only [g_new, g_up]; omega) | omega) ?_ | refine g_new_of (by first | assumption | (simp only [g_new, g_up]; omega) | omega) ?_))) 0 (by decide) q186 rfl (by rfl) dX3_placeOf_13 ?_
      refine V_iload_n dX3_placeOf_16 rfl ?_
      refine V_aaload (by first | assumption | (repeat (first | exact g_up_at | exact g_new_at rfl | assumption | refine g_up_of (by first | assumption | (simp only [g_new, g_up]; omega) | omega) ?_ | refine g_new_of (by first | assumption | (simp only [g_new, g_up]; omega) | omega) ?_))) (by first | assumption | exact g_in (by decide)) q185 dX3_placeOf_17 ?_
      rw [nI_clamp (by omega), h8 i a ha, va_rf_s]
      refine V_getN ckX7 (by first | assumption | (repeat (first | exact g_up_at | exact g_new_at rfl | assumption | refine g_up_of (by first | assumption | (simp only [g_new, g_up]; omega) | omega) ?_ | refine g_new_of (by first | assumption | (simp only [g_new, g_up]; omega) | omega) ?_))) 0 (by decide) q497 rfl (by rfl) dX3_placeOf_18 ?_
      refine V_iload_n dX3_placeOf_21 rfl ?_
      refine V_icmp_ne 29 dX3_placeOf_22 (by decide) (fun c22 => ?_) (fun c22 => ?_)
      · refine V_iload_n dX3_placeOf_29 rfl ?_
        refine V_istore_n dX3_placeOf_30 (by decide) ?_
        refine V_iinc dX3_placeOf_31 rfl (by decide) ?_
        refine V_goto 4 dX3_placeOf_34 (by decide) ?_
        refine V_subk (ih p ?_) ⟨rfl, rfl, rfl, ?_, trivial⟩
        · have k : P (.returned (some (.int (plZ x (i + 1) (if r.1 = x then nI i else p) (L.drop (i + 1)))))) G := k
          rw [if_neg c22] at k
          exact k
        · rw [← nI_1 i]; rfl
      · refine V_iload_n dX3_placeOf_25 rfl ?_
        refine V_goto 30 dX3_placeOf_26 (by decide) ?_
        refine V_istore_n dX3_placeOf_30 (by decide) ?_
        refine V_iinc dX3_placeOf_31 rfl (by decide) ?_
        refine V_goto 4 dX3_placeOf_34 (by decide) ?_
        refine V_subk (ih (nI i) ?_) ⟨rfl, rfl, rfl, ?_, trivial⟩
        · have k : P (.returned (some (.int (plZ x (i + 1) (if r.1 = x then nI i else p) (L.drop (i + 1)))))) G := k
          rw [if_pos c22] at k
          exact k
        · rw [← nI_1 i]; rfl
  refine V_iconstv (-1) dX3_placeOf_0 (by decide) ?_
  refine V_istore_n dX3_placeOf_1 (by decide) ?_
  refine V_iconstv 0 dX3_placeOf_2 (by decide) ?_
  refine V_istore_n dX3_placeOf_3 (by decide) ?_
  refine V_subk (loop 0 (Nat.zero_le _) (-1) kk) ⟨rfl, rfl, rfl, rfl, trivial⟩
theorem erase_at {α : Type} {L : List α} {k q : Nat} : (L.eraseIdx k)[q]? = if q < k then L[q]? else L[q + 1]? := List.getElem?_eraseIdx
/-- remove: what is at place k goes -/
theorem shf_remove {A : Nat → Prop} {n s pa k : Nat} {as : List Nat} {L : List Rw} {x : Int32} (h : ShfS E A n G s pa as) (hF : FsAt E A n G as L) (hB : g_B E ≤ n) (hp : plZ x 0 (-1) L = nI k) (hk : k < L.length) (kk : ∀ G', G'.2 = G.2 → g_ke (fun q => q ≠ s ∧ q ≠ pa) G G' → ShfS E A n G' s pa (as.eraseIdx k) → P (.returned none) G') : g_Spc l E mX3_remove 1 [.ref s, .int x] G P := by
  have h0 := h
  obtain ⟨h1, h2, h3, h4, h5, h6, f, h7, h8⟩ := h
  have hlen := hF.1
  have hne : s ≠ pa := g_apart h5 h7 (by intro e; cases e)
  refine V_intro (plainFor_of_name plX3) (Nat.le_of_ble_eq_true rfl) ?_
  have loop : ∀ (i : Nat), i ≤ L.length - 1 → k ≤ i → ∀ (G1 : g_G) (f1 : Nat → Option Nat), G1.2 = G.2 → g_ke (fun q => q ≠ pa) G G1 → G1.1 pa = some (g_aq E "ColourOffice$Found" 10 f1) → (∀ q a, q < i → (as.eraseIdx k)[q]? = some a → f1 q = some a) → (∀ q a, i ≤ q → as[q]? = some a → f1 q = some a) → V l E mX3_remove 1 P 6 [(0, .ref s), (1, .int x), (2, .int (nI i))] [] G1 := by
    refine down _ ?_ ?_
    · intro _ G1 f1 e1 e2 e3 e4 e5
      have g5 := e2 _ _ hne h5
      refine V_iload_n dX3_remove_6 rfl ?_
      refine V_iconstv 1 dX3_remove_7 (by decide) ?_
      refine V_iadd dX3_remove_8 ?_
      refine V_aload_n dX3_remove_9 rfl (Or.inl ⟨_, rfl⟩) ?_
      refine V_get ckX3 (by first | assumption | (repeat (first | exact g_up_at | exact g_new_at rfl | assumption | refine g_up_of (by first | assumption | (simp only [g_new, g_up]; omega) | omega) ?_ | refine g_new_of (by first | assumption | (simp only [g_new, g_up]; omega) | omega) ?_))) 1 (by decide) q189 rfl (by rfl) dX3_remove_10 ?_
      refine V_icmp_ge 36 dX3_remove_13 (by decide) (fun _ => ?_) (fun c13 => absurd (by rw [nI_1]; exact nI_le (by omega) (by omega)) c13)
      refine V_aload_n dX3_remove_36 rfl (Or.inl ⟨_, rfl⟩) ?_
      refine V_dup dX3_remove_37 rfl ?_
      refine V_get ckX3 (by first | assumption | (repeat (first | exact g_up_at | exact g_new_at rfl | assumption | refine g_up_of (by first | assumption | (simp only [g_new, g_up]; omega) | omega) ?_ | refine g_new_of (by first | assumption | (simp only [g_new, g_up]; omega) | omega) ?_))) 1 (by decide) q189 rfl (by rfl) dX3_remove_38 ?_
      refine V_iconstv 1 dX3_remove_41 (by decide) ?_
      refine V_isub dX3_remove_42 ?_
      refine V_put ckX3 (by first | assumption | (repeat (first | exact g_up_at | exact g_new_at rfl | assumption | refine g_up_of (by first | assumption | (simp only [g_new, g_up]; omega) | omega) ?_ | refine g_new_of (by first | assumption | (simp only [g_new, g_up]; omega) | omega) ?_))) (by first | assumption | omega | (simp only [g_new, g_up]; omega) | (simp only [g_new, g_up, g_B] at *; omega)) 1 (by decide) q189 rfl rfl rfl rfl (Nat.le_of_ble_eq_true rfl) dX3_remove_43 ?_
      refine V_return dX3_remove_46 rfl ?_
      have elen : (as.eraseIdx k).length = as.length - 1 := List.length_eraseIdx_of_lt (by omega)
      refine kk _ e1 ((e2.mono fun q h => h.2).trans (g_ke.up (fun q => q.1 rfl) _)) ⟨h1, h2, h3, h4, ?_, by omega, f1, g_up_of hne.symm e3, fun q a hq => ?_⟩
      · rw [elen, show nI (as.length - 1) = nI as.length - 1 from ?_]
        · exact g_up_at
        · have e9 := nI_1 (as.length - 1)
          rw [show as.length - 1 + 1 = as.length from by omega] at e9
          rw [← e9, Int32.add_sub_cancel]
      · have hq9 := lt_of_at hq
        exact e4 q a (by omega) hq
    · intro i hi ih hki G1 f1 e1 e2 e3 e4 e5
      have g5 := e2 _ _ hne h5
      have hin : vp_in (nI i) 10 := vp_in_nI (by omega) (by decide)
      have hin1 : vp_in (nI (i + 1)) 10 := vp_in_nI (by omega) (by decide)
      have hlt : ¬ nI as.length ≤ nI (i + 1) := nI_ge (by omega) (by omega)
      obtain ⟨r, hr, -⟩ := drop_at (show i + 1 < L.length by omega)
      obtain ⟨b, hb, -, -, tb, hbc, -⟩ := hF.at hr
      have hbp : b ≠ pa := g_apart hbc h7 (by intro e; cases e)
      refine V_iload_n dX3_remove_6 rfl ?_
      refine V_iconstv 1 dX3_remove_7 (by decide) ?_
      refine V_iadd dX3_remove_8 ?_
      refine V_aload_n dX3_remove_9 rfl (Or.inl ⟨_, rfl⟩) ?_
      refine V_get ckX3 (by first | assumption | (repeat (first | exact g_up_at | exact g_new_at rfl | assumption | refine g_up_of (by first | assumption | (simp only [g_new, g_up]; omega) | omega) ?_ | refine g_new_of (by first | assumption | (simp only [g_new, g_up]; omega) | omega) ?_))) 1 (by decide) q189 rfl (by rfl) dX3_remove_10 ?_
      refine V_icmp_ge 36 dX3_remove_13 (by decide) (fun c13 => absurd c13 (by rw [nI_1]; exact hlt)) (fun _ => ?_)
      refine V_aload_n dX3_remove_16 rfl (Or.inl ⟨_, rfl⟩) ?_
      refine V_get ckX3 (by first | assumption | (repeat (first | exact g_up_at | exact g_new_at rfl | assumption | refine g_up_of (by first | assumption | (simp only [g_new, g_up]; omega) | omega) ?_ | refine g_new_of (by first | assumption | (simp only [g_new, g_up]; omega) | omega) ?_))) 0 (by decide) q186 rfl (by rfl) dX3_remove_17 ?_
      refine V_iload_n dX3_remove_20 rfl ?_
      refine V_aload_n dX3_remove_21 rfl (Or.inl ⟨_, rfl⟩) ?_
      refine V_get ckX3 (by first | assumption | (repeat (first | exact g_up_at | exact g_new_at rfl | assumption | refine g_up_of (by first | assumption | (simp only [g_new, g_up]; omega) | omega) ?_ | refine g_new_of (by first | assumption | (simp only [g_new, g_up]; omega) | omega) ?_))) 0 (by decide) q186 rfl (by rfl) dX3_remove_22 ?_
      refine V_iload_n dX3_remove_25 rfl ?_
      refine V_iconstv 1 dX3_remove_26 (by decide) ?_
      refine V_iadd dX3_remove_27 ?_
      rw [show nI i + 1 = nI (i + 1) from nI_1 i]
      refine V_aaload (by first | assumption | (repeat (first | exact g_up_at | exact g_new_at rfl | assumption | refine g_up_of (by first | assumption | (simp only [g_new, g_up]; omega) | omega) ?_ | refine g_new_of (by first | assumption | (simp only [g_new, g_up]; omega) | omega) ?_))) (by first | assumption | exact g_in (by decide)) q185 dX3_remove_28 ?_
      rw [nI_clamp (by omega), e5 (i + 1) b (by omega) hb, va_rf_s]
      refine V_aastore (by first | assumption | (repeat (first | exact g_up_at | exact g_new_at rfl | assumption | refine g_up_of (by first | assumption | (simp only [g_new, g_up]; omega) | omega) ?_ | refine g_new_of (by first | assumption | (simp only [g_new, g_up]; omega) | omega) ?_))) (by first | assumption | omega | (simp only [g_new, g_up]; omega) | (simp only [g_new, g_up, g_B] at *; omega)) (e2 _ _ hbp hbc) (g_cast_self (q := (RX7, TX7, 4)) rfl) (by first | assumption | exact g_in (by decide)) q185 dX3_remove_29 ?_
      refine V_iinc dX3_remove_30 rfl (by decide) ?_
      refine V_goto 6 dX3_remove_33 (by decide) ?_
      refine V_subk (ih (by omega) _ _ e1 (e2.trans (g_ke.up (fun q => q rfl) _)) g_up_at (fun q a hq hqa => ?_) (fun q a hq hqa => ?_)) ⟨rfl, rfl, ?_, trivial⟩
      · rw [nI_clamp (by omega)]
        by_cases e : q = i
        · subst e
          rw [va_up_self, erase_at, if_neg (by omega)] at *
          rw [hb] at hqa
          exact hqa
        · rw [va_up_ne _ _ e]
          exact e4 q a (by omega) hqa
      · rw [nI_clamp (by omega), va_up_ne _ _ (by omega)]
        exact e5 q a (by omega) hqa
      · rw [← nI_1 i]; rfl
  refine V_aload_n dX3_remove_0 rfl (Or.inl ⟨_, rfl⟩) ?_
  refine V_iload_n dX3_remove_1 rfl ?_
  refine V_callV (q := (RX3, TX3, 2)) kX3_placeOf q1186 q1179 q1180 (by first | assumption | (repeat (first | exact g_up_at | exact g_new_at rfl | assumption | refine g_up_of (by first | assumption | (simp only [g_new, g_up]; omega) | omega) ?_ | refine g_new_of (by first | assumption | (simp only [g_new, g_up]; omega) | omega) ?_))) rfl dX3_remove_2 ?_ (d' := 0) (as := [_]) (hst := rfl)
  refine (shf_placeOf h0 hF ?_)
  rw [hp]
  refine V_istore_n dX3_remove_5 (by decide) ?_
  refine V_subk (loop k (by omega) (Nat.le_refl _) G f rfl g_ke.refl h7 (fun q a hq hqa => ?_) (fun q a _ hqa => h8 q a hqa)) ⟨rfl, rfl, rfl, trivial⟩
  rw [erase_at, if_pos hq] at hqa
  exact h8 q a hqa
/-! Walk -/
theorem wlk_init {w s : Nat} (h : G.1 w = some (g_ob 5 [.int 0, .null])) (hB : g_B E ≤ w) (k : P (.returned none) (g_up G w (g_ob 5 [.int 0, .ref s]))) : g_Spc l E mX6_init 1 [.ref w, .ref s] G P := by
  refine V_intro (plainFor_of_name plX6) (Nat.le_of_ble_eq_true rfl) ?_
  refine V_aload_n dX6_init_0 rfl (Or.inl ⟨_, rfl⟩) ?_
  refine V_aload_n dX6_init_1 rfl (Or.inl ⟨_, rfl⟩) ?_
  refine V_putF ckX6 (by first | assumption | (repeat (first | exact g_up_at | exact g_new_at rfl | assumption | refine g_up_of (by first | assumption | (simp only [g_new, g_up]; omega) | omega) ?_ | refine g_new_of (by first | assumption | (simp only [g_new, g_up]; omega) | omega) ?_))) (by first | assumption | omega | (simp only [g_new, g_up]; omega) | (simp only [g_new, g_up, g_B] at *; omega)) 1 (by decide) q382 rfl rfl rfl rfl rfl rfl (Nat.le_of_ble_eq_true rfl) dX6_init_2 ?_
  refine V_aload_n dX6_init_5 rfl (Or.inl ⟨_, rfl⟩) ?_
  refine V_objInit q380 q170 q171 dX6_init_6 (by decide) (by decide) ?_
  refine V_return dX6_init_9 rfl ?_
  exact k
theorem shf_iterator {s : Nat} {x : va_E} (hs : G.1 s = some x) (hf : g_fit E G 1 2) (k : P (.returned (some (.ref G.2.1))) (g_new G (g_ob 5 [.int (nI 0), .ref s]) 2)) : g_Spc l E mX3_iterator 2 [.ref s] G P := by
  obtain ⟨hf1, hf2⟩ := hf
  refine V_intro (plainFor_of_name plX3) (Nat.le_of_ble_eq_true rfl) ?_
  refine V_wf (fun wf hBG => ?_)
  refine V_new ckX6 q375 dX3_iterator_0 (by first | omega | (simp only [g_new, g_up]; omega)) (by first | omega | (simp only [g_new, g_up]; omega)) ?_
  refine V_dup dX3_iterator_3 rfl ?_
  refine V_aload_n dX3_iterator_4 rfl (Or.inl ⟨_, rfl⟩) ?_
  refine V_callIN kX6_init rfl rfl q377 q378 dX3_iterator_5 ?_ (d' := 1) (as := [_]) (hst := rfl)
  refine (wlk_init (g_new_at rfl) hBG ?_)
  rw [g_new_up rfl]
  refine V_areturnO dX3_iterator_8 rfl ?_
  exact k
theorem wlk_hasNext {w s pa k n : Nat} (hw : G.1 w = some (g_ob 5 [.int (nI k), .ref s])) (hs : G.1 s = some (g_ob 2 [.ref pa, .int (nI n)])) (hk : k ≤ 10) (hn : n ≤ 10) (kk : P (.returned (some (.int (b2i (decide (k < n)))))) G) : g_Spc l E mX6_hasNext 0 [.ref w] G P := by
  refine V_intro (plainFor_of_name plX6) (Nat.le_of_ble_eq_true rfl) ?_
  refine V_aload_n dX6_hasNext_0 rfl (Or.inl ⟨_, rfl⟩) ?_
  refine V_get ckX6 (by first | assumption | (repeat (first | exact g_up_at | exact g_new_at rfl | assumption | refine g_up_of (by first | assumption | (simp only [g_new, g_up]; omega) | omega) ?_ | refine g_new_of (by first | assumption | (simp only [g_new, g_up]; omega) | omega) ?_))) 0 (by decide) q381 rfl (by rfl) dX6_hasNext_1 ?_
  refine V_aload_n dX6_hasNext_4 rfl (Or.inl ⟨_, rfl⟩) ?_
  refine V_get ckX6 (by first | assumption | (repeat (first | exact g_up_at | exact g_new_at rfl | assumption | refine g_up_of (by first | assumption | (simp only [g_new, g_up]; omega) | omega) ?_ | refine g_new_of (by first | assumption | (simp only [g_new, g_up]; omega) | omega) ?_))) 1 (by decide) q382 rfl (by rfl) dX6_hasNext_5 ?_
  refine V_getN ckX3 (by first | assumption | (repeat (first | exact g_up_at | exact g_new_at rfl | assumption | refine g_up_of (by first | assumption | (simp only [g_new, g_up]; omega) | omega) ?_ | refine g_new_of (by first | assumption | (simp only [g_new, g_up]; omega) | omega) ?_))) 1 (by decide) q188 rfl (by rfl) dX6_hasNext_8 ?_
  refine V_icmp_ge 18 dX6_hasNext_11 (by decide) (fun c11 => ?_) (fun c11 => ?_)
  · refine V_iconstv 0 dX6_hasNext_18 (by decide) ?_
    refine V_zreturn dX6_hasNext_19 rfl rfl ?_
    have e : decide (k < n) = false := decide_eq_false fun q => absurd c11 (nI_ge q (by omega))
    rw [e] at kk
    exact kk
  · refine V_iconstv 1 dX6_hasNext_14 (by decide) ?_
    refine V_goto 19 dX6_hasNext_15 (by decide) ?_
    refine V_zreturn dX6_hasNext_19 rfl rfl ?_
    have e : decide (k < n) = true := decide_eq_true (Nat.not_le.mp fun q => c11 (nI_le q (by omega)))
    rw [e] at kk
    exact kk
theorem wlk_next2 {A : Nat → Prop} {n w s pa k a : Nat} {as : List Nat} (hB : g_B E ≤ w) (hw : G.1 w = some (g_ob 5 [.int (nI k), .ref s])) (h : ShfS E A n G s pa as) (ha : as[k]? = some a) (kk : P (.returned (some (.ref a))) (g_up G w (g_ob 5 [.int (nI (k + 1)), .ref s]))) : g_Spc l E mX6_next_2 1 [.ref w] G P := by
  obtain ⟨h1, h2, h3, h4, h5, h6, f, h7, h8⟩ := h
  have hk := lt_of_at ha
  have hsw : s ≠ w := g_apart h5 hw (by intro e; cases e)
  have hpw : pa ≠ w := g_apart h7 hw (by intro e; cases e)
  have hin : vp_in (nI k) 10 := vp_in_nI (by omega) (by decide)
  refine V_intro (plainFor_of_name plX6) (Nat.le_of_ble_eq_true rfl) ?_
  refine V_aload_n dX6_next_2_0 rfl (Or.inl ⟨_, rfl⟩) ?_
  refine V_callV (q := (RX6, TX6, 2)) kX6_hasNext q412 q396 q3291 (by first | assumption | (repeat (first | exact g_up_at | exact g_new_at rfl | assumption | refine g_up_of (by first | assumption | (simp only [g_new, g_up]; omega) | omega) ?_ | refine g_new_of (by first | assumption | (simp only [g_new, g_up]; omega) | omega) ?_))) rfl dX6_next_2_1 ?_ (d' := 0) (as := []) (hst := rfl)
  refine (wlk_hasNext hw h5 (by omega) h6 ?_)
  rw [decide_eq_true hk]
  refine V_if_ne 15 dX6_next_2_4 (by decide) (fun _ => ?_) (fun c4 => absurd c4 (by decide))
  refine V_aload_n dX6_next_2_15 rfl (Or.inl ⟨_, rfl⟩) ?_
  refine V_dup dX6_next_2_16 rfl ?_
  refine V_get ckX6 (by first | assumption | (repeat (first | exact g_up_at | exact g_new_at rfl | assumption | refine g_up_of (by first | assumption | (simp only [g_new, g_up]; omega) | omega) ?_ | refine g_new_of (by first | assumption | (simp only [g_new, g_up]; omega) | omega) ?_))) 0 (by decide) q381 rfl (by rfl) dX6_next_2_17 ?_
  refine V_iconstv 1 dX6_next_2_20 (by decide) ?_
  refine V_iadd dX6_next_2_21 ?_
  rw [show nI k + 1 = nI (k + 1) from nI_1 k]
  refine V_put ckX6 (by first | assumption | (repeat (first | exact g_up_at | exact g_new_at rfl | assumption | refine g_up_of (by first | assumption | (simp only [g_new, g_up]; omega) | omega) ?_ | refine g_new_of (by first | assumption | (simp only [g_new, g_up]; omega) | omega) ?_))) (by first | assumption | omega | (simp only [g_new, g_up]; omega) | (simp only [g_new, g_up, g_B] at *; omega)) 0 (by decide) q381 rfl rfl rfl rfl (Nat.le_of_ble_eq_true rfl) dX6_next_2_22 ?_
  refine V_aload_n dX6_next_2_25 rfl (Or.inl ⟨_, rfl⟩) ?_
  refine V_get ckX6 (by first | assumption | (repeat (first | exact g_up_at | exact g_new_at rfl | assumption | refine g_up_of (by first | assumption | (simp only [g_new, g_up]; omega) | omega) ?_ | refine g_new_of (by first | assumption | (simp only [g_new, g_up]; omega) | omega) ?_))) 1 (by decide) q382 rfl (by rfl) dX6_next_2_26 ?_
  refine V_getN ckX3 (by first | assumption | (repeat (first | exact g_up_at | exact g_new_at rfl | assumption | refine g_up_of (by first | assumption | (simp only [g_new, g_up]; omega) | omega) ?_ | refine g_new_of (by first | assumption | (simp only [g_new, g_up]; omega) | omega) ?_))) 0 (by decide) q187 rfl (by rfl) dX6_next_2_29 ?_
  refine V_aload_n dX6_next_2_32 rfl (Or.inl ⟨_, rfl⟩) ?_
  refine V_get ckX6 (by first | assumption | (repeat (first | exact g_up_at | exact g_new_at rfl | assumption | refine g_up_of (by first | assumption | (simp only [g_new, g_up]; omega) | omega) ?_ | refine g_new_of (by first | assumption | (simp only [g_new, g_up]; omega) | omega) ?_))) 0 (by decide) q381 rfl (by rfl) dX6_next_2_33 ?_
  refine V_iconstv 1 dX6_next_2_36 (by decide) ?_
  refine V_isub dX6_next_2_37 ?_
  rw [show nI (k + 1) - 1 = nI k from by rw [← nI_1 k, Int32.add_sub_cancel]]
  refine V_aaload (g_up_of hpw h7) (by first | assumption | exact g_in (by decide)) q185 dX6_next_2_38 ?_
  rw [nI_clamp (by omega), h8 k a ha, va_rf_s]
  refine V_areturnO dX6_next_2_39 rfl ?_
  exact kk
theorem wlk_next {A : Nat → Prop} {n w s pa k a : Nat} {as : List Nat} (hB : g_B E ≤ w) (hw : G.1 w = some (g_ob 5 [.int (nI k), .ref s])) (h : ShfS E A n G s pa as) (ha : as[k]? = some a) (kk : P (.returned (some (.ref a))) (g_up G w (g_ob 5 [.int (nI (k + 1)), .ref s]))) : g_Spc l E mX6_next 2 [.ref w] G P := by
  refine V_intro (plainFor_of_name plX6) (Nat.le_of_ble_eq_true rfl) ?_
  refine V_aload_n dX6_next_0 rfl (Or.inl ⟨_, rfl⟩) ?_
  refine V_callV (q := (RX6, TX6, 2)) kX6_next_2 q408 q409 q410 (by first | assumption | (repeat (first | exact g_up_at | exact g_new_at rfl | assumption | refine g_up_of (by first | assumption | (simp only [g_new, g_up]; omega) | omega) ?_ | refine g_new_of (by first | assumption | (simp only [g_new, g_up]; omega) | omega) ?_))) rfl dX6_next_1 ?_ (d' := 1) (as := []) (hst := rfl)
  refine (wlk_next2 hB hw h ha ?_)
  refine V_areturnO dX6_next_4 rfl ?_
  exact kk
end SHELF
