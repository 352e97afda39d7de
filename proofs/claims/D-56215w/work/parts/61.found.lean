/-! MODULE Found, Report, what stays of a component's objects -/
set_option maxRecDepth 100000
theorem g_up_up {G : g_G} {a : Nat} {x y : va_E} : g_up (g_up G a x) a y = g_up G a y := by
  refine Prod.ext ?_ rfl
  funext q
  show va_up (va_up G.1 a (some x)) a (some y) q = va_up G.1 a (some y) q
  by_cases h : q = a
  · subst h; rw [va_up_self, va_up_self]
  · rw [va_up_ne _ _ h, va_up_ne _ _ h, va_up_ne _ _ h]
theorem g_new_up {G : g_G} {a n : Nat} {x y : va_E} (h : a = G.2.1) : g_up (g_new G x n) a y = g_new G y n := by
  subst h
  refine Prod.ext ?_ rfl
  funext q
  show va_up (va_up G.1 G.2.1 (some x)) G.2.1 (some y) q = va_up G.1 G.2.1 (some y) q
  by_cases h : q = G.2.1
  · subst h; rw [va_up_self, va_up_self]
  · rw [va_up_ne _ _ h, va_up_ne _ _ h, va_up_ne _ _ h]
/-- cells that a tint is made of: tints and arrays of numbers -/
def isT (x : va_E) : Bool := match x with
  | .inr o => decide (o.1 = 9)
  | .inl q => match q.2.2 with
    | .inl _ => true
    | .inr _ => false
section FOUND
variable {l : Launch} {E : g_E} {P : Outcome → g_G → Prop} {G : g_G}
theorem TintAt.ke2 {A B : Nat → Prop} {G' : g_G} {a : Nat} {t : Tn} (h : TintAt E A G a t) (hk : g_ke B G G') (hb : ∀ q x, G.1 q = some x → isT x = true → B q) : TintAt E A G' a t := by
  obtain ⟨h1, pa, f, h2, h3, h4, h5⟩ := h
  exact ⟨h1, pa, f, h2, hk _ _ (hb _ _ h3 rfl) h3, hk _ _ (hb _ _ h4 rfl) h4, h5⟩
theorem TintAt.monoL {A B : Nat → Prop} {a : Nat} {t : Tn} (wf : g_wf G) (h : TintAt E A G a t) (hb : ∀ q, q < G.2.1 → A q → B q) : TintAt E B G a t := by
  obtain ⟨h1, pa, f, h2, h3, h4, h5⟩ := h
  exact ⟨hb _ (wf _ _ h3) h1, pa, f, hb _ (wf _ _ h4) h2, h3, h4, h5⟩
theorem TintAt.obj {A : Nat → Prop} {a : Nat} {t : Tn} (h : TintAt E A G a t) : ∃ pa, G.1 a = some (g_ob 9 [.ref pa]) := by
  obtain ⟨-, pa, f, -, h3, -⟩ := h
  exact ⟨pa, h3⟩
/-- a found colour of the component: id, tint, fastness, AGE; it lies at n or above -/
def FndAt (E : g_E) (A : Nat → Prop) (n : Nat) (G : g_G) (a : Nat) (r : Rw) : Prop := n ≤ a ∧ A a ∧ ∃ ta, G.1 a = some (g_ob 6 [.int r.1, .int r.2.2.1, .ref ta, .int r.2.2.2]) ∧ TintAt E A G ta r.2.1
theorem FndAt.keep {A : Nat → Prop} {n : Nat} {G' : g_G} {a : Nat} {r : Rw} (h : FndAt E A n G a r) (hk : g_ke A G G') : FndAt E A n G' a r := by
  obtain ⟨h1, h2, ta, h3, h4⟩ := h
  exact ⟨h1, h2, ta, hk _ _ h2 h3, h4.keep hk⟩
theorem FndAt.ke2 {A B : Nat → Prop} {n : Nat} {G' : g_G} {a : Nat} {r : Rw} (h : FndAt E A n G a r) (hk : g_ke B G G') (ha : B a) (hb : ∀ q x, G.1 q = some x → isT x = true → B q) : FndAt E A n G' a r := by
  obtain ⟨h1, h2, ta, h3, h4⟩ := h
  exact ⟨h1, h2, ta, hk _ _ ha h3, h4.ke2 hk hb⟩
theorem FndAt.monoL {A B : Nat → Prop} {n n' a : Nat} {r : Rw} (wf : g_wf G) (h : FndAt E A n G a r) (hn : n' ≤ n) (hb : ∀ q, q < G.2.1 → A q → B q) : FndAt E B n' G a r := by
  obtain ⟨h1, h2, ta, h3, h4⟩ := h
  exact ⟨by omega, hb _ (wf _ _ h3) h2, ta, h3, h4.monoL wf hb⟩
/-- a report of the component -/
def RptAt (E : g_E) (A : Nat → Prop) (G : g_G) (a : Nat) (r : Rw) : Prop := A a ∧ ∃ ta, G.1 a = some (g_ob 10 [.int r.1, .ref ta, .int r.2.2.1, .int r.2.2.2]) ∧ TintAt E A G ta r.2.1
theorem RptAt.keep {A : Nat → Prop} {G' : g_G} {a : Nat} {r : Rw} (h : RptAt E A G a r) (hk : g_ke A G G') : RptAt E A G' a r := by
  obtain ⟨h2, ta, h3, h4⟩ := h
  exact ⟨h2, ta, hk _ _ h2 h3, h4.keep hk⟩
theorem RptAt.ke2 {A B : Nat → Prop} {G' : g_G} {a : Nat} {r : Rw} (h : RptAt E A G a r) (hk : g_ke B G G') (ha : B a) (hb : ∀ q x, G.1 q = some x → isT x = true → B q) : RptAt E A G' a r := by
  obtain ⟨h2, ta, h3, h4⟩ := h
  exact ⟨h2, ta, hk _ _ ha h3, h4.ke2 hk hb⟩
theorem RptAt.monoL {A B : Nat → Prop} {a : Nat} {r : Rw} (wf : g_wf G) (h : RptAt E A G a r) (hb : ∀ q, q < G.2.1 → A q → B q) : RptAt E B G a r := by
  obtain ⟨h2, ta, h3, h4⟩ := h
  exact ⟨hb _ (wf _ _ h3) h2, ta, h3, h4.monoL wf hb⟩
/-! Tint: steps to grey, mixed -/
theorem tint_stepsToGrey {A : Nat → Prop} {a : Nat} {t : Tn} (h : TintAt E A G a t) (kk : P (.returned (some (.int (stG t)))) G) : g_Spc l E mX11_stepsToGrey 1 [.ref a] G P := by
  obtain ⟨-, pa, f, -, h1, h2, h3⟩ := h
  refine V_intro (plainFor_of_name plX11) (Nat.le_of_ble_eq_true rfl) ?_
  have step : ∀ (i : Nat) (s : Int32), i < 3 → V l E mX11_stepsToGrey 1 P 13 [(0, .ref a), (1, .int (i_max s (i_abs (tn_at t i - 50)))), (2, .ref pa), (3, .int (nI 3)), (4, .int (nI (i + 1)))] [] G → V l E mX11_stepsToGrey 1 P 13 [(0, .ref a), (1, .int s), (2, .ref pa), (3, .int (nI 3)), (4, .int (nI i))] [] G := by
    intro i s hi k
    have hlt : ¬ nI 3 ≤ nI i := nI_ge (by omega) (by decide)
    have hin : vp_in (nI i) 3 := vp_in_nI (by omega) (by decide)
    refine V_iload dX11_stepsToGrey_13 rfl ?_
    refine V_iload_n dX11_stepsToGrey_15 rfl ?_
    refine V_icmp_ge 44 dX11_stepsToGrey_16 (by decide) (fun c16 => absurd c16 hlt) (fun _ => ?_)
    refine V_aload_n dX11_stepsToGrey_19 rfl (Or.inl ⟨_, rfl⟩) ?_
    refine V_iload dX11_stepsToGrey_20 rfl ?_
    refine V_iaload (by first | assumption | (repeat (first | exact g_up_at | exact g_new_at rfl | assumption | refine g_up_of (by first | assumption | (simp only [g_new, g_up]; omega) | omega) ?_ | refine g_new_of (by first | assumption | (simp only [g_new, g_up]; omega) | omega) ?_))) (by first | assumption | exact g_in (by decide)) q388 dX11_stepsToGrey_22 ?_
    rw [nI_clamp (by omega), h3 i hi]
    refine V_istore dX11_stepsToGrey_23 (by decide) ?_
    refine V_iload_n dX11_stepsToGrey_25 rfl ?_
    refine V_iload dX11_stepsToGrey_26 rfl ?_
    refine V_bipushv 50 dX11_stepsToGrey_28 (by decide) ?_
    refine V_isub dX11_stepsToGrey_30 ?_
    refine V_callS kJ17_abs q1346 q1347 dX11_stepsToGrey_31 ?_ (d' := 0) (as := [_]) (hst := rfl)
    refine (math_abs ?_)
    refine V_callS kJ17_max q1954 q612 dX11_stepsToGrey_34 ?_ (d' := 0) (as := [_, _]) (hst := rfl)
    refine (math_max ?_)
    refine V_istore_n dX11_stepsToGrey_37 (by decide) ?_
    refine V_iinc dX11_stepsToGrey_38 rfl (by decide) ?_
    refine V_goto 13 dX11_stepsToGrey_41 (by decide) ?_
    refine V_subk k ⟨rfl, rfl, rfl, rfl, ?_, trivial⟩
    rw [← nI_1 i]
    rfl
  refine V_iconstv 0 dX11_stepsToGrey_0 (by decide) ?_
  refine V_istore_n dX11_stepsToGrey_1 (by decide) ?_
  refine V_aload_n dX11_stepsToGrey_2 rfl (Or.inl ⟨_, rfl⟩) ?_
  refine V_get ckX11 (by first | assumption | (repeat (first | exact g_up_at | exact g_new_at rfl | assumption | refine g_up_of (by first | assumption | (simp only [g_new, g_up]; omega) | omega) ?_ | refine g_new_of (by first | assumption | (simp only [g_new, g_up]; omega) | omega) ?_))) 0 (by decide) q1083 rfl (by rfl) dX11_stepsToGrey_3 ?_
  refine V_astore_n dX11_stepsToGrey_6 (Or.inl ⟨_, rfl⟩) (by decide) ?_
  refine V_aload_n dX11_stepsToGrey_7 rfl (Or.inl ⟨_, rfl⟩) ?_
  refine V_alen_i (by first | assumption | (repeat (first | exact g_up_at | exact g_new_at rfl | assumption | refine g_up_of (by first | assumption | (simp only [g_new, g_up]; omega) | omega) ?_ | refine g_new_of (by first | assumption | (simp only [g_new, g_up]; omega) | omega) ?_))) q388 dX11_stepsToGrey_8 ?_
  refine V_istore_n dX11_stepsToGrey_9 (by decide) ?_
  refine V_iconstv 0 dX11_stepsToGrey_10 (by decide) ?_
  refine V_istore dX11_stepsToGrey_11 (by decide) ?_
  refine V_sub (L' := [(0, .ref a), (1, .int 0), (2, .ref pa), (3, .int (nI 3)), (4, .int (nI 0))]) ⟨rfl, rfl, rfl, rfl, rfl, trivial⟩ ?_
  refine step 0 _ (by decide) (step 1 _ (by decide) (step 2 _ (by decide) ?_))
  refine V_iload dX11_stepsToGrey_13 rfl ?_
  refine V_iload_n dX11_stepsToGrey_15 rfl ?_
  refine V_icmp_ge 44 dX11_stepsToGrey_16 (by decide) (fun _ => ?_) (fun c16 => absurd (Int32.le_refl _) c16)
  refine V_iload_n dX11_stepsToGrey_44 rfl ?_
  refine V_ireturn dX11_stepsToGrey_45 rfl ?_
  exact kk
theorem tint_mixedWith {A : Nat → Prop} {a b : Nat} {t u : Tn} (h : TintAt E A G a t) (g : TintAt E A G b u) (hf : g_fit E G 2 4) (kk : ∀ (c : Nat) (G' : g_G), g_mod g_all G G' 2 4 → TintAt E (fun q => G.2.1 ≤ q) G' c (mixT t u) → P (.returned (some (.ref c))) G') : g_Spc l E mX11_mixedWith 2 [.ref a, .ref b] G P := by
  obtain ⟨-, pa, f, -, h1, h2, h3⟩ := h
  obtain ⟨-, pb, f', -, g1, g2, g3⟩ := g
  obtain ⟨hf1, hf2⟩ := hf
  refine V_intro (plainFor_of_name plX11) (Nat.le_of_ble_eq_true rfl) ?_
  refine V_wf (fun wf hB => ?_)
  have ha := wf _ _ h1
  have hpa := wf _ _ h2
  have hb := wf _ _ g1
  have hpb := wf _ _ g2
  have loop : ∀ (j i : Nat) (F : Nat → Int32), i + j = 3 → (∀ k, k < 3 → F k = if k < i then (tn_at t k + tn_at u k) / 2 else tn_at t k) → V l E mX11_mixedWith 2 P 13 [(1, .ref b), (2, .ref G.2.1), (3, .int (nI i))] [] (g_new G (g_ai E 3 F) 3) := by
    intro j
    induction j with
    | zero =>
      intro i F hi hF
      have hi3 : i = 3 := by omega
      subst hi3
      refine V_iload_n dX11_mixedWith_13 rfl ?_
      refine V_aload_n dX11_mixedWith_14 rfl (Or.inl ⟨_, rfl⟩) ?_
      refine V_alen_i (by first | assumption | (repeat (first | exact g_up_at | exact g_new_at rfl | assumption | refine g_up_of (by first | assumption | (simp only [g_new, g_up]; omega) | omega) ?_ | refine g_new_of (by first | assumption | (simp only [g_new, g_up]; omega) | omega) ?_))) q388 dX11_mixedWith_15 ?_
      refine V_icmp_ge 40 dX11_mixedWith_16 (by decide) (fun _ => ?_) (fun c16 => absurd (Int32.le_refl _) c16)
      refine V_new ckX11 q1485 dX11_mixedWith_40 (by first | omega | (simp only [g_new, g_up]; omega)) (by first | omega | (simp only [g_new, g_up]; omega)) ?_
      refine V_dup dX11_mixedWith_43 rfl ?_
      refine V_aload_n dX11_mixedWith_44 rfl (Or.inl ⟨_, rfl⟩) ?_
      refine V_callI kX11_init rfl rfl q1486 q1080 dX11_mixedWith_45 ?_ (d' := 1) (as := [_]) (hst := rfl)
      refine (tint_init (by repeat (first | exact g_up_at | exact g_new_at rfl | assumption | refine g_up_of (by first | assumption | (simp only [g_new, g_up]; omega) | omega) ?_ | refine g_new_of (by first | assumption | (simp only [g_new, g_up]; omega) | omega) ?_)) (by first | assumption | omega | (simp only [g_new, g_up]; omega) | (simp only [g_new, g_up, g_B] at *; omega)) ?_)
      rw [g_new_up rfl]
      refine V_areturnO dX11_mixedWith_48 rfl ?_
      refine kk _ _ ⟨?_, ?_, ?_, ?_, ?_⟩ ⟨Nat.le_succ _, G.2.1, _, Nat.le_refl _, g_new_at rfl, (by repeat (first | exact g_up_at | exact g_new_at rfl | assumption | refine g_up_of (by first | assumption | (simp only [g_new, g_up]; omega) | omega) ?_ | refine g_new_of (by first | assumption | (simp only [g_new, g_up]; omega) | omega) ?_)), fun k hk => ?_⟩
      · intro q x _ hx
        have hq := wf _ _ hx
        repeat (first | exact g_up_at | exact g_new_at rfl | assumption | refine g_up_of (by first | assumption | (simp only [g_new, g_up]; omega) | omega) ?_ | refine g_new_of (by first | assumption | (simp only [g_new, g_up]; omega) | omega) ?_)
      · simp only [g_new]; omega
      · simp only [g_new]; omega
      · simp only [g_new]; omega
      · simp only [g_new]; omega
      · rw [hF k hk, if_pos hk]
        match k, hk with
        | 0, _ => rfl
        | 1, _ => rfl
        | 2, _ => rfl
    | succ j ih =>
      intro i F hi hF
      have hlt : ¬ nI 3 ≤ nI i := nI_ge (by omega) (by decide)
      have hin : vp_in (nI i) 3 := vp_in_nI (by omega) (by decide)
      refine V_iload_n dX11_mixedWith_13 rfl ?_
      refine V_aload_n dX11_mixedWith_14 rfl (Or.inl ⟨_, rfl⟩) ?_
      refine V_alen_i (by first | assumption | (repeat (first | exact g_up_at | exact g_new_at rfl | assumption | refine g_up_of (by first | assumption | (simp only [g_new, g_up]; omega) | omega) ?_ | refine g_new_of (by first | assumption | (simp only [g_new, g_up]; omega) | omega) ?_))) q388 dX11_mixedWith_15 ?_
      refine V_icmp_ge 40 dX11_mixedWith_16 (by decide) (fun c16 => absurd c16 hlt) (fun _ => ?_)
      refine V_aload_n dX11_mixedWith_19 rfl (Or.inl ⟨_, rfl⟩) ?_
      refine V_iload_n dX11_mixedWith_20 rfl ?_
      refine V_aload_n dX11_mixedWith_21 rfl (Or.inl ⟨_, rfl⟩) ?_
      refine V_iload_n dX11_mixedWith_22 rfl ?_
      refine V_iaload (by first | assumption | (repeat (first | exact g_up_at | exact g_new_at rfl | assumption | refine g_up_of (by first | assumption | (simp only [g_new, g_up]; omega) | omega) ?_ | refine g_new_of (by first | assumption | (simp only [g_new, g_up]; omega) | omega) ?_))) (by first | assumption | exact g_in (by decide)) q388 dX11_mixedWith_23 ?_
      rw [nI_clamp (by omega), hF i (by omega), if_neg (Nat.lt_irrefl _)]
      refine V_aload_n dX11_mixedWith_24 rfl (Or.inl ⟨_, rfl⟩) ?_
      refine V_get ckX11 (by first | assumption | (repeat (first | exact g_up_at | exact g_new_at rfl | assumption | refine g_up_of (by first | assumption | (simp only [g_new, g_up]; omega) | omega) ?_ | refine g_new_of (by first | assumption | (simp only [g_new, g_up]; omega) | omega) ?_))) 0 (by decide) q1083 rfl (by rfl) dX11_mixedWith_25 ?_
      refine V_iload_n dX11_mixedWith_28 rfl ?_
      refine V_iaload (by first | assumption | (repeat (first | exact g_up_at | exact g_new_at rfl | assumption | refine g_up_of (by first | assumption | (simp only [g_new, g_up]; omega) | omega) ?_ | refine g_new_of (by first | assumption | (simp only [g_new, g_up]; omega) | omega) ?_))) (by first | assumption | exact g_in (by decide)) q388 dX11_mixedWith_29 ?_
      rw [nI_clamp (by omega), g3 i (by omega)]
      refine V_iadd dX11_mixedWith_30 ?_
      refine V_iconstv 2 dX11_mixedWith_31 (by decide) ?_
      refine V_idiv dX11_mixedWith_32 (by decide) ?_
      refine V_iastore (g_new_at rfl) (by first | assumption | omega | (simp only [g_new, g_up]; omega) | (simp only [g_new, g_up, g_B] at *; omega)) (by first | assumption | exact g_in (by decide)) q388 dX11_mixedWith_33 ?_
      refine V_iinc dX11_mixedWith_34 rfl (by decide) ?_
      refine V_goto 13 dX11_mixedWith_37 (by decide) ?_
      rw [nI_clamp (by omega), g_new_up rfl]
      refine V_subk (ih (i + 1) _ (by omega) ?_) ⟨rfl, rfl, ?_, trivial⟩
      · intro k hk
        show (if k = i then _ else _) = _
        by_cases e : k = i
        · subst e
          rw [if_pos rfl, if_pos (by omega)]
        · rw [if_neg e, hF k hk]
          by_cases e2 : k < i
          · rw [if_pos e2, if_pos (by omega)]
          · rw [if_neg e2, if_neg (by omega)]
      · rw [← nI_1 i]
        rfl
  refine V_aload_n dX11_mixedWith_0 rfl (Or.inl ⟨_, rfl⟩) ?_
  refine V_get ckX11 (by first | assumption | (repeat (first | exact g_up_at | exact g_new_at rfl | assumption | refine g_up_of (by first | assumption | (simp only [g_new, g_up]; omega) | omega) ?_ | refine g_new_of (by first | assumption | (simp only [g_new, g_up]; omega) | omega) ?_))) 0 (by decide) q1083 rfl (by rfl) dX11_mixedWith_1 ?_
  refine V_cloneI q1480 q1481 q624 q625 q1482 q1483 q388 (by first | assumption | (repeat (first | exact g_up_at | exact g_new_at rfl | assumption | refine g_up_of (by first | assumption | (simp only [g_new, g_up]; omega) | omega) ?_ | refine g_new_of (by first | assumption | (simp only [g_new, g_up]; omega) | omega) ?_))) (by first | omega | (simp only [g_new, g_up]; omega)) (by first | omega | (simp only [g_new, g_up]; omega)) (Nat.le_of_ble_eq_true rfl) (by decide) dX11_mixedWith_4 ?_
  refine V_castAI q1484 q388 (by first | assumption | (repeat (first | exact g_up_at | exact g_new_at rfl | assumption | refine g_up_of (by first | assumption | (simp only [g_new, g_up]; omega) | omega) ?_ | refine g_new_of (by first | assumption | (simp only [g_new, g_up]; omega) | omega) ?_))) dX11_mixedWith_7 ?_
  refine V_astore_n dX11_mixedWith_10 (Or.inl ⟨_, rfl⟩) (by decide) ?_
  refine V_iconstv 0 dX11_mixedWith_11 (by decide) ?_
  refine V_istore_n dX11_mixedWith_12 (by decide) ?_
  refine V_subk (loop 3 0 f rfl (fun k hk => ?_)) ⟨rfl, rfl, rfl, trivial⟩
  rw [h3 k hk, if_neg (Nat.not_lt_zero _)]
/-! Found -/
theorem fnd_init {a ta : Nat} {i f g : Int32} (h : G.1 a = some (g_ob 6 [.int 0, .int 0, .null, .int 0])) (hB : g_B E ≤ a) (k : P (.returned none) (g_up G a (g_ob 6 [.int i, .int f, .ref ta, .int g]))) : g_Spc l E mX7_init 1 [.ref a, .int i, .ref ta, .int f, .int g] G P := by
  refine V_intro (plainFor_of_name plX7) (Nat.le_of_ble_eq_true rfl) ?_
  refine V_aload_n dX7_init_0 rfl (Or.inl ⟨_, rfl⟩) ?_
  refine V_objInit q494 q170 q171 dX7_init_1 (by decide) (by decide) ?_
  refine V_aload_n dX7_init_4 rfl (Or.inl ⟨_, rfl⟩) ?_
  refine V_iload_n dX7_init_5 rfl ?_
  refine V_putF ckX7 (by first | assumption | (repeat (first | exact g_up_at | exact g_new_at rfl | assumption | refine g_up_of (by first | assumption | (simp only [g_new, g_up]; omega) | omega) ?_ | refine g_new_of (by first | assumption | (simp only [g_new, g_up]; omega) | omega) ?_))) (by first | assumption | omega | (simp only [g_new, g_up]; omega) | (simp only [g_new, g_up, g_B] at *; omega)) 0 (by decide) q495 rfl rfl rfl rfl rfl rfl (Nat.le_of_ble_eq_true rfl) dX7_init_6 ?_
  refine V_aload_n dX7_init_9 rfl (Or.inl ⟨_, rfl⟩) ?_
  refine V_aload_n dX7_init_10 rfl (Or.inl ⟨_, rfl⟩) ?_
  refine V_put ckX7 (by first | assumption | (repeat (first | exact g_up_at | exact g_new_at rfl | assumption | refine g_up_of (by first | assumption | (simp only [g_new, g_up]; omega) | omega) ?_ | refine g_new_of (by first | assumption | (simp only [g_new, g_up]; omega) | omega) ?_))) (by first | assumption | omega | (simp only [g_new, g_up]; omega) | (simp only [g_new, g_up, g_B] at *; omega)) 2 (by decide) q506 rfl rfl rfl rfl (Nat.le_of_ble_eq_true rfl) dX7_init_11 ?_
  rw [g_up_up]
  refine V_aload_n dX7_init_14 rfl (Or.inl ⟨_, rfl⟩) ?_
  refine V_iload_n dX7_init_15 rfl ?_
  refine V_putF ckX7 (by first | assumption | (repeat (first | exact g_up_at | exact g_new_at rfl | assumption | refine g_up_of (by first | assumption | (simp only [g_new, g_up]; omega) | omega) ?_ | refine g_new_of (by first | assumption | (simp only [g_new, g_up]; omega) | omega) ?_))) (by first | assumption | omega | (simp only [g_new, g_up]; omega) | (simp only [g_new, g_up, g_B] at *; omega)) 1 (by decide) q500 rfl rfl rfl rfl rfl rfl (Nat.le_of_ble_eq_true rfl) dX7_init_16 ?_
  rw [g_up_up]
  refine V_aload_n dX7_init_19 rfl (Or.inl ⟨_, rfl⟩) ?_
  refine V_iload dX7_init_20 rfl ?_
  refine V_put ckX7 (by first | assumption | (repeat (first | exact g_up_at | exact g_new_at rfl | assumption | refine g_up_of (by first | assumption | (simp only [g_new, g_up]; omega) | omega) ?_ | refine g_new_of (by first | assumption | (simp only [g_new, g_up]; omega) | omega) ?_))) (by first | assumption | omega | (simp only [g_new, g_up]; omega) | (simp only [g_new, g_up, g_B] at *; omega)) 3 (by decide) q510 rfl rfl rfl rfl (Nat.le_of_ble_eq_true rfl) dX7_init_22 ?_
  rw [g_up_up]
  refine V_return dX7_init_25 rfl ?_
  exact k
theorem fnd_init2 {a ta : Nat} {i f : Int32} (h : G.1 a = some (g_ob 6 [.int 0, .int 0, .null, .int 0])) (hB : g_B E ≤ a) (k : P (.returned none) (g_up G a (g_ob 6 [.int i, .int f, .ref ta, .int 0]))) : g_Spc l E mX7_init_2 2 [.ref a, .int i, .ref ta, .int f] G P := by
  refine V_intro (plainFor_of_name plX7) (Nat.le_of_ble_eq_true rfl) ?_
  refine V_aload_n dX7_init_2_0 rfl (Or.inl ⟨_, rfl⟩) ?_
  refine V_iload_n dX7_init_2_1 rfl ?_
  refine V_aload_n dX7_init_2_2 rfl (Or.inl ⟨_, rfl⟩) ?_
  refine V_iload_n dX7_init_2_3 rfl ?_
  refine V_iconstv 0 dX7_init_2_4 (by decide) ?_
  refine V_callI kX7_init rfl rfl q491 q492 dX7_init_2_5 ?_ (d' := 1) (as := [_, _, _, _]) (hst := rfl)
  refine (fnd_init h hB ?_)
  refine V_return dX7_init_2_8 rfl ?_
  exact k
theorem fnd_copy {a ta : Nat} {i f g : Int32} (h : G.1 a = some (g_ob 6 [.int i, .int f, .ref ta, .int g])) (hf : g_fit E G 1 4) (k : P (.returned (some (.ref G.2.1))) (g_new G (g_ob 6 [.int i, .int f, .ref ta, .int g]) 4)) : g_Spc l E mX7_copy 2 [.ref a] G P := by
  obtain ⟨hf1, hf2⟩ := hf
  refine V_intro (plainFor_of_name plX7) (Nat.le_of_ble_eq_true rfl) ?_
  refine V_wf (fun wf hB => ?_)
  have ha := wf _ _ h
  refine V_new ckX7 q489 dX7_copy_0 (by first | omega | (simp only [g_new, g_up]; omega)) (by first | omega | (simp only [g_new, g_up]; omega)) ?_
  refine V_dup dX7_copy_3 rfl ?_
  refine V_aload_n dX7_copy_4 rfl (Or.inl ⟨_, rfl⟩) ?_
  refine V_get ckX7 (by first | assumption | (repeat (first | exact g_up_at | exact g_new_at rfl | assumption | refine g_up_of (by first | assumption | (simp only [g_new, g_up]; omega) | omega) ?_ | refine g_new_of (by first | assumption | (simp only [g_new, g_up]; omega) | omega) ?_))) 0 (by decide) q495 rfl (by rfl) dX7_copy_5 ?_
  refine V_aload_n dX7_copy_8 rfl (Or.inl ⟨_, rfl⟩) ?_
  refine V_get ckX7 (by first | assumption | (repeat (first | exact g_up_at | exact g_new_at rfl | assumption | refine g_up_of (by first | assumption | (simp only [g_new, g_up]; omega) | omega) ?_ | refine g_new_of (by first | assumption | (simp only [g_new, g_up]; omega) | omega) ?_))) 2 (by decide) q506 rfl (by rfl) dX7_copy_9 ?_
  refine V_aload_n dX7_copy_12 rfl (Or.inl ⟨_, rfl⟩) ?_
  refine V_get ckX7 (by first | assumption | (repeat (first | exact g_up_at | exact g_new_at rfl | assumption | refine g_up_of (by first | assumption | (simp only [g_new, g_up]; omega) | omega) ?_ | refine g_new_of (by first | assumption | (simp only [g_new, g_up]; omega) | omega) ?_))) 1 (by decide) q500 rfl (by rfl) dX7_copy_13 ?_
  refine V_aload_n dX7_copy_16 rfl (Or.inl ⟨_, rfl⟩) ?_
  refine V_get ckX7 (by first | assumption | (repeat (first | exact g_up_at | exact g_new_at rfl | assumption | refine g_up_of (by first | assumption | (simp only [g_new, g_up]; omega) | omega) ?_ | refine g_new_of (by first | assumption | (simp only [g_new, g_up]; omega) | omega) ?_))) 3 (by decide) q510 rfl (by rfl) dX7_copy_17 ?_
  refine V_callI kX7_init rfl rfl q491 q492 dX7_copy_20 ?_ (d' := 1) (as := [_, _, _, _]) (hst := rfl)
  refine (fnd_init (g_new_at rfl) hB ?_)
  rw [g_new_up rfl]
  refine V_areturnO dX7_copy_23 rfl ?_
  exact k
/-- a found colour a day later -/
def pdR (r : Rw) : Rw := (r.1, (if rm (r.2.2.2 + 1) r.2.2.1 = 0 then fdT r.2.1 else r.2.1), r.2.2.1, r.2.2.2 + 1)
theorem fdT_grey {t : Tn} (h : t = (50, 50, 50)) : fdT t = t := by subst h; decide
theorem fnd_passDay {A : Nat → Prop} {n a : Nat} {r : Rw} (h : FndAt E A n G a r) (hB : g_B E ≤ n) (hA : ∀ q, G.2.1 ≤ q → A q) (hne : r.2.2.1 ≠ 0) (hf : g_fit E G 2 4) (kk : ∀ G', g_mod (fun q => q ≠ a) G G' 2 4 → FndAt E A n G' a (pdR r) → P (.returned none) G') : g_Spc l E mX7_passDay 3 [.ref a] G P := by
  obtain ⟨hn, ha, ta, h1, h2⟩ := h
  obtain ⟨i, t, f, g⟩ := r
  dsimp only at h1 h2 hne
  refine V_intro (plainFor_of_name plX7) (Nat.le_of_ble_eq_true rfl) ?_
  refine V_wf (fun wf hBG => ?_)
  have hla := wf _ _ h1
  refine V_aload_n dX7_passDay_0 rfl (Or.inl ⟨_, rfl⟩) ?_
  refine V_dup dX7_passDay_1 rfl ?_
  refine V_get ckX7 (by first | assumption | (repeat (first | exact g_up_at | exact g_new_at rfl | assumption | refine g_up_of (by first | assumption | (simp only [g_new, g_up]; omega) | omega) ?_ | refine g_new_of (by first | assumption | (simp only [g_new, g_up]; omega) | omega) ?_))) 3 (by decide) q510 rfl (by rfl) dX7_passDay_2 ?_
  refine V_iconstv 1 dX7_passDay_5 (by decide) ?_
  refine V_iadd dX7_passDay_6 ?_
  refine V_put ckX7 (by first | assumption | (repeat (first | exact g_up_at | exact g_new_at rfl | assumption | refine g_up_of (by first | assumption | (simp only [g_new, g_up]; omega) | omega) ?_ | refine g_new_of (by first | assumption | (simp only [g_new, g_up]; omega) | omega) ?_))) (by first | assumption | omega | (simp only [g_new, g_up]; omega) | (simp only [g_new, g_up, g_B] at *; omega)) 3 (by decide) q510 rfl rfl rfl rfl (Nat.le_of_ble_eq_true rfl) dX7_passDay_7 ?_
  have k1 : g_ke (fun q => q ≠ a) G (g_up G a (g_ob 6 [.int i, .int f, .ref ta, .int (g + 1)])) := g_ke.up (fun q => q rfl) _
  have t1 : TintAt E A (g_up G a (g_ob 6 [.int i, .int f, .ref ta, .int (g + 1)])) ta t := h2.ke2 k1 (fun q x hx hi e => by
    subst e
    rw [h1] at hx
    cases hx
    cases (show false = true from hi))
  have fin0 : ∀ u : Tn, u = t → pdR (i, t, f, g) = (i, u, f, g + 1) → P (.returned none) (g_up G a (g_ob 6 [.int i, .int f, .ref ta, .int (g + 1)])) := by
    intro u hu e
    subst hu
    refine kk _ ⟨k1, Nat.le_refl _, Nat.le_add_right _ _, Nat.le_refl _, Nat.le_add_right _ _⟩ ?_
    rw [e]
    exact ⟨hn, ha, ta, g_up_at, t1⟩
  refine V_aload_n dX7_passDay_10 rfl (Or.inl ⟨_, rfl⟩) ?_
  refine V_get ckX7 (by first | assumption | (repeat (first | exact g_up_at | exact g_new_at rfl | assumption | refine g_up_of (by first | assumption | (simp only [g_new, g_up]; omega) | omega) ?_ | refine g_new_of (by first | assumption | (simp only [g_new, g_up]; omega) | omega) ?_))) 3 (by decide) q510 rfl (by rfl) dX7_passDay_11 ?_
  refine V_aload_n dX7_passDay_14 rfl (Or.inl ⟨_, rfl⟩) ?_
  refine V_get ckX7 (by first | assumption | (repeat (first | exact g_up_at | exact g_new_at rfl | assumption | refine g_up_of (by first | assumption | (simp only [g_new, g_up]; omega) | omega) ?_ | refine g_new_of (by first | assumption | (simp only [g_new, g_up]; omega) | omega) ?_))) 1 (by decide) q500 rfl (by rfl) dX7_passDay_15 ?_
  refine V_irem dX7_passDay_18 hne ?_
  refine V_if_ne 43 dX7_passDay_19 (by decide) (fun c19 => ?_) (fun c19 => ?_)
  · refine V_return dX7_passDay_43 rfl ?_
    refine fin0 t rfl ?_
    unfold pdR
    rw [if_neg (show ¬ rm (g + 1) f = 0 from c19)]
  · obtain ⟨pt, hpt⟩ := t1.obj
    refine V_aload_n dX7_passDay_22 rfl (Or.inl ⟨_, rfl⟩) ?_
    refine V_get ckX7 (by first | assumption | (repeat (first | exact g_up_at | exact g_new_at rfl | assumption | refine g_up_of (by first | assumption | (simp only [g_new, g_up]; omega) | omega) ?_ | refine g_new_of (by first | assumption | (simp only [g_new, g_up]; omega) | omega) ?_))) 2 (by decide) q506 rfl (by rfl) dX7_passDay_23 ?_
    refine V_callV (q := (RX11, TX11, 1)) kX11_isGrey q1496 q1497 q1498 (by first | assumption | (repeat (first | exact g_up_at | exact g_new_at rfl | assumption | refine g_up_of (by first | assumption | (simp only [g_new, g_up]; omega) | omega) ?_ | refine g_new_of (by first | assumption | (simp only [g_new, g_up]; omega) | omega) ?_))) rfl dX7_passDay_26 ?_ (d' := 0) (as := []) (hst := rfl)
    refine (tint_isGrey t1 ?_)
    refine V_if_ne 43 dX7_passDay_29 (by decide) (fun c29 => ?_) (fun c29 => ?_)
    · refine V_return dX7_passDay_43 rfl ?_
      refine fin0 t rfl ?_
      have hg := of_decide_eq_true (b2i_t c29)
      unfold pdR
      dsimp only
      rw [fdT_grey hg, ite_self]
    · have hg := of_decide_eq_false (b2i_f c29)
      refine V_aload_n dX7_passDay_32 rfl (Or.inl ⟨_, rfl⟩) ?_
      refine V_aload_n dX7_passDay_33 rfl (Or.inl ⟨_, rfl⟩) ?_
      refine V_get ckX7 (by first | assumption | (repeat (first | exact g_up_at | exact g_new_at rfl | assumption | refine g_up_of (by first | assumption | (simp only [g_new, g_up]; omega) | omega) ?_ | refine g_new_of (by first | assumption | (simp only [g_new, g_up]; omega) | omega) ?_))) 2 (by decide) q506 rfl (by rfl) dX7_passDay_34 ?_
      refine V_callV (q := (RX11, TX11, 1)) kX11_faded q1500 q1501 q1502 (by first | assumption | (repeat (first | exact g_up_at | exact g_new_at rfl | assumption | refine g_up_of (by first | assumption | (simp only [g_new, g_up]; omega) | omega) ?_ | refine g_new_of (by first | assumption | (simp only [g_new, g_up]; omega) | omega) ?_))) rfl dX7_passDay_37 ?_ (d' := 2) (as := []) (hst := rfl)
      refine (tint_faded t1 hf (fun b G' m hb => ?_))
      have m0 := m
      obtain ⟨m1, m2, m3, m4, m5⟩ := m
      have g1 : G'.1 a = some (g_ob 6 [.int i, .int f, .ref ta, .int (g + 1)]) := m1 _ _ trivial g_up_at
      refine V_put ckX7 (by first | assumption | (repeat (first | exact g_up_at | exact g_new_at rfl | assumption | refine g_up_of (by first | assumption | (simp only [g_new, g_up]; omega) | omega) ?_ | refine g_new_of (by first | assumption | (simp only [g_new, g_up]; omega) | omega) ?_))) (by first | assumption | omega | (simp only [g_new, g_up]; omega) | (simp only [g_new, g_up, g_B] at *; omega)) 2 (by decide) q506 rfl rfl rfl rfl (Nat.le_of_ble_eq_true rfl) dX7_passDay_40 ?_
      refine V_return dX7_passDay_43 rfl ?_
      refine kk _ ⟨?_, m2, m3, m4, m5⟩ ⟨hn, ha, b, ?_, ?_⟩
      · exact (k1.trans (m1.mono fun _ _ => trivial)).trans (g_ke.up (fun q => q rfl) _)
      · exact g_up_at
      · unfold pdR
        rw [if_pos (show rm (g + 1) f = 0 from c19)]
        have hb2 : TintAt E A G' b (fdT t) := hb.mono (fun q hq => hA q hq)
        refine hb2.ke2 (g_ke.up (A := fun q => q ≠ a) (fun q => q rfl) _) (fun q x hx hi e => ?_)
        subst e
        rw [g1] at hx
        cases hx
        cases (show false = true from hi)
/-- days until grey as the component counts them -/
def dugC (r : Rw) : Int32 := if stG r.2.1 = 0 then 0 else (r.2.2.2 / r.2.2.1 + stG r.2.1) * r.2.2.1 - r.2.2.2
theorem fnd_daysUntilGrey {A : Nat → Prop} {n a : Nat} {r : Rw} (h : FndAt E A n G a r) (hne : r.2.2.1 ≠ 0) (kk : P (.returned (some (.int (dugC r)))) G) : g_Spc l E mX7_daysUntilGrey 2 [.ref a] G P := by
  obtain ⟨hn, ha, ta, h1, h2⟩ := h
  unfold dugC at kk
  obtain ⟨pt, hpt⟩ := h2.obj
  refine V_intro (plainFor_of_name plX7) (Nat.le_of_ble_eq_true rfl) ?_
  refine V_aload_n dX7_daysUntilGrey_0 rfl (Or.inl ⟨_, rfl⟩) ?_
  refine V_get ckX7 (by first | assumption | (repeat (first | exact g_up_at | exact g_new_at rfl | assumption | refine g_up_of (by first | assumption | (simp only [g_new, g_up]; omega) | omega) ?_ | refine g_new_of (by first | assumption | (simp only [g_new, g_up]; omega) | omega) ?_))) 2 (by decide) q506 rfl (by rfl) dX7_daysUntilGrey_1 ?_
  refine V_callV (q := (RX11, TX11, 1)) kX11_stepsToGrey q1950 q1951 q1952 (by first | assumption | (repeat (first | exact g_up_at | exact g_new_at rfl | assumption | refine g_up_of (by first | assumption | (simp only [g_new, g_up]; omega) | omega) ?_ | refine g_new_of (by first | assumption | (simp only [g_new, g_up]; omega) | omega) ?_))) rfl dX7_daysUntilGrey_4 ?_ (d' := 1) (as := []) (hst := rfl)
  refine (tint_stepsToGrey h2 ?_)
  refine V_istore_n dX7_daysUntilGrey_7 (by decide) ?_
  refine V_iload_n dX7_daysUntilGrey_8 rfl ?_
  refine V_if_ne 16 dX7_daysUntilGrey_9 (by decide) (fun c9 => ?_) (fun c9 => ?_)
  · rw [if_neg c9] at kk
    refine V_aload_n dX7_daysUntilGrey_16 rfl (Or.inl ⟨_, rfl⟩) ?_
    refine V_get ckX7 (by first | assumption | (repeat (first | exact g_up_at | exact g_new_at rfl | assumption | refine g_up_of (by first | assumption | (simp only [g_new, g_up]; omega) | omega) ?_ | refine g_new_of (by first | assumption | (simp only [g_new, g_up]; omega) | omega) ?_))) 3 (by decide) q510 rfl (by rfl) dX7_daysUntilGrey_17 ?_
    refine V_aload_n dX7_daysUntilGrey_20 rfl (Or.inl ⟨_, rfl⟩) ?_
    refine V_get ckX7 (by first | assumption | (repeat (first | exact g_up_at | exact g_new_at rfl | assumption | refine g_up_of (by first | assumption | (simp only [g_new, g_up]; omega) | omega) ?_ | refine g_new_of (by first | assumption | (simp only [g_new, g_up]; omega) | omega) ?_))) 1 (by decide) q500 rfl (by rfl) dX7_daysUntilGrey_21 ?_
    refine V_idiv dX7_daysUntilGrey_24 hne ?_
    refine V_iload_n dX7_daysUntilGrey_25 rfl ?_
    refine V_iadd dX7_daysUntilGrey_26 ?_
    refine V_aload_n dX7_daysUntilGrey_27 rfl (Or.inl ⟨_, rfl⟩) ?_
    refine V_get ckX7 (by first | assumption | (repeat (first | exact g_up_at | exact g_new_at rfl | assumption | refine g_up_of (by first | assumption | (simp only [g_new, g_up]; omega) | omega) ?_ | refine g_new_of (by first | assumption | (simp only [g_new, g_up]; omega) | omega) ?_))) 1 (by decide) q500 rfl (by rfl) dX7_daysUntilGrey_28 ?_
    refine V_imul dX7_daysUntilGrey_31 ?_
    refine V_aload_n dX7_daysUntilGrey_32 rfl (Or.inl ⟨_, rfl⟩) ?_
    refine V_get ckX7 (by first | assumption | (repeat (first | exact g_up_at | exact g_new_at rfl | assumption | refine g_up_of (by first | assumption | (simp only [g_new, g_up]; omega) | omega) ?_ | refine g_new_of (by first | assumption | (simp only [g_new, g_up]; omega) | omega) ?_))) 3 (by decide) q510 rfl (by rfl) dX7_daysUntilGrey_33 ?_
    refine V_isub dX7_daysUntilGrey_36 ?_
    refine V_ireturn dX7_daysUntilGrey_37 rfl ?_
    exact kk
  · rw [if_pos c9] at kk
    refine V_iconstv 0 dX7_daysUntilGrey_12 (by decide) ?_
    refine V_goto 37 dX7_daysUntilGrey_13 (by decide) ?_
    refine V_ireturn dX7_daysUntilGrey_37 rfl ?_
    exact kk
/-! Report -/
theorem rpt_init {a ta : Nat} {i f g : Int32} (h : G.1 a = some (g_ob 10 [.int 0, .null, .int 0, .int 0])) (hB : g_B E ≤ a) (k : P (.returned none) (g_up G a (g_ob 10 [.int i, .ref ta, .int f, .int g]))) : g_Spc l E mX12_init 1 [.ref a, .int i, .ref ta, .int f, .int g] G P := by
  refine V_intro (plainFor_of_name plX12) (Nat.le_of_ble_eq_true rfl) ?_
  refine V_aload_n dX12_init_0 rfl (Or.inl ⟨_, rfl⟩) ?_
  refine V_objInit q1110 q170 q171 dX12_init_1 (by decide) (by decide) ?_
  refine V_aload_n dX12_init_4 rfl (Or.inl ⟨_, rfl⟩) ?_
  refine V_iload_n dX12_init_5 rfl ?_
  refine V_putF ckX12 (by first | assumption | (repeat (first | exact g_up_at | exact g_new_at rfl | assumption | refine g_up_of (by first | assumption | (simp only [g_new, g_up]; omega) | omega) ?_ | refine g_new_of (by first | assumption | (simp only [g_new, g_up]; omega) | omega) ?_))) (by first | assumption | omega | (simp only [g_new, g_up]; omega) | (simp only [g_new, g_up, g_B] at *; omega)) 0 (by decide) q1111 rfl rfl rfl rfl rfl rfl (Nat.le_of_ble_eq_true rfl) dX12_init_6 ?_
  refine V_aload_n dX12_init_9 rfl (Or.inl ⟨_, rfl⟩) ?_
  refine V_aload_n dX12_init_10 rfl (Or.inl ⟨_, rfl⟩) ?_
  refine V_putF ckX12 (by first | assumption | (repeat (first | exact g_up_at | exact g_new_at rfl | assumption | refine g_up_of (by first | assumption | (simp only [g_new, g_up]; omega) | omega) ?_ | refine g_new_of (by first | assumption | (simp only [g_new, g_up]; omega) | omega) ?_))) (by first | assumption | omega | (simp only [g_new, g_up]; omega) | (simp only [g_new, g_up, g_B] at *; omega)) 1 (by decide) q1114 rfl rfl rfl rfl rfl rfl (Nat.le_of_ble_eq_true rfl) dX12_init_11 ?_
  rw [g_up_up]
  refine V_aload_n dX12_init_14 rfl (Or.inl ⟨_, rfl⟩) ?_
  refine V_iload_n dX12_init_15 rfl ?_
  refine V_putF ckX12 (by first | assumption | (repeat (first | exact g_up_at | exact g_new_at rfl | assumption | refine g_up_of (by first | assumption | (simp only [g_new, g_up]; omega) | omega) ?_ | refine g_new_of (by first | assumption | (simp only [g_new, g_up]; omega) | omega) ?_))) (by first | assumption | omega | (simp only [g_new, g_up]; omega) | (simp only [g_new, g_up, g_B] at *; omega)) 2 (by decide) q1118 rfl rfl rfl rfl rfl rfl (Nat.le_of_ble_eq_true rfl) dX12_init_16 ?_
  rw [g_up_up]
  refine V_aload_n dX12_init_19 rfl (Or.inl ⟨_, rfl⟩) ?_
  refine V_iload dX12_init_20 rfl ?_
  refine V_putF ckX12 (by first | assumption | (repeat (first | exact g_up_at | exact g_new_at rfl | assumption | refine g_up_of (by first | assumption | (simp only [g_new, g_up]; omega) | omega) ?_ | refine g_new_of (by first | assumption | (simp only [g_new, g_up]; omega) | omega) ?_))) (by first | assumption | omega | (simp only [g_new, g_up]; omega) | (simp only [g_new, g_up, g_B] at *; omega)) 3 (by decide) q1122 rfl rfl rfl rfl rfl rfl (Nat.le_of_ble_eq_true rfl) dX12_init_22 ?_
  rw [g_up_up]
  refine V_return dX12_init_25 rfl ?_
  exact k
end FOUND
