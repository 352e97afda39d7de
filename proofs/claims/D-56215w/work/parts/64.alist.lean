/-! MODULE ArrayList (java.util), Arrays.copyOf, index checks -/
set_option maxRecDepth 100000
theorem g_Spc.imp {l : Launch} {E : g_E} {M : g_M} {d : Nat} {as : List Value} {G : g_G} {P P' : Outcome → g_G → Prop} (S : g_Spc l E M d as G P) (h : ∀ o G', P o G' → P' o G') : g_Spc l E M d as G P' := by
  intro ok p e ha hc hk s m args below hf happ hP hK
  obtain ⟨n, o, h1, h2, h3, q1, q2, G', q3, q4⟩ := S ok p e ha hc hk s m args below hf happ hP hK
  exact ⟨n, o, h1, h2, h3, q1, q2, G', q3, h _ _ q4⟩
section ALIST
variable {l : Launch} {E : g_E} {P : Outcome → g_G → Prop} {G : g_G}
theorem jc_checkIndex0 {i n : Nat} (h : i < n) (hn : n < 2 ^ 31) (k : P (.returned (some (.int (nI i)))) G) : g_Spc l E mJ14_checkIndex 0 [.int (nI i), .int (nI n), .null] G P := by
  refine V_intro (plainFor_of_name plJ14) (Nat.le_of_ble_eq_true rfl) ?_
  refine V_iload_n dJ14_checkIndex_0 rfl ?_
  refine V_if_lt 9 dJ14_checkIndex_1 (by decide) (fun c1 => absurd c1 (nI_pos (by omega))) (fun _ => ?_)
  refine V_iload_n dJ14_checkIndex_4 rfl ?_
  refine V_iload_n dJ14_checkIndex_5 rfl ?_
  refine V_icmp_lt 16 dJ14_checkIndex_6 (by decide) (fun _ => ?_) (fun c6 => absurd (nI_lt h hn) c6)
  refine V_iload_n dJ14_checkIndex_16 rfl ?_
  refine V_ireturn dJ14_checkIndex_17 rfl ?_
  exact k
theorem jc_checkIndex {i n : Nat} (h : i < n) (hn : n < 2 ^ 31) (k : P (.returned (some (.int (nI i)))) G) : g_Spc l E mJ13_checkIndex 1 [.int (nI i), .int (nI n)] G P := by
  refine V_intro (plainFor_of_name plJ13) (Nat.le_of_ble_eq_true rfl) ?_
  refine V_iload_n dJ13_checkIndex_0 rfl ?_
  refine V_iload_n dJ13_checkIndex_1 rfl ?_
  refine V_null dJ13_checkIndex_2 ?_
  refine V_callS kJ14_checkIndex q553 q554 dJ13_checkIndex_3 ?_ (d' := 0) (as := [_, _, _]) (hst := rfl)
  refine (jc_checkIndex0 h hn ?_)
  refine V_ireturn dJ13_checkIndex_6 rfl ?_
  exact k
/-- a list: its object, what is in it -/
def AlsAt (E : g_E) (A : Nat → Prop) (n : Nat) (G : g_G) (al : Nat) (as : List Nat) : Prop := n ≤ al ∧ A al ∧ ∃ (mc : Int32) (ar : Nat), G.1 al = some (g_ob 19 [.int mc, .ref ar, .int (nI as.length)]) ∧ ((as = [] ∧ ar = emp E) ∨ (n ≤ ar ∧ A ar ∧ ∃ (cap : Nat) (f : Nat → Option Nat), as.length ≤ cap ∧ 10 ≤ cap ∧ cap ≤ 100 ∧ G.1 ar = some (g_aq E "java/lang/Object" cap f) ∧ ∀ (k a : Nat), as[k]? = some a → f k = some a))
theorem AlsAt.keep {A : Nat → Prop} {n al : Nat} {as : List Nat} {G' : g_G} (h : AlsAt E A n G al as) (hk : g_ke A G G') : AlsAt E A n G' al as := by
  obtain ⟨h1, h2, mc, ar, h3, h4⟩ := h
  refine ⟨h1, h2, mc, ar, hk _ _ h2 h3, h4.imp id ?_⟩
  intro ⟨g1, g2, cap, f, g3, g4, g5, g6, g7⟩
  exact ⟨g1, g2, cap, f, g3, g4, g5, hk _ _ g2 g6, g7⟩
theorem AlsAt.monoL {A B : Nat → Prop} {n n' al : Nat} {as : List Nat} (wf : g_wf G) (h : AlsAt E A n G al as) (hn : n' ≤ n) (hb : ∀ q, q < G.2.1 → A q → B q) : AlsAt E B n' G al as := by
  obtain ⟨h1, h2, mc, ar, h3, h4⟩ := h
  refine ⟨by omega, hb _ (wf _ _ h3) h2, mc, ar, h3, h4.imp id ?_⟩
  intro ⟨g1, g2, cap, f, g3, g4, g5, g6, g7⟩
  exact ⟨by omega, hb _ (wf _ _ g6) g2, cap, f, g3, g4, g5, g6, g7⟩
/-- ar is the list's array, and a cell -/
def AlsAr (E : g_E) (n : Nat) (G : g_G) (al ar : Nat) : Prop := n ≤ ar ∧ (∃ (mc sz : Int32), G.1 al = some (g_ob 19 [.int mc, .ref ar, .int sz])) ∧ ∃ (cap : Nat) (f : Nat → Option Nat), G.1 ar = some (g_aq E "java/lang/Object" cap f)
/-- q isn't the list's array -/
def AlsNo (G : g_G) (al q : Nat) : Prop := ∀ (mc sz : Int32), G.1 al ≠ some (g_ob 19 [.int mc, .ref q, .int sz])
theorem AlsNo.ar {E : g_E} {G : g_G} {n al q : Nat} (h : AlsNo G al q) : ¬ AlsAr E n G al q := fun ⟨_, ⟨mc, sz, e⟩, _⟩ => h mc sz e
theorem AlsNo.of {G : g_G} {al q ar : Nat} {mc sz : Int32} (h : G.1 al = some (g_ob 19 [.int mc, .ref ar, .int sz])) (hq : q ≠ ar) : AlsNo G al q := fun mc' sz' e => by
  rw [h] at e
  injection e with e
  injection e with e
  injection e with _ e
  injection e with _ e
  injection e with e _
  injection e with e
  exact hq e.symm
theorem AlsNo.ne {G : g_G} {al q ar : Nat} {mc sz : Int32} (h : G.1 al = some (g_ob 19 [.int mc, .ref ar, .int sz])) (hn : AlsNo G al q) : q ≠ ar := fun e => hn mc sz (by rw [h, e])
theorem AlsAt.ke2 {A B : Nat → Prop} {n al : Nat} {as : List Nat} {G' : g_G} (h : AlsAt E A n G al as) (hk : g_ke B G G') (h1 : B al) (h2 : ∀ ar, AlsAr E n G al ar → B ar) : AlsAt E A n G' al as := by
  obtain ⟨g1, g2, mc, ar, g3, g4⟩ := h
  refine ⟨g1, g2, mc, ar, hk _ _ h1 g3, g4.imp id ?_⟩
  intro ⟨e1, e2, cap, f, e3, e4, e5, e6, e7⟩
  exact ⟨e1, e2, cap, f, e3, e4, e5, hk _ _ (h2 _ ⟨e1, ⟨mc, _, g3⟩, cap, f, e6⟩) e6, e7⟩
theorem als_init0 {a : Nat} {fs : List Value} (k : P (.returned none) G) : g_Spc l E mJ0_init 1 [.ref a] G P := by
  refine V_intro (plainFor_of_name plJ0) (Nat.le_of_ble_eq_true rfl) ?_
  refine V_aload_n dJ0_init_0 rfl (Or.inl ⟨_, rfl⟩) ?_
  refine V_objInit q206 q170 q171 dJ0_init_1 (by decide) (by decide) ?_
  refine V_return dJ0_init_4 rfl ?_
  exact k
theorem als_init1 {a : Nat} (h : G.1 a = some (g_ob 19 [.int 0, .null, .int 0])) (hB : g_B E ≤ a) (k : P (.returned none) G) : g_Spc l E mJ1_init 2 [.ref a] G P := by
  refine V_intro (plainFor_of_name plJ1) (Nat.le_of_ble_eq_true rfl) ?_
  refine V_aload_n dJ1_init_0 rfl (Or.inl ⟨_, rfl⟩) ?_
  refine V_callI kJ0_init rfl rfl q203 q204 dJ1_init_1 ?_ (d' := 1) (as := []) (hst := rfl)
  refine (als_init0 (fs := []) ?_)
  refine V_aload_n dJ1_init_4 rfl (Or.inl ⟨_, rfl⟩) ?_
  refine V_iconstv 0 dJ1_init_5 (by decide) ?_
  refine V_put ckJ2 (by first | assumption | (repeat (first | exact g_up_at | exact g_new_at rfl | assumption | refine g_up_of (by first | assumption | (simp only [g_new, g_up]; omega) | omega) ?_ | refine g_new_of (by first | assumption | (simp only [g_new, g_up]; omega) | omega) ?_))) (by first | assumption | omega | (simp only [g_new, g_up]; omega) | (simp only [g_new, g_up, g_B] at *; omega)) 0 (by decide) q211 rfl rfl rfl rfl (Nat.le_of_ble_eq_true rfl) dJ1_init_6 ?_
  refine V_return dJ1_init_9 rfl ?_
  have e : g_up G a (g_ob 19 [.int 0, .null, .int 0]) = G := by
    refine Prod.ext ?_ rfl
    funext q
    show va_up _ _ _ q = _
    by_cases e : q = a
    · subst e; rw [va_up_self, h]
    · rw [va_up_ne _ _ e]
  rw [show g_up G a (g_ob 19 ([.int 0, .null, .int 0].set 0 (.int 0))) = G from e]
  exact k
theorem als_init {a : Nat} (h : G.1 a = some (g_ob 19 [.int 0, .null, .int 0])) (hB : g_B E ≤ a) (k : P (.returned none) (g_up G a (g_ob 19 [.int 0, .ref (emp E), .int (nI 0)]))) : g_Spc l E mJ2_init 3 [.ref a] G P := by
  refine V_intro (plainFor_of_name plJ2) (Nat.le_of_ble_eq_true rfl) ?_
  refine V_aload_n dJ2_init_0 rfl (Or.inl ⟨_, rfl⟩) ?_
  refine V_callI kJ1_init rfl rfl q200 q201 dJ2_init_1 ?_ (d' := 2) (as := []) (hst := rfl)
  refine (als_init1 h hB ?_)
  refine V_aload_n dJ2_init_4 rfl (Or.inl ⟨_, rfl⟩) ?_
  refine V_emp q207 dJ2_init_5 ?_
  refine V_put ckJ2 (by first | assumption | (repeat (first | exact g_up_at | exact g_new_at rfl | assumption | refine g_up_of (by first | assumption | (simp only [g_new, g_up]; omega) | omega) ?_ | refine g_new_of (by first | assumption | (simp only [g_new, g_up]; omega) | omega) ?_))) (by first | assumption | omega | (simp only [g_new, g_up]; omega) | (simp only [g_new, g_up, g_B] at *; omega)) 1 (by decide) q209 rfl rfl rfl rfl (Nat.le_of_ble_eq_true rfl) dJ2_init_8 ?_
  refine V_return dJ2_init_11 rfl ?_
  exact k
theorem als_size {a n : Nat} {mc : Int32} {v : Value} (h : G.1 a = some (g_ob 19 [.int mc, v, .int (nI n)])) (k : P (.returned (some (.int (nI n)))) G) : g_Spc l E mJ2_size 0 [.ref a] G P := by
  refine V_intro (plainFor_of_name plJ2) (Nat.le_of_ble_eq_true rfl) ?_
  refine V_aload_n dJ2_size_0 rfl (Or.inl ⟨_, rfl⟩) ?_
  refine V_get ckJ2 (by first | assumption | (repeat (first | exact g_up_at | exact g_new_at rfl | assumption | refine g_up_of (by first | assumption | (simp only [g_new, g_up]; omega) | omega) ?_ | refine g_new_of (by first | assumption | (simp only [g_new, g_up]; omega) | omega) ?_))) 2 (by decide) q210 rfl (by rfl) dJ2_size_1 ?_
  refine V_ireturn dJ2_size_4 rfl ?_
  exact k
theorem AlsAt.size {A : Nat → Prop} {n al : Nat} {as : List Nat} (h : AlsAt E A n G al as) (k : P (.returned (some (.int (nI as.length)))) G) : g_Spc l E mJ2_size 0 [.ref al] G P := by
  obtain ⟨h1, h2, mc, ar, h3, h4⟩ := h
  exact als_size h3 k
theorem als_get {A : Nat → Prop} {n al k a : Nat} {as : List Nat} {x : Int32} (h : AlsAt E A n G al as) (hx : x = nI k) (ha : as[k]? = some a) (kk : P (.returned (some (.ref a))) G) : g_Spc l E mJ2_get 2 [.ref al, .int x] G P := by
  obtain ⟨h1, h2, mc, ar, h3, h4⟩ := h
  have hk := lt_of_at ha
  subst hx
  rcases h4 with ⟨h4, -⟩ | ⟨h4, h5, cap, f, h6, h6b, h6c, h7, h8⟩
  · subst h4
    exact absurd hk (Nat.not_lt_zero _)
  · have hin : vp_in (nI k) cap := vp_in_nI (by omega) (by omega)
    have ed : ∀ {P : Outcome → g_G → Prop}, P (.returned (some (.ref a))) G → g_Spc l E mJ2_elementData 0 [.ref al, .int (nI k)] G P := by
      intro P kk
      refine V_intro (plainFor_of_name plJ2) (Nat.le_of_ble_eq_true rfl) ?_
      refine V_aload_n dJ2_elementData_0 rfl (Or.inl ⟨_, rfl⟩) ?_
      refine V_get ckJ2 (by first | assumption | (repeat (first | exact g_up_at | exact g_new_at rfl | assumption | refine g_up_of (by first | assumption | (simp only [g_new, g_up]; omega) | omega) ?_ | refine g_new_of (by first | assumption | (simp only [g_new, g_up]; omega) | omega) ?_))) 1 (by decide) q209 rfl (by rfl) dJ2_elementData_1 ?_
      refine V_iload_n dJ2_elementData_4 rfl ?_
      refine V_aaload (by first | assumption | (repeat (first | exact g_up_at | exact g_new_at rfl | assumption | refine g_up_of (by first | assumption | (simp only [g_new, g_up]; omega) | omega) ?_ | refine g_new_of (by first | assumption | (simp only [g_new, g_up]; omega) | omega) ?_))) (by first | assumption | exact g_in (by decide)) q904 dJ2_elementData_5 ?_
      rw [nI_clamp (by omega), h8 k a ha, va_rf_s]
      refine V_areturnO dJ2_elementData_6 rfl ?_
      exact kk
    refine V_intro (plainFor_of_name plJ2) (Nat.le_of_ble_eq_true rfl) ?_
    refine V_iload_n dJ2_get_0 rfl ?_
    refine V_aload_n dJ2_get_1 rfl (Or.inl ⟨_, rfl⟩) ?_
    refine V_get ckJ2 (by first | assumption | (repeat (first | exact g_up_at | exact g_new_at rfl | assumption | refine g_up_of (by first | assumption | (simp only [g_new, g_up]; omega) | omega) ?_ | refine g_new_of (by first | assumption | (simp only [g_new, g_up]; omega) | omega) ?_))) 2 (by decide) q210 rfl (by rfl) dJ2_get_2 ?_
    refine V_callS kJ13_checkIndex q550 q551 dJ2_get_5 ?_ (d' := 1) (as := [_, _]) (hst := rfl)
    refine (jc_checkIndex hk (by omega) ?_)
    refine V_pop dJ2_get_8 rfl ?_
    refine V_aload_n dJ2_get_9 rfl (Or.inl ⟨_, rfl⟩) ?_
    refine V_iload_n dJ2_get_10 rfl ?_
    refine V_callV (q := (RJ2, TJ2, 3)) kJ2_elementData q556 q557 q558 (by first | assumption | (repeat (first | exact g_up_at | exact g_new_at rfl | assumption | refine g_up_of (by first | assumption | (simp only [g_new, g_up]; omega) | omega) ?_ | refine g_new_of (by first | assumption | (simp only [g_new, g_up]; omega) | omega) ?_))) rfl dJ2_get_11 ?_ (d' := 0) (as := [_]) (hst := rfl)
    refine (ed ?_)
    refine V_areturnO dJ2_get_14 rfl ?_
    exact kk
theorem jc_newLength {a b c n : Nat} (h : nI a + i_max (nI b) (nI c) = nI n) (h0 : 0 < n) (hn : n < 2 ^ 30) (k : P (.returned (some (.int (nI n)))) G) : g_Spc l E mJ16_newLength 1 [.int (nI a), .int (nI b), .int (nI c)] G P := by
  refine V_intro (plainFor_of_name plJ16) (Nat.le_of_ble_eq_true rfl) ?_
  refine V_iload_n dJ16_newLength_0 rfl ?_
  refine V_iload_n dJ16_newLength_1 rfl ?_
  refine V_iload_n dJ16_newLength_2 rfl ?_
  refine V_callS kJ17_max q611 q612 dJ16_newLength_3 ?_ (d' := 0) (as := [_, _]) (hst := rfl)
  refine (math_max ?_)
  refine V_iadd dJ16_newLength_6 ?_
  rw [h]
  refine V_istore_n dJ16_newLength_7 (by decide) ?_
  refine V_iconstv 0 dJ16_newLength_8 (by decide) ?_
  refine V_iload_n dJ16_newLength_9 rfl ?_
  refine V_icmp_ge 21 dJ16_newLength_10 (by decide) (fun c10 => absurd c10 (nI_nle h0 (by omega))) (fun _ => ?_)
  refine V_iload_n dJ16_newLength_13 rfl ?_
  refine V_ldc 2147483639 q614 dJ16_newLength_14 ?_
  refine V_icmp_gt 21 dJ16_newLength_16 (by decide) (fun c16 => absurd c16 (show ¬ nI 2147483639 < nI n from nI_nlt (by omega) (by decide))) (fun _ => ?_)
  refine V_iload_n dJ16_newLength_19 rfl ?_
  refine V_ireturn dJ16_newLength_20 rfl ?_
  exact k
/-- Arrays.copyOf of Object[] -/
theorem arr_copyOf3 {a n m : Nat} {f : Nat → Option Nat} (h : G.1 a = some (g_aq E "java/lang/Object" n f)) (hn : n ≤ m) (hm : m ≤ 1000) (hf : g_fit E G 1 m) (hel : ∀ i, i < n → ∀ y, f i = some y → ∃ x, G.1 y = some x ∧ g_cast E x "java/lang/Object") (k : P (.returned (some (.ref G.2.1))) (g_new G (g_aq E "java/lang/Object" m (va_cpy f (fun _ => none) 0 0 n)) m)) : g_Spc l E mJ18_copyOf_3 1 [.ref a, .int (nI m), .ref (mir E)] G P := by
  obtain ⟨hf1, hf2⟩ := hf
  refine V_intro (plainFor_of_name plJ18) (Nat.le_of_ble_eq_true rfl) ?_
  refine V_wf (fun wf hB => ?_)
  have ha := wf.ne h
  refine V_aload_n dJ18_copyOf_3_0 rfl (Or.inl ⟨_, rfl⟩) ?_
  refine V_ldcM q903 dJ18_copyOf_3_1 ?_
  refine V_acmp_ne (rx := some _) (ry := some _) 13 dJ18_copyOf_3_3 (by decide) (fun c => absurd rfl c) (fun _ => ?_)
  refine V_iload_n dJ18_copyOf_3_6 rfl ?_
  refine V_anewarray m rfl (by omega) q905 q904 dJ18_copyOf_3_7 (by first | omega | (simp only [g_new, g_up]; omega)) (by first | omega | (simp only [g_new, g_up]; omega)) ?_
  refine V_goto 24 dJ18_copyOf_3_10 (by decide) ?_
  refine V_astore_n dJ18_copyOf_3_24 (Or.inl ⟨_, rfl⟩) (by decide) ?_
  refine V_aload_n dJ18_copyOf_3_25 rfl (Or.inl ⟨_, rfl⟩) ?_
  refine V_iconstv 0 dJ18_copyOf_3_26 (by decide) ?_
  refine V_aload_n dJ18_copyOf_3_27 rfl (Or.inl ⟨_, rfl⟩) ?_
  refine V_iconstv 0 dJ18_copyOf_3_28 (by decide) ?_
  refine V_aload_n dJ18_copyOf_3_29 rfl (Or.inl ⟨_, rfl⟩) ?_
  refine V_alen_q (g_new_of ha h) q904 dJ18_copyOf_3_30 ?_
  refine V_iload_n dJ18_copyOf_3_31 rfl ?_
  refine V_callS kJ17_min q629 q630 dJ18_copyOf_3_32 ?_ (d' := 0) (as := [_, _]) (hst := rfl)
  refine (math_min ?_)
  have e : i_min (nI n) (nI m) = nI n := if_neg (nI_nlt hn (by omega))
  have z : Int32.toNatClampNeg 0 = 0 := by decide
  rw [e]
  refine V_copyQ q632 q634 q633 q137 q904 (g_new_of ha h) (g_new_at rfl) hB (by decide) (by decide) (nI_pos (by omega)) (by rw [nI_clamp (by omega), z]; omega) (by rw [nI_clamp (by omega), z]; omega) ?_ (Nat.le_of_ble_eq_true rfl) (by decide) dJ18_copyOf_3_35 ?_
  · intro i hi y hy
    rw [nI_clamp (by omega)] at hi
    rw [z, Nat.zero_add] at hy
    obtain ⟨x, hx, hc⟩ := hel i hi y hy
    exact ⟨x, g_new_of (wf.ne hx) hx, hc⟩
  · rw [nI_clamp (by omega), z, g_new_up rfl]
    refine V_aload_n dJ18_copyOf_3_38 rfl (Or.inl ⟨_, rfl⟩) ?_
    refine V_areturnA dJ18_copyOf_3_39 rfl ?_
    exact k
theorem arr_copyOf2 {a n m : Nat} {f : Nat → Option Nat} (h : G.1 a = some (g_aq E "java/lang/Object" n f)) (hn : n ≤ m) (hm : m ≤ 1000) (hf : g_fit E G 1 m) (hel : ∀ i, i < n → ∀ y, f i = some y → ∃ x, G.1 y = some x ∧ g_cast E x "java/lang/Object") (k : P (.returned (some (.ref G.2.1))) (g_new G (g_aq E "java/lang/Object" m (va_cpy f (fun _ => none) 0 0 n)) m)) : g_Spc l E mJ18_copyOf_2 2 [.ref a, .int (nI m)] G P := by
  refine V_intro (plainFor_of_name plJ18) (Nat.le_of_ble_eq_true rfl) ?_
  refine V_aload_n dJ18_copyOf_2_0 rfl (Or.inl ⟨_, rfl⟩) ?_
  refine V_iload_n dJ18_copyOf_2_1 rfl ?_
  refine V_aload_n dJ18_copyOf_2_2 rfl (Or.inl ⟨_, rfl⟩) ?_
  refine V_getC q862 h q904 (by decide) (Nat.le_of_ble_eq_true rfl) dJ18_copyOf_2_3 ?_
  refine V_callS kJ18_copyOf_3 q900 q901 dJ18_copyOf_2_6 ?_ (d' := 1) (as := [_, _, _]) (hst := rfl)
  refine (arr_copyOf3 h hn hm hf hel ?_)
  refine V_areturnA dJ18_copyOf_2_9 rfl ?_
  exact k
/-- grow: the first time ten places are made -/
theorem als_growE {al : Nat} {mc : Int32} (h : G.1 al = some (g_ob 19 [.int mc, .ref (emp E), .int (nI 0)])) (hB : g_B E ≤ al) (hf : g_fit E G 1 10) (k : P (.returned (some (.ref G.2.1))) (g_up (g_new G (g_aq E "java/lang/Object" 10 (fun _ => none)) 10) al (g_ob 19 [.int mc, .ref G.2.1, .int (nI 0)]))) : g_Spc l E mJ2_grow_2 3 [.ref al, .int (nI 1)] G P := by
  obtain ⟨hf1, hf2⟩ := hf
  refine V_intro (plainFor_of_name plJ2) (Nat.le_of_ble_eq_true rfl) ?_
  refine V_wf (fun wf hBG => V_okk fun ok => ?_)
  have ha := wf.ne h
  refine V_aload_n dJ2_grow_2_0 rfl (Or.inl ⟨_, rfl⟩) ?_
  refine V_get ckJ2 (by first | assumption | (repeat (first | exact g_up_at | exact g_new_at rfl | assumption | refine g_up_of (by first | assumption | (simp only [g_new, g_up]; omega) | omega) ?_ | refine g_new_of (by first | assumption | (simp only [g_new, g_up]; omega) | omega) ?_))) 1 (by decide) q209 rfl (by rfl) dJ2_grow_2_1 ?_
  refine V_alenR_q (Or.inr (emp_c ok)) q904 dJ2_grow_2_4 ?_
  refine V_istore_n dJ2_grow_2_5 (by decide) ?_
  refine V_iload_n dJ2_grow_2_6 rfl ?_
  refine V_if_gt 20 dJ2_grow_2_7 (by decide) (fun c7 => absurd c7 (by decide)) (fun _ => ?_)
  refine V_aload_n dJ2_grow_2_10 rfl (Or.inl ⟨_, rfl⟩) ?_
  refine V_get ckJ2 (by first | assumption | (repeat (first | exact g_up_at | exact g_new_at rfl | assumption | refine g_up_of (by first | assumption | (simp only [g_new, g_up]; omega) | omega) ?_ | refine g_new_of (by first | assumption | (simp only [g_new, g_up]; omega) | omega) ?_))) 1 (by decide) q209 rfl (by rfl) dJ2_grow_2_11 ?_
  refine V_emp q207 dJ2_grow_2_14 ?_
  refine V_acmp_eq (rx := some _) (ry := some _) 45 dJ2_grow_2_17 (by decide) (fun _ => ?_) (fun c => absurd rfl c)
  refine V_aload_n dJ2_grow_2_45 rfl (Or.inl ⟨_, rfl⟩) ?_
  refine V_bipushv 10 dJ2_grow_2_46 (by decide) ?_
  refine V_iload_n dJ2_grow_2_48 rfl ?_
  refine V_callS kJ17_max q906 q612 dJ2_grow_2_49 ?_ (d' := 0) (as := [_, _]) (hst := rfl)
  refine (math_max ?_)
  rw [show i_max 10 (nI 1) = nI 10 from by decide]
  refine V_anewarray 10 rfl (by decide) q907 q904 dJ2_grow_2_52 (by first | omega | (simp only [g_new, g_up]; omega)) (by first | omega | (simp only [g_new, g_up]; omega)) ?_
  refine V_dup_x1 dJ2_grow_2_55 rfl rfl ?_
  refine V_put ckJ2 (by first | assumption | (repeat (first | exact g_up_at | exact g_new_at rfl | assumption | refine g_up_of (by first | assumption | (simp only [g_new, g_up]; omega) | omega) ?_ | refine g_new_of (by first | assumption | (simp only [g_new, g_up]; omega) | omega) ?_))) (by first | assumption | omega | (simp only [g_new, g_up]; omega) | (simp only [g_new, g_up, g_B] at *; omega)) 1 (by decide) q209 rfl rfl rfl rfl (Nat.le_of_ble_eq_true rfl) dJ2_grow_2_56 ?_
  refine V_areturnA dJ2_grow_2_59 rfl ?_
  exact k
/-- grow: half as much again -/
theorem als_growF {al ar n : Nat} {mc : Int32} {f : Nat → Option Nat} (h : G.1 al = some (g_ob 19 [.int mc, .ref ar, .int (nI n)])) (hr : G.1 ar = some (g_aq E "java/lang/Object" n f)) (hB : g_B E ≤ al) (h2 : 2 ≤ n) (hn : n ≤ 600) (hf : g_fit E G 1 (n + n / 2)) (hel : ∀ i, i < n → ∀ y, f i = some y → ∃ x, G.1 y = some x ∧ g_cast E x "java/lang/Object") (k : P (.returned (some (.ref G.2.1))) (g_up (g_new G (g_aq E "java/lang/Object" (n + n / 2) (va_cpy f (fun _ => none) 0 0 n)) (n + n / 2)) al (g_ob 19 [.int mc, .ref G.2.1, .int (nI n)]))) : g_Spc l E mJ2_grow_2 3 [.ref al, .int (nI (n + 1))] G P := by
  have es : nI n >>> ((1 : Int32) &&& 31) = nI (n / 2) := by
    have k := pk_shrN (n := n) (by omega) ((1 : Int32) &&& 31) 1 (by decide)
    rw [Nat.pow_one] at k
    exact k
  have ed : nI (n + 1) - nI n = nI 1 := by
    have k := pk_sub (a := n + 1) (b := n) (by omega)
    rw [Nat.add_sub_cancel_left] at k
    exact k
  have el : nI n + i_max (nI 1) (nI (n / 2)) = nI (n + n / 2) := by
    unfold i_max
    by_cases c : 1 < n / 2
    · rw [if_pos (nI_lt c (by omega))]
      exact nI_add n (n / 2)
    · rw [if_neg (nI_nlt (by omega) (by decide))]
      have hd : n / 2 = 1 := by omega
      rw [hd]
      exact nI_add n 1
  refine V_intro (plainFor_of_name plJ2) (Nat.le_of_ble_eq_true rfl) ?_
  refine V_wf (fun wf hBG => ?_)
  have ha := wf.ne h
  refine V_aload_n dJ2_grow_2_0 rfl (Or.inl ⟨_, rfl⟩) ?_
  refine V_get ckJ2 (by first | assumption | (repeat (first | exact g_up_at | exact g_new_at rfl | assumption | refine g_up_of (by first | assumption | (simp only [g_new, g_up]; omega) | omega) ?_ | refine g_new_of (by first | assumption | (simp only [g_new, g_up]; omega) | omega) ?_))) 1 (by decide) q209 rfl (by rfl) dJ2_grow_2_1 ?_
  refine V_alen_q (by first | assumption | (repeat (first | exact g_up_at | exact g_new_at rfl | assumption | refine g_up_of (by first | assumption | (simp only [g_new, g_up]; omega) | omega) ?_ | refine g_new_of (by first | assumption | (simp only [g_new, g_up]; omega) | omega) ?_))) q904 dJ2_grow_2_4 ?_
  refine V_istore_n dJ2_grow_2_5 (by decide) ?_
  refine V_iload_n dJ2_grow_2_6 rfl ?_
  refine V_if_gt 20 dJ2_grow_2_7 (by decide) (fun _ => ?_) (fun c7 => absurd (nI_lt (a := 0) (by omega) (by omega)) c7)
  refine V_iload_n dJ2_grow_2_20 rfl ?_
  refine V_iload_n dJ2_grow_2_21 rfl ?_
  refine V_iload_n dJ2_grow_2_22 rfl ?_
  refine V_isub dJ2_grow_2_23 ?_
  rw [ed]
  refine V_iload_n dJ2_grow_2_24 rfl ?_
  refine V_iconstv 1 dJ2_grow_2_25 (by decide) ?_
  refine V_ishr dJ2_grow_2_26 ?_
  rw [es]
  refine V_callS kJ16_newLength q858 q609 dJ2_grow_2_27 ?_ (d' := 1) (as := [_, _, _]) (hst := rfl)
  refine (jc_newLength el (by omega) (by omega) ?_)
  refine V_istore_n dJ2_grow_2_30 (by decide) ?_
  refine V_aload_n dJ2_grow_2_31 rfl (Or.inl ⟨_, rfl⟩) ?_
  refine V_aload_n dJ2_grow_2_32 rfl (Or.inl ⟨_, rfl⟩) ?_
  refine V_get ckJ2 (by first | assumption | (repeat (first | exact g_up_at | exact g_new_at rfl | assumption | refine g_up_of (by first | assumption | (simp only [g_new, g_up]; omega) | omega) ?_ | refine g_new_of (by first | assumption | (simp only [g_new, g_up]; omega) | omega) ?_))) 1 (by decide) q209 rfl (by rfl) dJ2_grow_2_33 ?_
  refine V_iload_n dJ2_grow_2_36 rfl ?_
  refine V_callS kJ18_copyOf_2 q859 q860 dJ2_grow_2_37 ?_ (d' := 2) (as := [_, _]) (hst := rfl)
  refine (arr_copyOf2 hr (by omega) (by omega) hf hel ?_)
  refine V_dup_x1 dJ2_grow_2_40 rfl rfl ?_
  refine V_put ckJ2 (by first | assumption | (repeat (first | exact g_up_at | exact g_new_at rfl | assumption | refine g_up_of (by first | assumption | (simp only [g_new, g_up]; omega) | omega) ?_ | refine g_new_of (by first | assumption | (simp only [g_new, g_up]; omega) | omega) ?_))) (by first | assumption | omega | (simp only [g_new, g_up]; omega) | (simp only [g_new, g_up, g_B] at *; omega)) 1 (by decide) q209 rfl rfl rfl rfl (Nat.le_of_ble_eq_true rfl) dJ2_grow_2_41 ?_
  refine V_areturnA dJ2_grow_2_44 rfl ?_
  exact k
theorem nI_eqI {a b : Nat} (ha : a < 2 ^ 31) (hb : b < 2 ^ 31) : nI a = nI b ↔ a = b := nI_eq ha hb
theorem als_grow {al : Nat} {v : Value} {mc : Int32} {n : Nat} (hg : G.1 al = some (g_ob 19 [.int mc, v, .int (nI n)])) (S : g_Spc l E mJ2_grow_2 3 [.ref al, .int (nI (n + 1))] G (fun o G' => ∃ a, o = .returned (some (.ref a)) ∧ P o G')) : g_Spc l E mJ2_grow 4 [.ref al] G P := by
  refine V_intro (plainFor_of_name plJ2) (Nat.le_of_ble_eq_true rfl) ?_
  refine V_aload_n dJ2_grow_0 rfl (Or.inl ⟨_, rfl⟩) ?_
  refine V_aload_n dJ2_grow_1 rfl (Or.inl ⟨_, rfl⟩) ?_
  refine V_get ckJ2 (by first | assumption | (repeat (first | exact g_up_at | exact g_new_at rfl | assumption | refine g_up_of (by first | assumption | (simp only [g_new, g_up]; omega) | omega) ?_ | refine g_new_of (by first | assumption | (simp only [g_new, g_up]; omega) | omega) ?_))) 2 (by decide) q210 rfl (by rfl) dJ2_grow_2 ?_
  refine V_iconstv 1 dJ2_grow_5 (by decide) ?_
  refine V_iadd dJ2_grow_6 ?_
  rw [show nI n + 1 = nI (n + 1) from nI_1 n]
  refine V_callV (q := (RJ2, TJ2, 3)) kJ2_grow_2 q854 q856 qs7 (by first | assumption | (repeat (first | exact g_up_at | exact g_new_at rfl | assumption | refine g_up_of (by first | assumption | (simp only [g_new, g_up]; omega) | omega) ?_ | refine g_new_of (by first | assumption | (simp only [g_new, g_up]; omega) | omega) ?_))) rfl dJ2_grow_7 ?_ (d' := 3) (as := [_]) (hst := rfl)
  refine (S.imp (fun o G' h => ?_))
  obtain ⟨a, e, h⟩ := h
  subst e
  refine V_areturnA dJ2_grow_10 rfl ?_
  exact h
/-- add at the end -/
theorem als_add {A : Nat → Prop} {n al a : Nat} {as : List Nat} {x : va_E} (h : AlsAt E A n G al as) (hB : g_B E ≤ n) (hn : n ≤ G.2.1) (hA : ∀ q, G.2.1 ≤ q → A q) (ha : G.1 a = some x) (hx : g_cast E x "java/lang/Object") (hna : a ≠ al) (hel : ∀ b ∈ as, ∃ y, b ≠ al ∧ G.1 b = some y ∧ g_cast E y "java/lang/Object") (hlen : as.length ≤ 60) (hf : g_fit E G 1 90) (kk : ∀ G', g_mod (fun q => q ≠ al ∧ ¬ AlsAr E n G al q) G G' 1 90 → (∀ q, q < G.2.1 → AlsNo G al q → AlsNo G' al q) → AlsAt E A n G' al (as ++ [a]) → P (.returned (some (.int 1))) G') : g_Spc l E mJ2_add 6 [.ref al, .ref a] G P := by
  obtain ⟨h1, h2, mc, ar, h3, h4⟩ := h
  obtain ⟨hf1, hf2⟩ := hf
  refine V_intro (plainFor_of_name plJ2) (Nat.le_of_ble_eq_true rfl) ?_
  refine V_wf (fun wf hBG => ?_)
  have hal := wf.ne h3
  have haa := wf.ne ha
  have tail : ∀ {P : Outcome → g_G → Prop} (G1 : g_G) (r cap : Nat) (f : Nat → Option Nat), g_mod (fun q => q ≠ al ∧ ¬ AlsAr E n G al q) G G1 1 90 → n ≤ r → A r → G1.1 al = some (g_ob 19 [.int (mc + 1), .ref r, .int (nI as.length)]) → G1.1 r = some (g_aq E "java/lang/Object" cap f) → as.length < cap → 10 ≤ cap → cap ≤ 100 → G1.1 a = some x → (∀ q y, G.1 q = some y → ¬ AlsAr E n G al q → q ≠ r) → (r = ar ∨ r = G.2.1) → (∀ k b, as[k]? = some b → f k = some b) → (∀ G', g_mod (fun q => q ≠ al ∧ ¬ AlsAr E n G al q) G G' 1 90 → (∀ q, q < G.2.1 → AlsNo G al q → AlsNo G' al q) → AlsAt E A n G' al (as ++ [a]) → P (.returned none) G') → V l E mJ2_add_2 5 P 11 [(0, .ref al), (1, .ref a), (2, .ref r), (3, .int (nI as.length))] [] G1 := by
    intro P G1 r cap f m0 n1 n2 g1 g2 g4 g5 g5b g6 hr hrr hfk k
    have hin : vp_in (nI as.length) cap := vp_in_nI g4 (by omega)
    have hne : al ≠ r := g_apart g1 g2 (by intro e; cases e)
    have hBr : g_B E ≤ r := by omega
    refine V_aload_n dJ2_add_2_11 rfl (Or.inl ⟨_, rfl⟩) ?_
    refine V_iload_n dJ2_add_2_12 rfl ?_
    refine V_aload_n dJ2_add_2_13 rfl (Or.inl ⟨_, rfl⟩) ?_
    refine V_aastore (by first | assumption | (repeat (first | exact g_up_at | exact g_new_at rfl | assumption | refine g_up_of (by first | assumption | (simp only [g_new, g_up]; omega) | omega) ?_ | refine g_new_of (by first | assumption | (simp only [g_new, g_up]; omega) | omega) ?_))) (by first | assumption | omega | (simp only [g_new, g_up]; omega) | (simp only [g_new, g_up, g_B] at *; omega)) g6 hx (by first | assumption | exact g_in (by decide)) q904 dJ2_add_2_14 ?_
    rw [nI_clamp (by omega)]
    refine V_aload_n dJ2_add_2_15 rfl (Or.inl ⟨_, rfl⟩) ?_
    refine V_iload_n dJ2_add_2_16 rfl ?_
    refine V_iconstv 1 dJ2_add_2_17 (by decide) ?_
    refine V_iadd dJ2_add_2_18 ?_
    rw [show nI as.length + 1 = nI (as.length + 1) from nI_1 _]
    refine V_put ckJ2 (by first | assumption | (repeat (first | exact g_up_at | exact g_new_at rfl | assumption | refine g_up_of (by first | assumption | (simp only [g_new, g_up]; omega) | omega) ?_ | refine g_new_of (by first | assumption | (simp only [g_new, g_up]; omega) | omega) ?_))) (by first | assumption | omega | (simp only [g_new, g_up]; omega) | (simp only [g_new, g_up, g_B] at *; omega)) 2 (by decide) q210 rfl rfl rfl rfl (Nat.le_of_ble_eq_true rfl) dJ2_add_2_19 ?_
    refine V_return dJ2_add_2_22 rfl ?_
    have m1 : g_ke (fun q => q ≠ al ∧ ¬ AlsAr E n G al q) G (g_up (g_up G1 r (g_aq E "java/lang/Object" cap (va_up f as.length (some a)))) al (g_ob 19 [.int (mc + 1), .ref r, .int (nI (as.length + 1))])) := fun q y hq hy => g_up_of hq.1 (g_up_of (hr q y hy hq.2) (m0.1 q y hq hy))
    refine k _ ⟨m1, m0.2⟩ (fun q hq hno => AlsNo.of g_up_at (by
      have e1 := AlsNo.ne h3 hno
      rcases hrr with e | e
      · rw [e]; exact e1
      · rw [e]; omega)) ⟨h1, h2, mc + 1, r, ?_, Or.inr ⟨n1, n2, cap, _, ?_, g5, g5b, g_up_of hne.symm g_up_at, fun q b hb => ?_⟩⟩
    · rw [List.length_append]
      exact g_up_at
    · rw [List.length_append, show [a].length = 1 from rfl]
      omega
    · rcases at_push hb with e | ⟨e1, e2⟩
      · have hl := lt_of_at e
        rw [va_up_ne _ _ (by omega)]
        exact hfk q b e
      · subst e1
        subst e2
        exact va_up_self _ _ _
  have k1 : g_ke (fun q => q ≠ al) G (g_up G al (g_ob 19 [.int (mc + 1), .ref ar, .int (nI as.length)])) := g_ke.up (fun q => q rfl) _
  have add2 : ∀ {P : Outcome → g_G → Prop}, (∀ G', g_mod (fun q => q ≠ al ∧ ¬ AlsAr E n G al q) G G' 1 90 → (∀ q, q < G.2.1 → AlsNo G al q → AlsNo G' al q) → AlsAt E A n G' al (as ++ [a]) → P (.returned none) G') → g_Spc l E mJ2_add_2 5 [.ref al, .ref a, .ref ar, .int (nI as.length)] (g_up G al (g_ob 19 [.int (mc + 1), .ref ar, .int (nI as.length)])) P := by
    intro P kk
    refine V_intro (plainFor_of_name plJ2) (Nat.le_of_ble_eq_true rfl) ?_
    rcases h4 with ⟨h4, h5⟩ | ⟨h4, h5, cap, f, h6, h6b, h6c, h7, h8⟩
    · subst h4
      subst h5
      refine V_okk fun ok => ?_
      refine V_iload_n dJ2_add_2_0 rfl ?_
      refine V_aload_n dJ2_add_2_1 rfl (Or.inl ⟨_, rfl⟩) ?_
      refine V_alenR_q (Or.inr (emp_c ok)) q904 dJ2_add_2_2 ?_
      refine V_icmp_ne 11 dJ2_add_2_3 (by decide) (fun c3 => absurd c3 (fun q => q rfl)) (fun _ => ?_)
      refine V_aload_n dJ2_add_2_6 rfl (Or.inl ⟨_, rfl⟩) ?_
      refine V_callV (q := (RJ2, TJ2, 3)) kJ2_grow q850 q852 qs6 (by first | assumption | (repeat (first | exact g_up_at | exact g_new_at rfl | assumption | refine g_up_of (by first | assumption | (simp only [g_new, g_up]; omega) | omega) ?_ | refine g_new_of (by first | assumption | (simp only [g_new, g_up]; omega) | omega) ?_))) rfl dJ2_add_2_7 ?_ (d' := 4) (as := []) (hst := rfl)
      refine (als_grow (n := 0) g_up_at (als_growE g_up_at (by omega) ⟨by simp only [g_up]; omega, by simp only [g_up]; omega⟩ ⟨_, rfl, ?_⟩))
      refine V_astore_n dJ2_add_2_10 (Or.inl ⟨_, rfl⟩) (by decide) ?_
      refine V_subk (tail _ G.2.1 10 (fun _ => none) ⟨?_, ?_, ?_, ?_, ?_⟩ hn (hA _ (Nat.le_refl _)) g_up_at (g_up_of hal.symm (g_new_at rfl)) (by decide) (by decide) (by decide) (g_up_of hna (g_new_of haa (g_up_of hna ha))) (fun q y hy _ e => absurd e (wf.ne hy)) (Or.inr rfl) (fun k b hb => by simp at hb) kk) ⟨rfl, rfl, rfl, rfl, trivial⟩
      · exact fun q y hq hy => g_up_of hq.1 (g_new_of (wf.ne hy) (g_up_of hq.1 hy))
      · simp only [g_new, g_up]; omega
      · simp only [g_new, g_up]; omega
      · simp only [g_new, g_up]; omega
      · simp only [g_new, g_up]; omega
    · have hra : ar ≠ al := g_apart h7 h3 (by intro e; cases e)
      have har : AlsAr E n G al ar := ⟨h4, ⟨mc, _, h3⟩, cap, f, h7⟩
      have hrr := wf.ne h7
      by_cases hc : as.length = cap
      · have hel2 : ∀ i, i < cap → ∀ y, f i = some y → ∃ x, (g_up G al (g_ob 19 [.int (mc + 1), .ref ar, .int (nI as.length)])).1 y = some x ∧ g_cast E x "java/lang/Object" := by
          intro i hi y hy
          have hi2 : i < as.length := by omega
          have e9 := h8 i _ (List.getElem?_eq_getElem hi2)
          rw [hy] at e9
          cases e9
          obtain ⟨z, z1, z2, z3⟩ := hel _ (List.getElem_mem hi2)
          exact ⟨z, g_up_of z1 z2, z3⟩
        refine V_iload_n dJ2_add_2_0 rfl ?_
        refine V_aload_n dJ2_add_2_1 rfl (Or.inl ⟨_, rfl⟩) ?_
        refine V_alen_q (g_up_of hra h7) q904 dJ2_add_2_2 ?_
        refine V_icmp_ne 11 dJ2_add_2_3 (by decide) (fun c3 => absurd c3 (fun q => q (by rw [hc]))) (fun _ => ?_)
        refine V_aload_n dJ2_add_2_6 rfl (Or.inl ⟨_, rfl⟩) ?_
        refine V_callV (q := (RJ2, TJ2, 3)) kJ2_grow q850 q852 qs6 (by first | assumption | (repeat (first | exact g_up_at | exact g_new_at rfl | assumption | refine g_up_of (by first | assumption | (simp only [g_new, g_up]; omega) | omega) ?_ | refine g_new_of (by first | assumption | (simp only [g_new, g_up]; omega) | omega) ?_))) rfl dJ2_add_2_7 ?_ (d' := 4) (as := []) (hst := rfl)
        refine (als_grow (n := cap) (by rw [← hc]; exact g_up_at) (als_growF (by rw [← hc]; exact g_up_at) (g_up_of hra h7) (by omega) (by omega) (by omega) ⟨by simp only [g_up]; omega, by simp only [g_up]; omega⟩ hel2 ⟨_, rfl, ?_⟩))
        refine V_astore_n dJ2_add_2_10 (Or.inl ⟨_, rfl⟩) (by decide) ?_
        · have hD : cap / 2 ≤ cap := Nat.div_le_self _ _
          have hE : 5 ≤ cap / 2 := by omega
          refine V_subk (tail _ G.2.1 (cap + cap / 2) _ ⟨?_, ?_, ?_, ?_, ?_⟩ hn (hA _ (Nat.le_refl _)) (by rw [← hc]; exact g_up_at) (g_up_of hal.symm (g_new_at rfl)) (by omega) (by omega) (by omega) (g_up_of hna (g_new_of haa (g_up_of hna ha))) (fun q y hy _ e => absurd e (wf.ne hy)) (Or.inr rfl) (fun k b hb => ?_) kk) ⟨rfl, rfl, rfl, by rw [hc]; rfl, trivial⟩
          · exact fun q y hq hy => g_up_of hq.1 (g_new_of (wf.ne hy) (g_up_of hq.1 hy))
          · simp only [g_new, g_up]; omega
          · simp only [g_new, g_up]; omega
          · simp only [g_new, g_up]; omega
          · simp only [g_new, g_up]; omega
          · have hl := lt_of_at hb
            rw [pk_cpy_in (Nat.zero_le _) (by omega), Nat.zero_add, Nat.sub_zero]
            exact h8 k b hb
      · refine V_iload_n dJ2_add_2_0 rfl ?_
        refine V_aload_n dJ2_add_2_1 rfl (Or.inl ⟨_, rfl⟩) ?_
        refine V_alen_q (g_up_of hra h7) q904 dJ2_add_2_2 ?_
        refine V_icmp_ne 11 dJ2_add_2_3 (by decide) (fun _ => ?_) (fun c3 => absurd c3 (fun q => hc ((nI_eqI (by omega) (by omega)).mp q)))
        refine V_subk (tail _ ar cap f ⟨k1.mono (fun q h => h.1), Nat.le_refl _, Nat.le_add_right _ _, Nat.le_refl _, Nat.le_add_right _ _⟩ h4 h5 g_up_at (g_up_of hra h7) (by omega) h6b h6c (g_up_of hna ha) (fun q y hy hq e => hq (by rw [e]; exact har)) (Or.inl rfl) h8 kk) ⟨rfl, rfl, rfl, rfl, trivial⟩
  refine V_aload_n dJ2_add_0 rfl (Or.inl ⟨_, rfl⟩) ?_
  refine V_dup dJ2_add_1 rfl ?_
  refine V_getI ckJ2 (by first | assumption | (repeat (first | exact g_up_at | exact g_new_at rfl | assumption | refine g_up_of (by first | assumption | (simp only [g_new, g_up]; omega) | omega) ?_ | refine g_new_of (by first | assumption | (simp only [g_new, g_up]; omega) | omega) ?_))) 0 (by decide) q214 q215 (by rfl) dJ2_add_2 ?_
  refine V_iconstv 1 dJ2_add_5 (by decide) ?_
  refine V_iadd dJ2_add_6 ?_
  refine V_putI ckJ2 (by first | assumption | (repeat (first | exact g_up_at | exact g_new_at rfl | assumption | refine g_up_of (by first | assumption | (simp only [g_new, g_up]; omega) | omega) ?_ | refine g_new_of (by first | assumption | (simp only [g_new, g_up]; omega) | omega) ?_))) (by first | assumption | omega | (simp only [g_new, g_up]; omega) | (simp only [g_new, g_up, g_B] at *; omega)) 0 (by decide) q214 q215 rfl rfl rfl (Nat.le_of_ble_eq_true rfl) dJ2_add_7 ?_
  refine V_aload_n dJ2_add_10 rfl (Or.inl ⟨_, rfl⟩) ?_
  refine V_aload_n dJ2_add_11 rfl (Or.inl ⟨_, rfl⟩) ?_
  refine V_aload_n dJ2_add_12 rfl (Or.inl ⟨_, rfl⟩) ?_
  refine V_get ckJ2 (by first | assumption | (repeat (first | exact g_up_at | exact g_new_at rfl | assumption | refine g_up_of (by first | assumption | (simp only [g_new, g_up]; omega) | omega) ?_ | refine g_new_of (by first | assumption | (simp only [g_new, g_up]; omega) | omega) ?_))) 1 (by decide) q209 rfl (by rfl) dJ2_add_13 ?_
  refine V_aload_n dJ2_add_16 rfl (Or.inl ⟨_, rfl⟩) ?_
  refine V_get ckJ2 (by first | assumption | (repeat (first | exact g_up_at | exact g_new_at rfl | assumption | refine g_up_of (by first | assumption | (simp only [g_new, g_up]; omega) | omega) ?_ | refine g_new_of (by first | assumption | (simp only [g_new, g_up]; omega) | omega) ?_))) 2 (by decide) q210 rfl (by rfl) dJ2_add_17 ?_
  refine V_callV (q := (RJ2, TJ2, 3)) kJ2_add_2 q846 q848 qs5 (by first | assumption | (repeat (first | exact g_up_at | exact g_new_at rfl | assumption | refine g_up_of (by first | assumption | (simp only [g_new, g_up]; omega) | omega) ?_ | refine g_new_of (by first | assumption | (simp only [g_new, g_up]; omega) | omega) ?_))) rfl dJ2_add_20 ?_ (d' := 5) (as := [_, _, _]) (hst := rfl)
  refine (add2 (fun G' m hno hh => ?_))
  refine V_iconstv 1 dJ2_add_23 (by decide) ?_
  refine V_zreturn dJ2_add_24 rfl rfl ?_
  exact kk _ m hno hh
/-- add at a place; there is room, or nothing yet -/
theorem als_addAt {A : Nat → Prop} {n al a k : Nat} {as : List Nat} {x : va_E} {i : Int32} (h : AlsAt E A n G al as) (hB : g_B E ≤ n) (hn : n ≤ G.2.1) (hA : ∀ q, G.2.1 ≤ q → A q) (ha : G.1 a = some x) (hx : g_cast E x "java/lang/Object") (hna : a ≠ al) (hel : ∀ b ∈ as, ∃ y, b ≠ al ∧ G.1 b = some y ∧ g_cast E y "java/lang/Object") (hi : i = nI k) (hk : k ≤ as.length) (hlen : as.length ≤ 9) (hf : g_fit E G 1 10) (kk : ∀ G', g_mod (fun q => q ≠ al ∧ ¬ AlsAr E n G al q) G G' 1 10 → AlsAt E A n G' al (as.take k ++ a :: as.drop k) → P (.returned none) G') : g_Spc l E mJ2_add_3 5 [.ref al, .int i, .ref a] G P := by
  subst hi
  obtain ⟨h1, h2, mc, ar, h3, h4⟩ := h
  obtain ⟨hf1, hf2⟩ := hf
  have hlenk : (as.take k ++ a :: as.drop k).length = as.length + 1 := by
    rw [List.length_append, List.length_cons, List.length_take, List.length_drop]; omega
  have rc : ∀ {P : Outcome → g_G → Prop}, P (.returned none) G → g_Spc l E mJ2_rangeCheckForAdd 0 [.ref al, .int (nI k)] G P := by
    intro P kp
    refine V_intro (plainFor_of_name plJ2) (Nat.le_of_ble_eq_true rfl) ?_
    refine V_iload_n dJ2_rangeCheckForAdd_0 rfl ?_
    refine V_aload_n dJ2_rangeCheckForAdd_1 rfl (Or.inl ⟨_, rfl⟩) ?_
    refine V_get ckJ2 (by first | assumption | (repeat (first | exact g_up_at | exact g_new_at rfl | assumption | refine g_up_of (by first | assumption | (simp only [g_new, g_up]; omega) | omega) ?_ | refine g_new_of (by first | assumption | (simp only [g_new, g_up]; omega) | omega) ?_))) 2 (by decide) q210 rfl (by rfl) dJ2_rangeCheckForAdd_2 ?_
    refine V_icmp_gt 12 dJ2_rangeCheckForAdd_5 (by decide) (fun c5 => absurd c5 (nI_nlt hk (by omega))) (fun _ => ?_)
    refine V_iload_n dJ2_rangeCheckForAdd_8 rfl ?_
    refine V_if_ge 25 dJ2_rangeCheckForAdd_9 (by decide) (fun _ => ?_) (fun c9 => absurd (nI_pos' (by omega)) c9)
    refine V_return dJ2_rangeCheckForAdd_25 rfl ?_
    exact kp
  refine V_intro (plainFor_of_name plJ2) (Nat.le_of_ble_eq_true rfl) ?_
  refine V_wf (fun wf hBG => ?_)
  have hal := wf.ne h3
  have haa := wf.ne ha
  have tail : ∀ (G1 : g_G) (r cap : Nat) (f : Nat → Option Nat), g_mod (fun q => q ≠ al ∧ ¬ AlsAr E n G al q) G G1 1 10 → n ≤ r → A r → G1.1 al = some (g_ob 19 [.int (mc + 1), .ref r, .int (nI as.length)]) → G1.1 r = some (g_aq E "java/lang/Object" cap f) → 10 ≤ cap → cap ≤ 100 → G1.1 a = some x → (∀ b ∈ as, ∃ y, G1.1 b = some y ∧ g_cast E y "java/lang/Object") → (∀ q y, G.1 q = some y → ¬ AlsAr E n G al q → q ≠ r) → (∀ k b, as[k]? = some b → f k = some b) → V l E mJ2_add_3 5 P 38 [(0, .ref al), (1, .int (nI k)), (2, .ref a), (3, .int (nI as.length)), (4, .ref r)] [] G1 := by
    intro G1 r cap f m0 n1 n2 g1 g2 g5 g5b g6 g7 hr hfk
    have hin : vp_in (nI k) cap := vp_in_nI (by omega) (by omega)
    have hne : al ≠ r := g_apart g1 g2 (by intro e; cases e)
    have har2 : a ≠ r := g_apart g6 g2 (by intro e; subst e; exact hx)
    have hBr : g_B E ≤ r := by omega
    have es : nI as.length - nI k = nI (as.length - k) := pk_sub (by omega)
    refine V_aload dJ2_add_3_38 rfl (Or.inl ⟨_, rfl⟩) ?_
    refine V_iload_n dJ2_add_3_40 rfl ?_
    refine V_aload dJ2_add_3_41 rfl (Or.inl ⟨_, rfl⟩) ?_
    refine V_iload_n dJ2_add_3_43 rfl ?_
    refine V_iconstv 1 dJ2_add_3_44 (by decide) ?_
    refine V_iadd dJ2_add_3_45 ?_
    rw [show nI k + 1 = nI (k + 1) from nI_1 _]
    refine V_iload_n dJ2_add_3_46 rfl ?_
    refine V_iload_n dJ2_add_3_47 rfl ?_
    refine V_isub dJ2_add_3_48 ?_
    rw [es]
    refine V_copyQ q1160 q634 q633 q137 q904 g2 g2 hBr (nI_pos (by omega)) (nI_pos (by omega)) (nI_pos (by omega)) (by rw [nI_clamp (by omega), nI_clamp (by omega)]; omega) (by rw [nI_clamp (by omega), nI_clamp (by omega)]; omega) ?_ (Nat.le_of_ble_eq_true rfl) (by decide) dJ2_add_3_49 ?_
    · intro j hj y hy
      rw [nI_clamp (by omega)] at hj
      rw [nI_clamp (by omega)] at hy
      have hj2 : k + j < as.length := by omega
      have e9 := hfk (k + j) _ (List.getElem?_eq_getElem hj2)
      rw [hy] at e9
      cases e9
      exact g7 _ (List.getElem_mem hj2)
    · rw [nI_clamp (by omega), nI_clamp (by omega), nI_clamp (by omega)]
      refine V_aload dJ2_add_3_52 rfl (Or.inl ⟨_, rfl⟩) ?_
      refine V_iload_n dJ2_add_3_54 rfl ?_
      refine V_aload_n dJ2_add_3_55 rfl (Or.inl ⟨_, rfl⟩) ?_
      refine V_aastore g_up_at (by first | assumption | omega | (simp only [g_new, g_up]; omega) | (simp only [g_new, g_up, g_B] at *; omega)) (g_up_of har2 g6) hx (by first | assumption | exact g_in (by decide)) q904 dJ2_add_3_56 ?_
      rw [nI_clamp (by omega), g_up_up]
      refine V_aload_n dJ2_add_3_57 rfl (Or.inl ⟨_, rfl⟩) ?_
      refine V_iload_n dJ2_add_3_58 rfl ?_
      refine V_iconstv 1 dJ2_add_3_59 (by decide) ?_
      refine V_iadd dJ2_add_3_60 ?_
      rw [show nI as.length + 1 = nI (as.length + 1) from nI_1 _]
      refine V_put ckJ2 (by first | assumption | (repeat (first | exact g_up_at | exact g_new_at rfl | assumption | refine g_up_of (by first | assumption | (simp only [g_new, g_up]; omega) | omega) ?_ | refine g_new_of (by first | assumption | (simp only [g_new, g_up]; omega) | omega) ?_))) (by first | assumption | omega | (simp only [g_new, g_up]; omega) | (simp only [g_new, g_up, g_B] at *; omega)) 2 (by decide) q210 rfl rfl rfl rfl (Nat.le_of_ble_eq_true rfl) dJ2_add_3_61 ?_
      refine V_return dJ2_add_3_64 rfl ?_
      have m1 : g_ke (fun q => q ≠ al ∧ ¬ AlsAr E n G al q) G (g_up (g_up G1 r (g_aq E "java/lang/Object" cap (va_up (va_cpy f f k (k + 1) (as.length - k)) k (some a)))) al (g_ob 19 [.int (mc + 1), .ref r, .int (nI (as.length + 1))])) := fun q y hq hy => g_up_of hq.1 (g_up_of (hr q y hy hq.2) (m0.1 q y hq hy))
      refine kk _ ⟨m1, m0.2⟩ ⟨h1, h2, mc + 1, r, ?_, Or.inr ⟨n1, n2, cap, _, ?_, g5, g5b, g_up_of hne.symm g_up_at, fun q b hb => ?_⟩⟩
      · rw [hlenk]
        exact g_up_at
      · rw [hlenk]
        omega
      · have hq := lt_of_at hb
        rw [hlenk] at hq
        have hlt : (as.take k).length = k := by rw [List.length_take]; omega
        by_cases e : q = k
        · subst e
          rw [List.getElem?_append_right (by omega), hlt, Nat.sub_self] at hb
          rw [va_up_self]
          exact hb
        · rw [va_up_ne _ _ e]
          by_cases e2 : q < k
          · rw [pk_cpy_out (Or.inl (by omega))]
            rw [List.getElem?_append_left (by omega), List.getElem?_take_of_lt e2] at hb
            exact hfk q b hb
          · rw [pk_cpy_in (by omega) (by omega)]
            rw [List.getElem?_append_right (by omega), hlt, show q - k = (q - (k + 1)) + 1 from by omega, List.getElem?_cons_succ, List.getElem?_drop] at hb
            exact hfk _ b hb
  have k1 : g_ke (fun q => q ≠ al) G (g_up G al (g_ob 19 [.int (mc + 1), .ref ar, .int (nI as.length)])) := g_ke.up (fun q => q rfl) _
  refine V_aload_n dJ2_add_3_0 rfl (Or.inl ⟨_, rfl⟩) ?_
  refine V_iload_n dJ2_add_3_1 rfl ?_
  refine V_callV (q := (RJ2, TJ2, 3)) kJ2_rangeCheckForAdd q1769 q1771 qs27 (by first | assumption | (repeat (first | exact g_up_at | exact g_new_at rfl | assumption | refine g_up_of (by first | assumption | (simp only [g_new, g_up]; omega) | omega) ?_ | refine g_new_of (by first | assumption | (simp only [g_new, g_up]; omega) | omega) ?_))) rfl dJ2_add_3_2 ?_ (d' := 0) (as := [_]) (hst := rfl)
  refine (rc ?_)
  refine V_aload_n dJ2_add_3_5 rfl (Or.inl ⟨_, rfl⟩) ?_
  refine V_dup dJ2_add_3_6 rfl ?_
  refine V_getI ckJ2 (by first | assumption | (repeat (first | exact g_up_at | exact g_new_at rfl | assumption | refine g_up_of (by first | assumption | (simp only [g_new, g_up]; omega) | omega) ?_ | refine g_new_of (by first | assumption | (simp only [g_new, g_up]; omega) | omega) ?_))) 0 (by decide) q214 q215 (by rfl) dJ2_add_3_7 ?_
  refine V_iconstv 1 dJ2_add_3_10 (by decide) ?_
  refine V_iadd dJ2_add_3_11 ?_
  refine V_putI ckJ2 (by first | assumption | (repeat (first | exact g_up_at | exact g_new_at rfl | assumption | refine g_up_of (by first | assumption | (simp only [g_new, g_up]; omega) | omega) ?_ | refine g_new_of (by first | assumption | (simp only [g_new, g_up]; omega) | omega) ?_))) (by first | assumption | omega | (simp only [g_new, g_up]; omega) | (simp only [g_new, g_up, g_B] at *; omega)) 0 (by decide) q214 q215 rfl rfl rfl (Nat.le_of_ble_eq_true rfl) dJ2_add_3_12 ?_
  refine V_aload_n dJ2_add_3_15 rfl (Or.inl ⟨_, rfl⟩) ?_
  refine V_get ckJ2 (by first | assumption | (repeat (first | exact g_up_at | exact g_new_at rfl | assumption | refine g_up_of (by first | assumption | (simp only [g_new, g_up]; omega) | omega) ?_ | refine g_new_of (by first | assumption | (simp only [g_new, g_up]; omega) | omega) ?_))) 2 (by decide) q210 rfl (by rfl) dJ2_add_3_16 ?_
  refine V_dup dJ2_add_3_19 rfl ?_
  refine V_istore_n dJ2_add_3_20 (by decide) ?_
  refine V_aload_n dJ2_add_3_21 rfl (Or.inl ⟨_, rfl⟩) ?_
  refine V_get ckJ2 (by first | assumption | (repeat (first | exact g_up_at | exact g_new_at rfl | assumption | refine g_up_of (by first | assumption | (simp only [g_new, g_up]; omega) | omega) ?_ | refine g_new_of (by first | assumption | (simp only [g_new, g_up]; omega) | omega) ?_))) 1 (by decide) q209 rfl (by rfl) dJ2_add_3_22 ?_
  refine V_dup dJ2_add_3_25 rfl ?_
  refine V_astore dJ2_add_3_26 (Or.inl ⟨_, rfl⟩) (by decide) ?_
  rcases h4 with ⟨h4, h5⟩ | ⟨h4, h5, cap, f, h6, h6b, h6c, h7, h8⟩
  · subst h4
    subst h5
    refine V_okk fun ok => ?_
    refine V_alenR_q (Or.inr (emp_c ok)) q904 dJ2_add_3_28 ?_
    refine V_icmp_ne 38 dJ2_add_3_29 (by decide) (fun c29 => absurd c29 (fun q => q rfl)) (fun _ => ?_)
    refine V_aload_n dJ2_add_3_32 rfl (Or.inl ⟨_, rfl⟩) ?_
    refine V_callV (q := (RJ2, TJ2, 3)) kJ2_grow q850 q852 qs6 (by first | assumption | (repeat (first | exact g_up_at | exact g_new_at rfl | assumption | refine g_up_of (by first | assumption | (simp only [g_new, g_up]; omega) | omega) ?_ | refine g_new_of (by first | assumption | (simp only [g_new, g_up]; omega) | omega) ?_))) rfl dJ2_add_3_33 ?_ (d' := 4) (as := []) (hst := rfl)
    refine (als_grow (n := 0) g_up_at (als_growE g_up_at (by omega) ⟨by simp only [g_up]; omega, by simp only [g_up]; omega⟩ ⟨_, rfl, ?_⟩))
    refine V_astore dJ2_add_3_36 (Or.inl ⟨_, rfl⟩) (by decide) ?_
    refine V_subk (tail _ G.2.1 10 (fun _ => none) ⟨?_, ?_, ?_, ?_, ?_⟩ hn (hA _ (Nat.le_refl _)) g_up_at (g_up_of hal.symm (g_new_at rfl)) (by decide) (by decide) (g_up_of hna (g_new_of haa (g_up_of hna ha))) (fun b hb => nomatch hb) (fun q y hy _ e => absurd e (wf.ne hy)) (fun k b hb => by simp at hb)) ⟨rfl, rfl, rfl, rfl, rfl, trivial⟩
    · exact fun q y hq hy => g_up_of hq.1 (g_new_of (wf.ne hy) (g_up_of hq.1 hy))
    · simp only [g_new, g_up]; omega
    · simp only [g_new, g_up]; omega
    · simp only [g_new, g_up]; omega
    · simp only [g_new, g_up]; omega
  · have hra : ar ≠ al := g_apart h7 h3 (by intro e; cases e)
    have har : AlsAr E n G al ar := ⟨h4, ⟨mc, _, h3⟩, cap, f, h7⟩
    refine V_alen_q (g_up_of hra h7) q904 dJ2_add_3_28 ?_
    refine V_icmp_ne 38 dJ2_add_3_29 (by decide) (fun _ => ?_) (fun c29 => absurd c29 (fun q => absurd ((nI_eqI (by omega) (by omega)).mp q) (by omega)))
    refine V_subk (tail _ ar cap f ⟨k1.mono (fun q h => h.1), Nat.le_refl _, Nat.le_add_right _ _, Nat.le_refl _, Nat.le_add_right _ _⟩ h4 h5 g_up_at (g_up_of hra h7) h6b h6c (g_up_of hna ha) (fun b hb => ?_) (fun q y hy hq e => hq (by rw [e]; exact har)) h8) ⟨rfl, rfl, rfl, rfl, rfl, trivial⟩
    obtain ⟨y, y1, y2, y3⟩ := hel b hb
    exact ⟨y, g_up_of y1 y2, y3⟩
/-- remove what is at a place -/
theorem als_remove {A : Nat → Prop} {n al a k : Nat} {as : List Nat} {i : Int32} (h : AlsAt E A n G al as) (hB : g_B E ≤ n) (hel : ∀ b ∈ as, ∃ y, b ≠ al ∧ G.1 b = some y ∧ g_cast E y "java/lang/Object") (hi : i = nI k) (ha : as[k]? = some a) (kk : ∀ G', G'.2 = G.2 → g_ke (fun q => q ≠ al ∧ ¬ AlsAr E n G al q) G G' → (∀ q, AlsNo G al q → AlsNo G' al q) → AlsAt E A n G' al (as.eraseIdx k) → P (.returned (some (.ref a))) G') : g_Spc l E mJ2_remove 3 [.ref al, .int i] G P := by
  subst hi
  obtain ⟨h1, h2, mc, ar, h3, h4⟩ := h
  have hk := lt_of_at ha
  rcases h4 with ⟨h4, -⟩ | ⟨h4, h5, cap, f, h6, h6b, h6c, h7, h8⟩
  · subst h4
    exact absurd hk (Nat.not_lt_zero _)
  have har : AlsAr E n G al ar := ⟨h4, ⟨mc, _, h3⟩, cap, f, h7⟩
  have hra : ar ≠ al := g_apart h7 h3 (by intro e; cases e)
  have hin : vp_in (nI k) cap := vp_in_nI (by omega) (by omega)
  have elen : (as.eraseIdx k).length = as.length - 1 := List.length_eraseIdx_of_lt hk
  have ep : nI as.length - 1 = nI (as.length - 1) := by
    have e9 := nI_1 (as.length - 1)
    rw [show as.length - 1 + 1 = as.length from by omega] at e9
    rw [← e9, Int32.add_sub_cancel]
  have fr : ∀ {P : Outcome → g_G → Prop}, (∀ G', G'.2 = G.2 → g_ke (fun q => q ≠ al ∧ ¬ AlsAr E n G al q) G G' → (∀ q, AlsNo G al q → AlsNo G' al q) → AlsAt E A n G' al (as.eraseIdx k) → P (.returned none) G') → g_Spc l E mJ2_fastRemove 1 [.ref al, .ref ar, .int (nI k)] G P := by
    intro P kp
    have k1 : g_ke (fun q => q ≠ al) G (g_up G al (g_ob 19 [.int (mc + 1), .ref ar, .int (nI as.length)])) := g_ke.up (fun q => q rfl) _
    have tail : ∀ (G1 : g_G) (f1 : Nat → Option Nat), G1.2 = G.2 → g_ke (fun q => q ≠ al ∧ q ≠ ar) G G1 → G1.1 al = some (g_ob 19 [.int (mc + 1), .ref ar, .int (nI as.length)]) → G1.1 ar = some (g_aq E "java/lang/Object" cap f1) → (∀ q b, (as.eraseIdx k)[q]? = some b → f1 q = some b) → V l E mJ2_fastRemove 1 P 34 [(0, .ref al), (1, .ref ar), (2, .int (nI k)), (3, .int (nI (as.length - 1)))] [] G1 := by
      intro G1 f1 e1 e2 e3 e4 e5
      have hin9 : vp_in (nI (as.length - 1)) cap := vp_in_nI (by omega) (by omega)
      have hBr : g_B E ≤ ar := by omega
      refine V_aload_n dJ2_fastRemove_34 rfl (Or.inl ⟨_, rfl⟩) ?_
      refine V_aload_n dJ2_fastRemove_35 rfl (Or.inl ⟨_, rfl⟩) ?_
      refine V_iload_n dJ2_fastRemove_36 rfl ?_
      refine V_dup_x1 dJ2_fastRemove_37 rfl rfl ?_
      refine V_put ckJ2 (by first | assumption | (repeat (first | exact g_up_at | exact g_new_at rfl | assumption | refine g_up_of (by first | assumption | (simp only [g_new, g_up]; omega) | omega) ?_ | refine g_new_of (by first | assumption | (simp only [g_new, g_up]; omega) | omega) ?_))) (by first | assumption | omega | (simp only [g_new, g_up]; omega) | (simp only [g_new, g_up, g_B] at *; omega)) 2 (by decide) q210 rfl rfl rfl rfl (Nat.le_of_ble_eq_true rfl) dJ2_fastRemove_38 ?_
      refine V_null dJ2_fastRemove_41 ?_
      refine V_aastoreN (g_up_of hra e4) (by first | assumption | omega | (simp only [g_new, g_up]; omega) | (simp only [g_new, g_up, g_B] at *; omega)) (by first | assumption | exact g_in (by decide)) q904 dJ2_fastRemove_42 ?_
      refine V_return dJ2_fastRemove_43 rfl ?_
      rw [nI_clamp (by omega)]
      refine kp _ e1 ?_ (fun q hno => AlsNo.of (g_up_of hra.symm g_up_at) (AlsNo.ne h3 hno)) ⟨h1, h2, mc + 1, ar, ?_, Or.inr ⟨h4, h5, cap, _, by omega, h6b, h6c, g_up_at, fun q b hb => ?_⟩⟩
      · exact fun q y hq hy => g_up_of (fun e => hq.2 (by rw [e]; exact har)) (g_up_of hq.1 (e2 q y ⟨hq.1, fun e => hq.2 (by rw [e]; exact har)⟩ hy))
      · rw [elen]
        exact g_up_of hra.symm g_up_at
      · have hl := lt_of_at hb
        rw [va_up_ne _ _ (by omega)]
        exact e5 q b hb
    refine V_intro (plainFor_of_name plJ2) (Nat.le_of_ble_eq_true rfl) ?_
    refine V_aload_n dJ2_fastRemove_0 rfl (Or.inl ⟨_, rfl⟩) ?_
    refine V_dup dJ2_fastRemove_1 rfl ?_
    refine V_getI ckJ2 (by first | assumption | (repeat (first | exact g_up_at | exact g_new_at rfl | assumption | refine g_up_of (by first | assumption | (simp only [g_new, g_up]; omega) | omega) ?_ | refine g_new_of (by first | assumption | (simp only [g_new, g_up]; omega) | omega) ?_))) 0 (by decide) q214 q215 (by rfl) dJ2_fastRemove_2 ?_
    refine V_iconstv 1 dJ2_fastRemove_5 (by decide) ?_
    refine V_iadd dJ2_fastRemove_6 ?_
    refine V_putI ckJ2 (by first | assumption | (repeat (first | exact g_up_at | exact g_new_at rfl | assumption | refine g_up_of (by first | assumption | (simp only [g_new, g_up]; omega) | omega) ?_ | refine g_new_of (by first | assumption | (simp only [g_new, g_up]; omega) | omega) ?_))) (by first | assumption | omega | (simp only [g_new, g_up]; omega) | (simp only [g_new, g_up, g_B] at *; omega)) 0 (by decide) q214 q215 rfl rfl rfl (Nat.le_of_ble_eq_true rfl) dJ2_fastRemove_7 ?_
    refine V_aload_n dJ2_fastRemove_10 rfl (Or.inl ⟨_, rfl⟩) ?_
    refine V_get ckJ2 (by first | assumption | (repeat (first | exact g_up_at | exact g_new_at rfl | assumption | refine g_up_of (by first | assumption | (simp only [g_new, g_up]; omega) | omega) ?_ | refine g_new_of (by first | assumption | (simp only [g_new, g_up]; omega) | omega) ?_))) 2 (by decide) q210 rfl (by rfl) dJ2_fastRemove_11 ?_
    refine V_iconstv 1 dJ2_fastRemove_14 (by decide) ?_
    refine V_isub dJ2_fastRemove_15 ?_
    rw [ep]
    refine V_dup dJ2_fastRemove_16 rfl ?_
    refine V_istore_n dJ2_fastRemove_17 (by decide) ?_
    refine V_iload_n dJ2_fastRemove_18 rfl ?_
    by_cases hlast : k = as.length - 1
    · refine V_icmp_le 34 dJ2_fastRemove_19 (by decide) (fun _ => ?_) (fun c19 => absurd (nI_le (by omega) (by omega)) c19)
      refine V_subk (tail _ f rfl (k1.mono fun q h => h.1) g_up_at (g_up_of hra h7) (fun q b hb => ?_)) ⟨rfl, rfl, rfl, rfl, trivial⟩
      have hl := lt_of_at hb
      rw [erase_at, if_pos (by omega)] at hb
      exact h8 q b hb
    · have hin1 : k + 1 < as.length := by omega
      have es : nI (as.length - 1) - nI k = nI (as.length - 1 - k) := pk_sub (by omega)
      have hBr : g_B E ≤ ar := by omega
      refine V_icmp_le 34 dJ2_fastRemove_19 (by decide) (fun c19 => absurd c19 (fun q => absurd ((nI_leI (by omega) (by omega)).mp q) (by omega))) (fun _ => ?_)
      refine V_aload_n dJ2_fastRemove_22 rfl (Or.inl ⟨_, rfl⟩) ?_
      refine V_iload_n dJ2_fastRemove_23 rfl ?_
      refine V_iconstv 1 dJ2_fastRemove_24 (by decide) ?_
      refine V_iadd dJ2_fastRemove_25 ?_
      rw [show nI k + 1 = nI (k + 1) from nI_1 _]
      refine V_aload_n dJ2_fastRemove_26 rfl (Or.inl ⟨_, rfl⟩) ?_
      refine V_iload_n dJ2_fastRemove_27 rfl ?_
      refine V_iload_n dJ2_fastRemove_28 rfl ?_
      refine V_iload_n dJ2_fastRemove_29 rfl ?_
      refine V_isub dJ2_fastRemove_30 ?_
      rw [es]
      refine V_copyQ q1160 q634 q633 q137 q904 (g_up_of hra h7) (g_up_of hra h7) hBr (nI_pos (by omega)) (nI_pos (by omega)) (nI_pos (by omega)) (by rw [nI_clamp (by omega), nI_clamp (by omega)]; omega) (by rw [nI_clamp (by omega), nI_clamp (by omega)]; omega) ?_ (Nat.le_of_ble_eq_true rfl) (by decide) dJ2_fastRemove_31 ?_
      · intro j hj y hy
        rw [nI_clamp (by omega)] at hj
        rw [nI_clamp (by omega)] at hy
        have hj2 : k + 1 + j < as.length := by omega
        have e9 := h8 (k + 1 + j) _ (List.getElem?_eq_getElem hj2)
        rw [hy] at e9
        cases e9
        obtain ⟨y, y1, y2, y3⟩ := hel _ (List.getElem_mem hj2)
        exact ⟨y, g_up_of y1 y2, y3⟩
      · rw [nI_clamp (by omega), nI_clamp (by omega), nI_clamp (by omega)]
        refine V_subk (tail _ _ rfl (fun q y hq hy => g_up_of hq.2 (g_up_of hq.1 hy)) (g_up_of hra.symm g_up_at) g_up_at (fun q b hb => ?_)) ⟨rfl, rfl, rfl, rfl, trivial⟩
        have hl := lt_of_at hb
        rw [erase_at] at hb
        by_cases e : q < k
        · rw [if_pos e] at hb
          rw [pk_cpy_out (Or.inl e)]
          exact h8 q b hb
        · rw [if_neg e] at hb
          rw [pk_cpy_in (by omega) (by omega), show k + 1 + (q - k) = q + 1 from by omega]
          exact h8 _ b hb
  refine V_intro (plainFor_of_name plJ2) (Nat.le_of_ble_eq_true rfl) ?_
  refine V_iload_n dJ2_remove_0 rfl ?_
  refine V_aload_n dJ2_remove_1 rfl (Or.inl ⟨_, rfl⟩) ?_
  refine V_get ckJ2 (by first | assumption | (repeat (first | exact g_up_at | exact g_new_at rfl | assumption | refine g_up_of (by first | assumption | (simp only [g_new, g_up]; omega) | omega) ?_ | refine g_new_of (by first | assumption | (simp only [g_new, g_up]; omega) | omega) ?_))) 2 (by decide) q210 rfl (by rfl) dJ2_remove_2 ?_
  refine V_callS kJ13_checkIndex q550 q551 dJ2_remove_5 ?_ (d' := 1) (as := [_, _]) (hst := rfl)
  refine (jc_checkIndex hk (by omega) ?_)
  refine V_pop dJ2_remove_8 rfl ?_
  refine V_aload_n dJ2_remove_9 rfl (Or.inl ⟨_, rfl⟩) ?_
  refine V_get ckJ2 (by first | assumption | (repeat (first | exact g_up_at | exact g_new_at rfl | assumption | refine g_up_of (by first | assumption | (simp only [g_new, g_up]; omega) | omega) ?_ | refine g_new_of (by first | assumption | (simp only [g_new, g_up]; omega) | omega) ?_))) 1 (by decide) q209 rfl (by rfl) dJ2_remove_10 ?_
  refine V_astore_n dJ2_remove_13 (Or.inl ⟨_, rfl⟩) (by decide) ?_
  refine V_aload_n dJ2_remove_14 rfl (Or.inl ⟨_, rfl⟩) ?_
  refine V_iload_n dJ2_remove_15 rfl ?_
  refine V_aaload (by first | assumption | (repeat (first | exact g_up_at | exact g_new_at rfl | assumption | refine g_up_of (by first | assumption | (simp only [g_new, g_up]; omega) | omega) ?_ | refine g_new_of (by first | assumption | (simp only [g_new, g_up]; omega) | omega) ?_))) (by first | assumption | exact g_in (by decide)) q904 dJ2_remove_16 ?_
  rw [nI_clamp (by omega), h8 k a ha, va_rf_s]
  refine V_astore_n dJ2_remove_17 (Or.inl ⟨_, rfl⟩) (by decide) ?_
  refine V_aload_n dJ2_remove_18 rfl (Or.inl ⟨_, rfl⟩) ?_
  refine V_aload_n dJ2_remove_19 rfl (Or.inl ⟨_, rfl⟩) ?_
  refine V_iload_n dJ2_remove_20 rfl ?_
  refine V_callV (q := (RJ2, TJ2, 3)) kJ2_fastRemove q1156 q1158 qs10 (by first | assumption | (repeat (first | exact g_up_at | exact g_new_at rfl | assumption | refine g_up_of (by first | assumption | (simp only [g_new, g_up]; omega) | omega) ?_ | refine g_new_of (by first | assumption | (simp only [g_new, g_up]; omega) | omega) ?_))) rfl dJ2_remove_21 ?_ (d' := 1) (as := [_, _]) (hst := rfl)
  refine (fr (fun G' e1 e2 eno e3 => ?_))
  refine V_aload_n dJ2_remove_24 rfl (Or.inl ⟨_, rfl⟩) ?_
  refine V_areturnO dJ2_remove_25 rfl ?_
  exact kk _ e1 e2 eno e3
end ALIST
