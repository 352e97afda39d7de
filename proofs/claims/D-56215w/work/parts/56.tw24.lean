/-! REFERENCE 23: the constructor -/
set_option maxRecDepth 100000
/-- while the reference is made: fields fs, k arrays, sl slots -/
def tw_gi (E : g_E) (G : g_G) (m : Nat) (fs : List Value) (k sl : Nat) : g_G := (fun q => if q = m then some (g_ob 4 fs) else if m < q ∧ q ≤ m + k then some (g_ai E (twN (q - m)) (fun _ => 0)) else G.1 q, m + 1 + k, sl)
def tw_I0 (j : Nat) : Int32 := match j with
  | 7 => -1
  | 8 => -1
  | _ => 0
def tw_T0 : Tw := (fun a => if a = 1 then upd (fun _ => 0) 5 109 else fun _ => 0, tw_I0)
section TW24
variable {l : Launch} {E : g_E} {P : Outcome → g_G → Prop} {G : g_G} {m : Nat} {fs fs' : List Value} {k sl : Nat}
theorem gi_ob : (tw_gi E G m fs k sl).1 m = some (g_ob 4 fs) := if_pos rfl
theorem gi_ar (h0 : 0 < k) : (tw_gi E G m fs k sl).1 (m + 1) = some (g_ai E 136 (fun _ => 0)) := by
  show (if m + 1 = m then _ else if m < m + 1 ∧ m + 1 ≤ m + k then some (g_ai E (twN (m + 1 - m)) (fun _ => 0)) else G.1 (m + 1)) = _
  rw [if_neg (by omega), if_pos (by omega), show m + 1 - m = 1 by omega]
  rfl
theorem gi_up : g_up (tw_gi E G m fs k sl) m (g_ob 4 fs') = tw_gi E G m fs' k sl := by
  refine Prod.ext (funext fun q => ?_) rfl
  show va_up (tw_gi E G m fs k sl).1 m (some (g_ob 4 fs')) q = _
  by_cases hq : q = m
  · rw [hq, va_up_self]
    exact (if_pos rfl).symm
  · rw [va_up_ne _ _ hq]
    show (if q = m then _ else _) = if q = m then _ else _
    rw [if_neg hq, if_neg hq]
theorem gi_new {n : Nat} (hn : twN (k + 1) = n) : g_new (tw_gi E G m fs k sl) (g_ai E n (fun _ => 0)) n = tw_gi E G m fs (k + 1) (sl + n) := by
  refine Prod.ext (funext fun q => ?_) rfl
  show va_up (tw_gi E G m fs k sl).1 (m + 1 + k) (some (g_ai E n (fun _ => 0))) q = _
  by_cases hq : q = m + 1 + k
  · rw [hq, va_up_self]
    show _ = (if m + 1 + k = m then _ else if m < m + 1 + k ∧ m + 1 + k ≤ m + (k + 1) then some (g_ai E (twN (m + 1 + k - m)) (fun _ => 0)) else G.1 (m + 1 + k))
    rw [if_neg (by omega), if_pos (by omega), show m + 1 + k - m = k + 1 by omega, hn]
  · rw [va_up_ne _ _ hq]
    show (if q = m then _ else if m < q ∧ q ≤ m + k then _ else _) = (if q = m then _ else if m < q ∧ q ≤ m + (k + 1) then _ else _)
    by_cases h1 : q = m
    · rw [if_pos h1, if_pos h1]
    · rw [if_neg h1, if_neg h1]
      by_cases h2 : m < q ∧ q ≤ m + k
      · rw [if_pos h2, if_pos (by omega)]
      · rw [if_neg h2, if_neg (by omega)]
theorem gi_0 (h : G.1 m = some (g_ob 4 fs)) (e : G.2.1 = m + 1) : G = tw_gi E G m fs 0 G.2.2 := by
  refine Prod.ext (funext fun q => ?_) (Prod.ext (by rw [e]; rfl) rfl)
  show _ = (if q = m then _ else if m < q ∧ q ≤ m + 0 then _ else _)
  by_cases h1 : q = m
  · rw [if_pos h1, h1, h]
  · rw [if_neg h1, if_neg (by omega)]
theorem gi_end : g_up (tw_gi E G m (twF m tw_T0) 11 sl) (m + 1) (g_ai E 136 (upd (fun _ => 0) (Int32.toNatClampNeg 5) 109)) = g_tG E (G.1, m + 12, sl) m tw_T0 := by
  refine Prod.ext (funext fun q => ?_) rfl
  show va_up (tw_gi E G m (twF m tw_T0) 11 sl).1 (m + 1) (some (g_ai E 136 (upd (fun _ => 0) (Int32.toNatClampNeg 5) 109))) q = (if m ≤ q ∧ q < m + 12 then twc E m tw_T0 (q - m) else G.1 q)
  by_cases h1 : q = m + 1
  · rw [h1, va_up_self, if_pos (by omega), show m + 1 - m = 1 by omega, show Int32.toNatClampNeg 5 = 5 by decide]
    rfl
  · rw [va_up_ne _ _ h1]
    show (if q = m then _ else if m < q ∧ q ≤ m + 11 then some (g_ai E (twN (q - m)) (fun _ => 0)) else G.1 q) = _
    by_cases h0 : q = m
    · rw [if_pos h0, h0, if_pos (by omega), Nat.sub_self]
      rfl
    · rw [if_neg h0]
      by_cases h2 : m < q ∧ q ≤ m + 11
      · rw [if_pos h2, if_pos (by omega)]
        obtain ⟨j, rfl⟩ : ∃ j, q = m + (j + 2) := ⟨q - m - 2, by omega⟩
        rw [show m + (j + 2) - m = j + 2 by omega]
        show _ = some (g_ai E (twN (j + 1 + 1)) (tw_T0.1 (j + 1 + 1)))
        rw [show tw_T0.1 (j + 1 + 1) = fun _ => 0 from (show (if j + 1 + 1 = 1 then upd (fun _ => 0) 5 109 else fun _ => 0) = fun _ => 0 from if_neg (by omega))]
      · rw [if_neg h2, if_neg (by omega)]
theorem tw_init (hm : g_B E ≤ m) (h : G.1 m = some (g_ob 4 fsX5)) (e : G.2.1 = m + 1) (hc : m + 12 ≤ g_capC E) (hs : G.2.2 + 9104 ≤ g_capS E) (kk : P (.returned none) (g_tG E (G.1, m + 12, G.2.2 + 9104) m tw_T0)) : g_Spc l E mX5_init 1 [.ref m] G P := by
  rw [gi_0 (E := E) h e]
  generalize hsl : G.2.2 = sl at hs kk
  refine V_intro (plainFor_of_name plX5) (Nat.le_of_ble_eq_true rfl) ?_
  refine V_aload_n dX5_init_0 rfl (Or.inl ⟨_, rfl⟩) ?_
  refine V_objInit q2698 q170 q171 dX5_init_1 (by decide) (by decide) ?_
  refine V_aload_n dX5_init_4 rfl (Or.inl ⟨_, rfl⟩) ?_
  refine V_sipushv 136 dX5_init_5 (by decide) ?_
  refine V_newarray_int 136 rfl (by decide) q388 dX5_init_8 (by show m + 1 + 0 + 1 ≤ _; omega) (by show sl + 136 ≤ _; omega) ?_
  rw [gi_new (n := 136) rfl]
  refine V_putF ckX5 gi_ob hm 0 (by decide) q2699 rfl rfl rfl rfl rfl rfl (Nat.le_of_ble_eq_true rfl) dX5_init_10 ?_
  rw [gi_up]
  show V _ _ _ _ _ _ _ _ (tw_gi E G m [.ref (m + 1), .null, .null, .null, .null, .int 0, .int 0, .int 0, .int 0, .int 0, .int 0, .null, .null, .null, .int 0, .null, .null, .null, .int 0, .int 0, .int 0, .int 0, .int 0] _ _)
  refine V_aload_n dX5_init_13 rfl (Or.inl ⟨_, rfl⟩) ?_
  refine V_sipushv 136 dX5_init_14 (by decide) ?_
  refine V_newarray_int 136 rfl (by decide) q388 dX5_init_17 (by show m + 1 + 1 + 1 ≤ _; omega) (by show sl + 136 + 136 ≤ _; omega) ?_
  rw [gi_new (n := 136) rfl]
  refine V_putF ckX5 gi_ob hm 1 (by decide) q2700 rfl rfl rfl rfl rfl rfl (Nat.le_of_ble_eq_true rfl) dX5_init_19 ?_
  rw [gi_up]
  show V _ _ _ _ _ _ _ _ (tw_gi E G m [.ref (m + 1), .ref (m + 2), .null, .null, .null, .int 0, .int 0, .int 0, .int 0, .int 0, .int 0, .null, .null, .null, .int 0, .null, .null, .null, .int 0, .int 0, .int 0, .int 0, .int 0] _ _)
  refine V_aload_n dX5_init_22 rfl (Or.inl ⟨_, rfl⟩) ?_
  refine V_sipushv 136 dX5_init_23 (by decide) ?_
  refine V_newarray_int 136 rfl (by decide) q388 dX5_init_26 (by show m + 1 + 2 + 1 ≤ _; omega) (by show sl + 136 + 136 + 136 ≤ _; omega) ?_
  rw [gi_new (n := 136) rfl]
  refine V_putF ckX5 gi_ob hm 2 (by decide) q2701 rfl rfl rfl rfl rfl rfl (Nat.le_of_ble_eq_true rfl) dX5_init_28 ?_
  rw [gi_up]
  show V _ _ _ _ _ _ _ _ (tw_gi E G m [.ref (m + 1), .ref (m + 2), .ref (m + 3), .null, .null, .int 0, .int 0, .int 0, .int 0, .int 0, .int 0, .null, .null, .null, .int 0, .null, .null, .null, .int 0, .int 0, .int 0, .int 0, .int 0] _ _)
  refine V_aload_n dX5_init_31 rfl (Or.inl ⟨_, rfl⟩) ?_
  refine V_sipushv 1088 dX5_init_32 (by decide) ?_
  refine V_newarray_int 1088 rfl (by decide) q388 dX5_init_35 (by show m + 1 + 3 + 1 ≤ _; omega) (by show sl + 136 + 136 + 136 + 1088 ≤ _; omega) ?_
  rw [gi_new (n := 1088) rfl]
  refine V_putF ckX5 gi_ob hm 3 (by decide) q2702 rfl rfl rfl rfl rfl rfl (Nat.le_of_ble_eq_true rfl) dX5_init_37 ?_
  rw [gi_up]
  show V _ _ _ _ _ _ _ _ (tw_gi E G m [.ref (m + 1), .ref (m + 2), .ref (m + 3), .ref (m + 4), .null, .int 0, .int 0, .int 0, .int 0, .int 0, .int 0, .null, .null, .null, .int 0, .null, .null, .null, .int 0, .int 0, .int 0, .int 0, .int 0] _ _)
  refine V_aload_n dX5_init_40 rfl (Or.inl ⟨_, rfl⟩) ?_
  refine V_sipushv 7168 dX5_init_41 (by decide) ?_
  refine V_newarray_int 7168 rfl (by decide) q388 dX5_init_44 (by show m + 1 + 4 + 1 ≤ _; omega) (by show sl + 136 + 136 + 136 + 1088 + 7168 ≤ _; omega) ?_
  rw [gi_new (n := 7168) rfl]
  refine V_putF ckX5 gi_ob hm 4 (by decide) q2703 rfl rfl rfl rfl rfl rfl (Nat.le_of_ble_eq_true rfl) dX5_init_46 ?_
  rw [gi_up]
  show V _ _ _ _ _ _ _ _ (tw_gi E G m [.ref (m + 1), .ref (m + 2), .ref (m + 3), .ref (m + 4), .ref (m + 5), .int 0, .int 0, .int 0, .int 0, .int 0, .int 0, .null, .null, .null, .int 0, .null, .null, .null, .int 0, .int 0, .int 0, .int 0, .int 0] _ _)
  refine V_aload_n dX5_init_49 rfl (Or.inl ⟨_, rfl⟩) ?_
  refine V_iconstv 0 dX5_init_50 (by decide) ?_
  refine V_put ckX5 gi_ob hm 5 (by decide) q2704 rfl rfl rfl rfl (Nat.le_of_ble_eq_true rfl) dX5_init_51 ?_
  rw [gi_up]
  show V _ _ _ _ _ _ _ _ (tw_gi E G m [.ref (m + 1), .ref (m + 2), .ref (m + 3), .ref (m + 4), .ref (m + 5), .int 0, .int 0, .int 0, .int 0, .int 0, .int 0, .null, .null, .null, .int 0, .null, .null, .null, .int 0, .int 0, .int 0, .int 0, .int 0] _ _)
  refine V_aload_n dX5_init_54 rfl (Or.inl ⟨_, rfl⟩) ?_
  refine V_iconstv 0 dX5_init_55 (by decide) ?_
  refine V_put ckX5 gi_ob hm 6 (by decide) q2705 rfl rfl rfl rfl (Nat.le_of_ble_eq_true rfl) dX5_init_56 ?_
  rw [gi_up]
  show V _ _ _ _ _ _ _ _ (tw_gi E G m [.ref (m + 1), .ref (m + 2), .ref (m + 3), .ref (m + 4), .ref (m + 5), .int 0, .int 0, .int 0, .int 0, .int 0, .int 0, .null, .null, .null, .int 0, .null, .null, .null, .int 0, .int 0, .int 0, .int 0, .int 0] _ _)
  refine V_aload_n dX5_init_59 rfl (Or.inl ⟨_, rfl⟩) ?_
  refine V_iconstv (-1) dX5_init_60 (by decide) ?_
  refine V_put ckX5 gi_ob hm 7 (by decide) q2706 rfl rfl rfl rfl (Nat.le_of_ble_eq_true rfl) dX5_init_61 ?_
  rw [gi_up]
  show V _ _ _ _ _ _ _ _ (tw_gi E G m [.ref (m + 1), .ref (m + 2), .ref (m + 3), .ref (m + 4), .ref (m + 5), .int 0, .int 0, .int (-1), .int 0, .int 0, .int 0, .null, .null, .null, .int 0, .null, .null, .null, .int 0, .int 0, .int 0, .int 0, .int 0] _ _)
  refine V_aload_n dX5_init_64 rfl (Or.inl ⟨_, rfl⟩) ?_
  refine V_iconstv (-1) dX5_init_65 (by decide) ?_
  refine V_put ckX5 gi_ob hm 8 (by decide) q2707 rfl rfl rfl rfl (Nat.le_of_ble_eq_true rfl) dX5_init_66 ?_
  rw [gi_up]
  show V _ _ _ _ _ _ _ _ (tw_gi E G m [.ref (m + 1), .ref (m + 2), .ref (m + 3), .ref (m + 4), .ref (m + 5), .int 0, .int 0, .int (-1), .int (-1), .int 0, .int 0, .null, .null, .null, .int 0, .null, .null, .null, .int 0, .int 0, .int 0, .int 0, .int 0] _ _)
  refine V_aload_n dX5_init_69 rfl (Or.inl ⟨_, rfl⟩) ?_
  refine V_iconstv 0 dX5_init_70 (by decide) ?_
  refine V_put ckX5 gi_ob hm 9 (by decide) q2708 rfl rfl rfl rfl (Nat.le_of_ble_eq_true rfl) dX5_init_71 ?_
  rw [gi_up]
  show V _ _ _ _ _ _ _ _ (tw_gi E G m [.ref (m + 1), .ref (m + 2), .ref (m + 3), .ref (m + 4), .ref (m + 5), .int 0, .int 0, .int (-1), .int (-1), .int 0, .int 0, .null, .null, .null, .int 0, .null, .null, .null, .int 0, .int 0, .int 0, .int 0, .int 0] _ _)
  refine V_aload_n dX5_init_74 rfl (Or.inl ⟨_, rfl⟩) ?_
  refine V_iconstv 0 dX5_init_75 (by decide) ?_
  refine V_put ckX5 gi_ob hm 10 (by decide) q2709 rfl rfl rfl rfl (Nat.le_of_ble_eq_true rfl) dX5_init_76 ?_
  rw [gi_up]
  show V _ _ _ _ _ _ _ _ (tw_gi E G m [.ref (m + 1), .ref (m + 2), .ref (m + 3), .ref (m + 4), .ref (m + 5), .int 0, .int 0, .int (-1), .int (-1), .int 0, .int 0, .null, .null, .null, .int 0, .null, .null, .null, .int 0, .int 0, .int 0, .int 0, .int 0] _ _)
  refine V_aload_n dX5_init_79 rfl (Or.inl ⟨_, rfl⟩) ?_
  refine V_bipushv 6 dX5_init_80 (by decide) ?_
  refine V_newarray_int 6 rfl (by decide) q388 dX5_init_82 (by show m + 1 + 5 + 1 ≤ _; omega) (by show sl + 136 + 136 + 136 + 1088 + 7168 + 6 ≤ _; omega) ?_
  rw [gi_new (n := 6) rfl]
  refine V_putF ckX5 gi_ob hm 11 (by decide) q2710 rfl rfl rfl rfl rfl rfl (Nat.le_of_ble_eq_true rfl) dX5_init_84 ?_
  rw [gi_up]
  show V _ _ _ _ _ _ _ _ (tw_gi E G m [.ref (m + 1), .ref (m + 2), .ref (m + 3), .ref (m + 4), .ref (m + 5), .int 0, .int 0, .int (-1), .int (-1), .int 0, .int 0, .ref (m + 6), .null, .null, .int 0, .null, .null, .null, .int 0, .int 0, .int 0, .int 0, .int 0] _ _)
  refine V_aload_n dX5_init_87 rfl (Or.inl ⟨_, rfl⟩) ?_
  refine V_bipushv 6 dX5_init_88 (by decide) ?_
  refine V_newarray_int 6 rfl (by decide) q388 dX5_init_90 (by show m + 1 + 6 + 1 ≤ _; omega) (by show sl + 136 + 136 + 136 + 1088 + 7168 + 6 + 6 ≤ _; omega) ?_
  rw [gi_new (n := 6) rfl]
  refine V_putF ckX5 gi_ob hm 12 (by decide) q2711 rfl rfl rfl rfl rfl rfl (Nat.le_of_ble_eq_true rfl) dX5_init_92 ?_
  rw [gi_up]
  show V _ _ _ _ _ _ _ _ (tw_gi E G m [.ref (m + 1), .ref (m + 2), .ref (m + 3), .ref (m + 4), .ref (m + 5), .int 0, .int 0, .int (-1), .int (-1), .int 0, .int 0, .ref (m + 6), .ref (m + 7), .null, .int 0, .null, .null, .null, .int 0, .int 0, .int 0, .int 0, .int 0] _ _)
  refine V_aload_n dX5_init_95 rfl (Or.inl ⟨_, rfl⟩) ?_
  refine V_bipushv 80 dX5_init_96 (by decide) ?_
  refine V_newarray_int 80 rfl (by decide) q388 dX5_init_98 (by show m + 1 + 7 + 1 ≤ _; omega) (by show sl + 136 + 136 + 136 + 1088 + 7168 + 6 + 6 + 80 ≤ _; omega) ?_
  rw [gi_new (n := 80) rfl]
  refine V_putF ckX5 gi_ob hm 13 (by decide) q2712 rfl rfl rfl rfl rfl rfl (Nat.le_of_ble_eq_true rfl) dX5_init_100 ?_
  rw [gi_up]
  show V _ _ _ _ _ _ _ _ (tw_gi E G m [.ref (m + 1), .ref (m + 2), .ref (m + 3), .ref (m + 4), .ref (m + 5), .int 0, .int 0, .int (-1), .int (-1), .int 0, .int 0, .ref (m + 6), .ref (m + 7), .ref (m + 8), .int 0, .null, .null, .null, .int 0, .int 0, .int 0, .int 0, .int 0] _ _)
  refine V_aload_n dX5_init_103 rfl (Or.inl ⟨_, rfl⟩) ?_
  refine V_iconstv 0 dX5_init_104 (by decide) ?_
  refine V_put ckX5 gi_ob hm 14 (by decide) q2713 rfl rfl rfl rfl (Nat.le_of_ble_eq_true rfl) dX5_init_105 ?_
  rw [gi_up]
  show V _ _ _ _ _ _ _ _ (tw_gi E G m [.ref (m + 1), .ref (m + 2), .ref (m + 3), .ref (m + 4), .ref (m + 5), .int 0, .int 0, .int (-1), .int (-1), .int 0, .int 0, .ref (m + 6), .ref (m + 7), .ref (m + 8), .int 0, .null, .null, .null, .int 0, .int 0, .int 0, .int 0, .int 0] _ _)
  refine V_aload_n dX5_init_108 rfl (Or.inl ⟨_, rfl⟩) ?_
  refine V_bipushv 60 dX5_init_109 (by decide) ?_
  refine V_newarray_int 60 rfl (by decide) q388 dX5_init_111 (by show m + 1 + 8 + 1 ≤ _; omega) (by show sl + 136 + 136 + 136 + 1088 + 7168 + 6 + 6 + 80 + 60 ≤ _; omega) ?_
  rw [gi_new (n := 60) rfl]
  refine V_putF ckX5 gi_ob hm 15 (by decide) q2714 rfl rfl rfl rfl rfl rfl (Nat.le_of_ble_eq_true rfl) dX5_init_113 ?_
  rw [gi_up]
  show V _ _ _ _ _ _ _ _ (tw_gi E G m [.ref (m + 1), .ref (m + 2), .ref (m + 3), .ref (m + 4), .ref (m + 5), .int 0, .int 0, .int (-1), .int (-1), .int 0, .int 0, .ref (m + 6), .ref (m + 7), .ref (m + 8), .int 0, .ref (m + 9), .null, .null, .int 0, .int 0, .int 0, .int 0, .int 0] _ _)
  refine V_aload_n dX5_init_116 rfl (Or.inl ⟨_, rfl⟩) ?_
  refine V_bipushv 32 dX5_init_117 (by decide) ?_
  refine V_newarray_int 32 rfl (by decide) q388 dX5_init_119 (by show m + 1 + 9 + 1 ≤ _; omega) (by show sl + 136 + 136 + 136 + 1088 + 7168 + 6 + 6 + 80 + 60 + 32 ≤ _; omega) ?_
  rw [gi_new (n := 32) rfl]
  refine V_putF ckX5 gi_ob hm 16 (by decide) q2715 rfl rfl rfl rfl rfl rfl (Nat.le_of_ble_eq_true rfl) dX5_init_121 ?_
  rw [gi_up]
  show V _ _ _ _ _ _ _ _ (tw_gi E G m [.ref (m + 1), .ref (m + 2), .ref (m + 3), .ref (m + 4), .ref (m + 5), .int 0, .int 0, .int (-1), .int (-1), .int 0, .int 0, .ref (m + 6), .ref (m + 7), .ref (m + 8), .int 0, .ref (m + 9), .ref (m + 10), .null, .int 0, .int 0, .int 0, .int 0, .int 0] _ _)
  refine V_aload_n dX5_init_124 rfl (Or.inl ⟨_, rfl⟩) ?_
  refine V_sipushv 256 dX5_init_125 (by decide) ?_
  refine V_newarray_int 256 rfl (by decide) q388 dX5_init_128 (by show m + 1 + 10 + 1 ≤ _; omega) (by show sl + 136 + 136 + 136 + 1088 + 7168 + 6 + 6 + 80 + 60 + 32 + 256 ≤ _; omega) ?_
  rw [gi_new (n := 256) rfl]
  refine V_putF ckX5 gi_ob hm 17 (by decide) q2716 rfl rfl rfl rfl rfl rfl (Nat.le_of_ble_eq_true rfl) dX5_init_130 ?_
  rw [gi_up]
  show V _ _ _ _ _ _ _ _ (tw_gi E G m [.ref (m + 1), .ref (m + 2), .ref (m + 3), .ref (m + 4), .ref (m + 5), .int 0, .int 0, .int (-1), .int (-1), .int 0, .int 0, .ref (m + 6), .ref (m + 7), .ref (m + 8), .int 0, .ref (m + 9), .ref (m + 10), .ref (m + 11), .int 0, .int 0, .int 0, .int 0, .int 0] _ _)
  refine V_aload_n dX5_init_133 rfl (Or.inl ⟨_, rfl⟩) ?_
  refine V_iconstv 0 dX5_init_134 (by decide) ?_
  refine V_put ckX5 gi_ob hm 18 (by decide) q2717 rfl rfl rfl rfl (Nat.le_of_ble_eq_true rfl) dX5_init_135 ?_
  rw [gi_up]
  show V _ _ _ _ _ _ _ _ (tw_gi E G m [.ref (m + 1), .ref (m + 2), .ref (m + 3), .ref (m + 4), .ref (m + 5), .int 0, .int 0, .int (-1), .int (-1), .int 0, .int 0, .ref (m + 6), .ref (m + 7), .ref (m + 8), .int 0, .ref (m + 9), .ref (m + 10), .ref (m + 11), .int 0, .int 0, .int 0, .int 0, .int 0] _ _)
  refine V_aload_n dX5_init_138 rfl (Or.inl ⟨_, rfl⟩) ?_
  refine V_iconstv 0 dX5_init_139 (by decide) ?_
  refine V_put ckX5 gi_ob hm 19 (by decide) q2718 rfl rfl rfl rfl (Nat.le_of_ble_eq_true rfl) dX5_init_140 ?_
  rw [gi_up]
  show V _ _ _ _ _ _ _ _ (tw_gi E G m [.ref (m + 1), .ref (m + 2), .ref (m + 3), .ref (m + 4), .ref (m + 5), .int 0, .int 0, .int (-1), .int (-1), .int 0, .int 0, .ref (m + 6), .ref (m + 7), .ref (m + 8), .int 0, .ref (m + 9), .ref (m + 10), .ref (m + 11), .int 0, .int 0, .int 0, .int 0, .int 0] _ _)
  refine V_aload_n dX5_init_143 rfl (Or.inl ⟨_, rfl⟩) ?_
  refine V_iconstv 0 dX5_init_144 (by decide) ?_
  refine V_put ckX5 gi_ob hm 20 (by decide) q2719 rfl rfl rfl rfl (Nat.le_of_ble_eq_true rfl) dX5_init_145 ?_
  rw [gi_up]
  show V _ _ _ _ _ _ _ _ (tw_gi E G m [.ref (m + 1), .ref (m + 2), .ref (m + 3), .ref (m + 4), .ref (m + 5), .int 0, .int 0, .int (-1), .int (-1), .int 0, .int 0, .ref (m + 6), .ref (m + 7), .ref (m + 8), .int 0, .ref (m + 9), .ref (m + 10), .ref (m + 11), .int 0, .int 0, .int 0, .int 0, .int 0] _ _)
  refine V_aload_n dX5_init_148 rfl (Or.inl ⟨_, rfl⟩) ?_
  refine V_iconstv 0 dX5_init_149 (by decide) ?_
  refine V_put ckX5 gi_ob hm 21 (by decide) q2720 rfl rfl rfl rfl (Nat.le_of_ble_eq_true rfl) dX5_init_150 ?_
  rw [gi_up]
  show V _ _ _ _ _ _ _ _ (tw_gi E G m [.ref (m + 1), .ref (m + 2), .ref (m + 3), .ref (m + 4), .ref (m + 5), .int 0, .int 0, .int (-1), .int (-1), .int 0, .int 0, .ref (m + 6), .ref (m + 7), .ref (m + 8), .int 0, .ref (m + 9), .ref (m + 10), .ref (m + 11), .int 0, .int 0, .int 0, .int 0, .int 0] _ _)
  refine V_aload_n dX5_init_153 rfl (Or.inl ⟨_, rfl⟩) ?_
  refine V_iconstv 0 dX5_init_154 (by decide) ?_
  refine V_put ckX5 gi_ob hm 22 (by decide) q2721 rfl rfl rfl rfl (Nat.le_of_ble_eq_true rfl) dX5_init_155 ?_
  rw [gi_up]
  show V _ _ _ _ _ _ _ _ (tw_gi E G m [.ref (m + 1), .ref (m + 2), .ref (m + 3), .ref (m + 4), .ref (m + 5), .int 0, .int 0, .int (-1), .int (-1), .int 0, .int 0, .ref (m + 6), .ref (m + 7), .ref (m + 8), .int 0, .ref (m + 9), .ref (m + 10), .ref (m + 11), .int 0, .int 0, .int 0, .int 0, .int 0] _ _)
  refine V_aload_n dX5_init_158 rfl (Or.inl ⟨_, rfl⟩) ?_
  refine V_get ckX5 gi_ob 0 (by decide) q2699 rfl (by rfl) dX5_init_159 ?_
  refine V_iconstv 5 dX5_init_162 (by decide) ?_
  refine V_bipushv 109 dX5_init_163 (by decide) ?_
  refine V_iastore (gi_ar (by decide)) (by first | assumption | omega | (simp only [g_new, g_up]; omega) | (simp only [g_new, g_up, g_B] at *; omega)) (g_in (by decide)) q388 dX5_init_165 ?_
  refine V_return dX5_init_166 rfl ?_
  have k9 := kk
  rw [show sl + 9104 = sl + 136 + 136 + 136 + 1088 + 7168 + 6 + 6 + 80 + 60 + 32 + 256 by omega] at k9
  rw [← gi_end] at k9
  exact k9
end TW24
