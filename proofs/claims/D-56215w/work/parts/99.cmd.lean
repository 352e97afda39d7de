/-! MODULE Command (printed by wip gen/mk99.py) -/
set_option maxRecDepth 100000
def cmW (k : Nat) : List Int32 := match k with
  | 0 => [102, 105, 110, 100]
  | 1 => [114, 101, 112, 111, 114, 116]
  | 2 => [100, 114, 111, 112]
  | 3 => [100, 105, 115, 99, 97, 114, 100]
  | 4 => [109, 101, 116, 114, 105, 99]
  | 5 => [114, 101, 116, 117, 114, 110]
  | 6 => [115, 101, 116, 116, 108, 101]
  | 7 => [109, 105, 120]
  | _ => [100, 97, 121]
def nAr (k : Nat) : Nat := match k with
  | 0 => 4
  | 1 => 5
  | 5 => 2
  | 6 => 0
  | 7 => 2
  | _ => 1
/-- why a command fails: the kind, 0 if it doesn't -/
def cmK (o : Of) (kind : Nat) (f : Nat → Int32) : Int32 := if kind = 4 then (if isM (f 0) = true then 0 else 97) else whyK o kind (f 0) (f 1) (f 2) (f 3) (f 4)
/-- what it answers -/
def cmR (o : Of) (kind : Nat) (f : Nat → Int32) : Int32 := match kind with
  | 0 => o.2.2 2
  | 1 => o.2.2 3
  | 2 => nI (ofWd o ((plc (f 0) o.2.1).getD 0)).2.1.length
  | 3 => nI (ofDis o ((plc (f 0) o.1).getD 0)).1.length
  | 4 => o.2.2 5
  | 5 => (rwAt o.2.1 ((plc (f 0) o.2.1).getD 0)).2.2.2
  | 6 => nI (prs o).length
  | 7 => o.2.2 2
  | _ => nI ((passN (f 0).toNatClampNeg o).1.countP isG)
/-- what the changes ask of an office -/
def AppOK (o : Of) : Prop := IdO o ∧ (∀ fs, fs.length = o.1.length → NearOK o fs) ∧ DisOK o ∧ (∀ k, k < o.2.1.length → chC o k = chA o k) ∧ gvOK o (prs o) ∧ (∀ c ∈ o.1, c.2.2.1 ≠ 0) ∧ (∀ m, m ≤ 99 → passND m o = passN m o ∧ (passN m o).1.countP isGr = (passN m o).1.countP isG)
theorem kOf_ne {w a b : Int32} (ha : a ≠ 0) (hb : b ≠ 0) (h : w ≠ 0) : kOf w a b ≠ 0 := by
  unfold kOf
  rw [if_neg h]
  split
  · exact ha
  · exact hb
theorem isb_cl {x : Int32} {n : Nat} (hn : n < 2 ^ 31) (h : isb x 1 (nI n) = true) : x.toNatClampNeg ≤ n := by
  unfold isb at h
  rw [Bool.and_eq_true] at h
  have h1 := Int32.le_iff_toInt_le.mp (of_decide_eq_true h.1)
  have h2 := Int32.le_iff_toInt_le.mp (of_decide_eq_true h.2)
  rw [nI_toInt hn] at h2
  show x.toInt.toNat ≤ n
  omega
section CMD
variable {l : Launch} {E : g_E} {P : Outcome → g_G → Prop} {G : g_G}
/-- a command: its kind, its arguments -/
def CmdAt (E : g_E) (G : g_G) (c kind : Nat) (f : Nat → Int32) : Prop := ∃ (wa ar n : Nat) (z : Int32), G.1 c = some (g_ob 7 [.ref wa, .ref ar]) ∧ StrR E G wa (cmW kind) (hsh (cmW kind)) z ∧ G.1 ar = some (g_ai E n f) ∧ nAr kind ≤ n ∧ n ≤ 5
theorem CmdAt.ke2 {c kind : Nat} {f : Nat → Int32} {B : Nat → Prop} {G' : g_G} (h : CmdAt E G c kind f) (hk : g_ke B G G') (hc : B c) (hb : ∀ q x, G.1 q = some x → isS x = true → B q) : CmdAt E G' c kind f := by
  obtain ⟨wa, ar, n, z, h1, h2, h3, h4, h5⟩ := h
  exact ⟨wa, ar, n, z, hk _ _ hc h1, h2.ke2 hk hb, hk _ _ (hb _ _ h3 rfl) h3, h4, h5⟩
theorem CmdAt.low {c kind n : Nat} {f : Nat → Int32} {G' : g_G} (wf : g_wf G) (h : CmdAt E G c kind f) (hk : g_ke (fun q => q < n) G G') (hn : G.2.1 ≤ n) : CmdAt E G' c kind f := by
  obtain ⟨wa, ar, k, z, h1, -⟩ := id h
  exact h.ke2 hk (Nat.lt_of_lt_of_le (wf _ _ h1) hn) fun q x hx _ => Nat.lt_of_lt_of_le (wf q x hx) hn
theorem cmd_at {c wa ar n k : Nat} {f : Nat → Int32} {x : Int32} (hc : G.1 c = some (g_ob 7 [.ref wa, .ref ar])) (ha : G.1 ar = some (g_ai E n f)) (hx : x = nI k) (hk : k < n) (hn : n ≤ 5) (kk : P (.returned (some (.int (f k)))) G) : g_Spc l E mX8_at 0 [.ref c, .int x] G P := by
  subst hx
  have hin : vp_in (nI k) n := vp_in_nI hk (by omega)
  refine V_intro (plainFor_of_name plX8) (Nat.le_of_ble_eq_true rfl) ?_
  refine V_aload_n dX8_at_0 rfl (Or.inl ⟨_, rfl⟩) ?_
  refine V_get ckX8 (by first | assumption | (repeat (first | exact g_up_at | exact g_new_at rfl | assumption | refine g_up_of (by first | assumption | (simp only [g_new, g_up]; omega) | omega) ?_ | refine g_new_of (by first | assumption | (simp only [g_new, g_up]; omega) | omega) ?_))) 1 (by decide) q943 rfl (by rfl) dX8_at_1 ?_
  refine V_iload_n dX8_at_4 rfl ?_
  refine V_iaload (by first | assumption | (repeat (first | exact g_up_at | exact g_new_at rfl | assumption | refine g_up_of (by first | assumption | (simp only [g_new, g_up]; omega) | omega) ?_ | refine g_new_of (by first | assumption | (simp only [g_new, g_up]; omega) | omega) ?_))) hin q388 dX8_at_5 ?_
  rw [nI_clamp (by omega)]
  refine V_ireturn dX8_at_6 rfl ?_
  exact kk
theorem cmm_init {c wa ar : Nat} (hc : G.1 c = some (g_ob 7 [.null, .null])) (hB : g_B E ≤ c) (kk : P (.returned none) (g_up G c (g_ob 7 [.ref wa, .ref ar]))) : g_Spc l E mX8_init 1 [.ref c, .ref wa, .ref ar] G P := by
  refine V_intro (plainFor_of_name plX8) (Nat.le_of_ble_eq_true rfl) ?_
  refine V_aload_n dX8_init_0 rfl (Or.inl ⟨_, rfl⟩) ?_
  refine V_objInit q941 q170 q171 dX8_init_1 (by decide) (by decide) ?_
  refine V_aload_n dX8_init_4 rfl (Or.inl ⟨_, rfl⟩) ?_
  refine V_aload_n dX8_init_5 rfl (Or.inl ⟨_, rfl⟩) ?_
  refine V_putF ckX8 (by first | assumption | (repeat (first | exact g_up_at | exact g_new_at rfl | assumption | refine g_up_of (by first | assumption | (simp only [g_new, g_up]; omega) | omega) ?_ | refine g_new_of (by first | assumption | (simp only [g_new, g_up]; omega) | omega) ?_))) (by first | assumption | omega | (simp only [g_new, g_up]; omega) | (simp only [g_new, g_up, g_B] at *; omega)) 0 (by decide) q942 rfl rfl rfl rfl rfl rfl (Nat.le_of_ble_eq_true rfl) dX8_init_6 ?_
  refine V_aload_n dX8_init_9 rfl (Or.inl ⟨_, rfl⟩) ?_
  refine V_aload_n dX8_init_10 rfl (Or.inl ⟨_, rfl⟩) ?_
  refine V_putF ckX8 g_up_at (by first | assumption | omega | (simp only [g_new, g_up]; omega) | (simp only [g_new, g_up, g_B] at *; omega)) 1 (by decide) q943 rfl rfl rfl rfl rfl rfl (Nat.le_of_ble_eq_true rfl) dX8_init_11 ?_
  refine V_return dX8_init_14 rfl ?_
  rw [g_up_up]
  exact kk
theorem ap_0 {c a : Nat} {f : Nat → Int32} (hC : CmdAt E G c 0 f) (hk : V l E mX8_applyTo 18 P 244 [(0, .ref c), (1, .ref a)] [] G) : V l E mX8_applyTo 18 P 0 (lv_args 0 [.ref c, .ref a]) [] G := by
  obtain ⟨wa, ar, n, z, h1, h2, -⟩ := hC
  obtain ⟨va, hx, -⟩ := id h2
  refine V_aload_n dX8_applyTo_0 rfl (Or.inl ⟨_, rfl⟩) ?_
  refine V_get ckX8 (by first | assumption | (repeat (first | exact g_up_at | exact g_new_at rfl | assumption | refine g_up_of (by first | assumption | (simp only [g_new, g_up]; omega) | omega) ?_ | refine g_new_of (by first | assumption | (simp only [g_new, g_up]; omega) | omega) ?_))) 0 (by decide) q942 rfl (by rfl) dX8_applyTo_1 ?_
  refine V_astore_n dX8_applyTo_4 (Or.inl ⟨_, rfl⟩) (by decide) ?_
  refine V_iconstv (-1) dX8_applyTo_5 (by decide) ?_
  refine V_istore_n dX8_applyTo_6 (by decide) ?_
  refine V_aload_n dX8_applyTo_7 rfl (Or.inl ⟨_, rfl⟩) ?_
  refine V_callVR (q := (RJ7, TJ7, 4)) kJ7_hashCode q953 q954 q955 hx rfl dX8_applyTo_8 ?_ (d' := 3) (as := []) (hst := rfl)
  refine (str_hashC h2 (by decide +kernel) ?_)
  refine V_lookup (off := 73) 84 dX8_applyTo_11 (by decide) (by decide +kernel) (by decide) ?_
  refine V_aload_n dX8_applyTo_84 rfl (Or.inl ⟨_, rfl⟩) ?_
  refine V_sc scX8_23 q1014 dX8_applyTo_85 (by decide) rfl (fun hS85 => ?_)
  refine V_callVR (q := (RJ7, TJ7, 4)) kJ7_equals q1015 q1016 q1017 hx rfl dX8_applyTo_87 ?_ (d' := 1) (as := [_]) (hst := rfl)
  refine (str_equals h2 hS85 (by decide) ?_)
  refine V_if_eq 195 dX8_applyTo_90 (by decide) (fun c90 => absurd c90 (by decide)) (fun _ => ?_)
  refine V_iconstv 0 dX8_applyTo_93 (by decide) ?_
  refine V_istore_n dX8_applyTo_94 (by decide) ?_
  refine V_goto 195 dX8_applyTo_95 (by decide) ?_
  refine V_iload_n dX8_applyTo_195 rfl ?_
  refine V_tableIn 244 dX8_applyTo_196 (by decide) (by decide) rfl (by decide) ?_
  exact V_subk hk ⟨rfl, rfl, trivial⟩
theorem ap_1 {c a : Nat} {f : Nat → Int32} (hC : CmdAt E G c 1 f) (hk : V l E mX8_applyTo 18 P 269 [(0, .ref c), (1, .ref a)] [] G) : V l E mX8_applyTo 18 P 0 (lv_args 0 [.ref c, .ref a]) [] G := by
  obtain ⟨wa, ar, n, z, h1, h2, -⟩ := hC
  obtain ⟨va, hx, -⟩ := id h2
  refine V_aload_n dX8_applyTo_0 rfl (Or.inl ⟨_, rfl⟩) ?_
  refine V_get ckX8 (by first | assumption | (repeat (first | exact g_up_at | exact g_new_at rfl | assumption | refine g_up_of (by first | assumption | (simp only [g_new, g_up]; omega) | omega) ?_ | refine g_new_of (by first | assumption | (simp only [g_new, g_up]; omega) | omega) ?_))) 0 (by decide) q942 rfl (by rfl) dX8_applyTo_1 ?_
  refine V_astore_n dX8_applyTo_4 (Or.inl ⟨_, rfl⟩) (by decide) ?_
  refine V_iconstv (-1) dX8_applyTo_5 (by decide) ?_
  refine V_istore_n dX8_applyTo_6 (by decide) ?_
  refine V_aload_n dX8_applyTo_7 rfl (Or.inl ⟨_, rfl⟩) ?_
  refine V_callVR (q := (RJ7, TJ7, 4)) kJ7_hashCode q953 q954 q955 hx rfl dX8_applyTo_8 ?_ (d' := 3) (as := []) (hst := rfl)
  refine (str_hashC h2 (by decide +kernel) ?_)
  refine V_lookup (off := 87) 98 dX8_applyTo_11 (by decide) (by decide +kernel) (by decide) ?_
  refine V_aload_n dX8_applyTo_98 rfl (Or.inl ⟨_, rfl⟩) ?_
  refine V_sc scX8_29 q1023 dX8_applyTo_99 (by decide) rfl (fun hS99 => ?_)
  refine V_callVR (q := (RJ7, TJ7, 4)) kJ7_equals q1015 q1016 q1017 hx rfl dX8_applyTo_101 ?_ (d' := 1) (as := [_]) (hst := rfl)
  refine (str_equals h2 hS99 (by decide) ?_)
  refine V_if_eq 195 dX8_applyTo_104 (by decide) (fun c104 => absurd c104 (by decide)) (fun _ => ?_)
  refine V_iconstv 1 dX8_applyTo_107 (by decide) ?_
  refine V_istore_n dX8_applyTo_108 (by decide) ?_
  refine V_goto 195 dX8_applyTo_109 (by decide) ?_
  refine V_iload_n dX8_applyTo_195 rfl ?_
  refine V_tableIn 269 dX8_applyTo_196 (by decide) (by decide) rfl (by decide) ?_
  exact V_subk hk ⟨rfl, rfl, trivial⟩
theorem ap_2 {c a : Nat} {f : Nat → Int32} (hC : CmdAt E G c 2 f) (hk : V l E mX8_applyTo 18 P 318 [(0, .ref c), (1, .ref a)] [] G) : V l E mX8_applyTo 18 P 0 (lv_args 0 [.ref c, .ref a]) [] G := by
  obtain ⟨wa, ar, n, z, h1, h2, -⟩ := hC
  obtain ⟨va, hx, -⟩ := id h2
  refine V_aload_n dX8_applyTo_0 rfl (Or.inl ⟨_, rfl⟩) ?_
  refine V_get ckX8 (by first | assumption | (repeat (first | exact g_up_at | exact g_new_at rfl | assumption | refine g_up_of (by first | assumption | (simp only [g_new, g_up]; omega) | omega) ?_ | refine g_new_of (by first | assumption | (simp only [g_new, g_up]; omega) | omega) ?_))) 0 (by decide) q942 rfl (by rfl) dX8_applyTo_1 ?_
  refine V_astore_n dX8_applyTo_4 (Or.inl ⟨_, rfl⟩) (by decide) ?_
  refine V_iconstv (-1) dX8_applyTo_5 (by decide) ?_
  refine V_istore_n dX8_applyTo_6 (by decide) ?_
  refine V_aload_n dX8_applyTo_7 rfl (Or.inl ⟨_, rfl⟩) ?_
  refine V_callVR (q := (RJ7, TJ7, 4)) kJ7_hashCode q953 q954 q955 hx rfl dX8_applyTo_8 ?_ (d' := 3) (as := []) (hst := rfl)
  refine (str_hashC h2 (by decide +kernel) ?_)
  refine V_lookup (off := 101) 112 dX8_applyTo_11 (by decide) (by decide +kernel) (by decide) ?_
  refine V_aload_n dX8_applyTo_112 rfl (Or.inl ⟨_, rfl⟩) ?_
  refine V_sc scX8_31 q1024 dX8_applyTo_113 (by decide) rfl (fun hS113 => ?_)
  refine V_callVR (q := (RJ7, TJ7, 4)) kJ7_equals q1015 q1016 q1017 hx rfl dX8_applyTo_115 ?_ (d' := 1) (as := [_]) (hst := rfl)
  refine (str_equals h2 hS113 (by decide) ?_)
  refine V_if_eq 195 dX8_applyTo_118 (by decide) (fun c118 => absurd c118 (by decide)) (fun _ => ?_)
  refine V_iconstv 2 dX8_applyTo_121 (by decide) ?_
  refine V_istore_n dX8_applyTo_122 (by decide) ?_
  refine V_goto 195 dX8_applyTo_123 (by decide) ?_
  refine V_iload_n dX8_applyTo_195 rfl ?_
  refine V_tableIn 318 dX8_applyTo_196 (by decide) (by decide) rfl (by decide) ?_
  exact V_subk hk ⟨rfl, rfl, trivial⟩
theorem ap_3 {c a : Nat} {f : Nat → Int32} (hC : CmdAt E G c 3 f) (hk : V l E mX8_applyTo 18 P 328 [(0, .ref c), (1, .ref a)] [] G) : V l E mX8_applyTo 18 P 0 (lv_args 0 [.ref c, .ref a]) [] G := by
  obtain ⟨wa, ar, n, z, h1, h2, -⟩ := hC
  obtain ⟨va, hx, -⟩ := id h2
  refine V_aload_n dX8_applyTo_0 rfl (Or.inl ⟨_, rfl⟩) ?_
  refine V_get ckX8 (by first | assumption | (repeat (first | exact g_up_at | exact g_new_at rfl | assumption | refine g_up_of (by first | assumption | (simp only [g_new, g_up]; omega) | omega) ?_ | refine g_new_of (by first | assumption | (simp only [g_new, g_up]; omega) | omega) ?_))) 0 (by decide) q942 rfl (by rfl) dX8_applyTo_1 ?_
  refine V_astore_n dX8_applyTo_4 (Or.inl ⟨_, rfl⟩) (by decide) ?_
  refine V_iconstv (-1) dX8_applyTo_5 (by decide) ?_
  refine V_istore_n dX8_applyTo_6 (by decide) ?_
  refine V_aload_n dX8_applyTo_7 rfl (Or.inl ⟨_, rfl⟩) ?_
  refine V_callVR (q := (RJ7, TJ7, 4)) kJ7_hashCode q953 q954 q955 hx rfl dX8_applyTo_8 ?_ (d' := 3) (as := []) (hst := rfl)
  refine (str_hashC h2 (by decide +kernel) ?_)
  refine V_lookup (off := 115) 126 dX8_applyTo_11 (by decide) (by decide +kernel) (by decide) ?_
  refine V_aload_n dX8_applyTo_126 rfl (Or.inl ⟨_, rfl⟩) ?_
  refine V_sc scX8_33 q1025 dX8_applyTo_127 (by decide) rfl (fun hS127 => ?_)
  refine V_callVR (q := (RJ7, TJ7, 4)) kJ7_equals q1015 q1016 q1017 hx rfl dX8_applyTo_129 ?_ (d' := 1) (as := [_]) (hst := rfl)
  refine (str_equals h2 hS127 (by decide) ?_)
  refine V_if_eq 195 dX8_applyTo_132 (by decide) (fun c132 => absurd c132 (by decide)) (fun _ => ?_)
  refine V_iconstv 3 dX8_applyTo_135 (by decide) ?_
  refine V_istore_n dX8_applyTo_136 (by decide) ?_
  refine V_goto 195 dX8_applyTo_137 (by decide) ?_
  refine V_iload_n dX8_applyTo_195 rfl ?_
  refine V_tableIn 328 dX8_applyTo_196 (by decide) (by decide) rfl (by decide) ?_
  exact V_subk hk ⟨rfl, rfl, trivial⟩
theorem ap_4 {c a : Nat} {f : Nat → Int32} (hC : CmdAt E G c 4 f) (hk : V l E mX8_applyTo 18 P 338 [(0, .ref c), (1, .ref a)] [] G) : V l E mX8_applyTo 18 P 0 (lv_args 0 [.ref c, .ref a]) [] G := by
  obtain ⟨wa, ar, n, z, h1, h2, -⟩ := hC
  obtain ⟨va, hx, -⟩ := id h2
  refine V_aload_n dX8_applyTo_0 rfl (Or.inl ⟨_, rfl⟩) ?_
  refine V_get ckX8 (by first | assumption | (repeat (first | exact g_up_at | exact g_new_at rfl | assumption | refine g_up_of (by first | assumption | (simp only [g_new, g_up]; omega) | omega) ?_ | refine g_new_of (by first | assumption | (simp only [g_new, g_up]; omega) | omega) ?_))) 0 (by decide) q942 rfl (by rfl) dX8_applyTo_1 ?_
  refine V_astore_n dX8_applyTo_4 (Or.inl ⟨_, rfl⟩) (by decide) ?_
  refine V_iconstv (-1) dX8_applyTo_5 (by decide) ?_
  refine V_istore_n dX8_applyTo_6 (by decide) ?_
  refine V_aload_n dX8_applyTo_7 rfl (Or.inl ⟨_, rfl⟩) ?_
  refine V_callVR (q := (RJ7, TJ7, 4)) kJ7_hashCode q953 q954 q955 hx rfl dX8_applyTo_8 ?_ (d' := 3) (as := []) (hst := rfl)
  refine (str_hashC h2 (by decide +kernel) ?_)
  refine V_lookup (off := 129) 140 dX8_applyTo_11 (by decide) (by decide +kernel) (by decide) ?_
  refine V_aload_n dX8_applyTo_140 rfl (Or.inl ⟨_, rfl⟩) ?_
  refine V_sc scX8_35 q1026 dX8_applyTo_141 (by decide) rfl (fun hS141 => ?_)
  refine V_callVR (q := (RJ7, TJ7, 4)) kJ7_equals q1015 q1016 q1017 hx rfl dX8_applyTo_143 ?_ (d' := 1) (as := [_]) (hst := rfl)
  refine (str_equals h2 hS141 (by decide) ?_)
  refine V_if_eq 195 dX8_applyTo_146 (by decide) (fun c146 => absurd c146 (by decide)) (fun _ => ?_)
  refine V_iconstv 4 dX8_applyTo_149 (by decide) ?_
  refine V_istore_n dX8_applyTo_150 (by decide) ?_
  refine V_goto 195 dX8_applyTo_151 (by decide) ?_
  refine V_iload_n dX8_applyTo_195 rfl ?_
  refine V_tableIn 338 dX8_applyTo_196 (by decide) (by decide) rfl (by decide) ?_
  exact V_subk hk ⟨rfl, rfl, trivial⟩
theorem ap_5 {c a : Nat} {f : Nat → Int32} (hC : CmdAt E G c 5 f) (hk : V l E mX8_applyTo 18 P 349 [(0, .ref c), (1, .ref a)] [] G) : V l E mX8_applyTo 18 P 0 (lv_args 0 [.ref c, .ref a]) [] G := by
  obtain ⟨wa, ar, n, z, h1, h2, -⟩ := hC
  obtain ⟨va, hx, -⟩ := id h2
  refine V_aload_n dX8_applyTo_0 rfl (Or.inl ⟨_, rfl⟩) ?_
  refine V_get ckX8 (by first | assumption | (repeat (first | exact g_up_at | exact g_new_at rfl | assumption | refine g_up_of (by first | assumption | (simp only [g_new, g_up]; omega) | omega) ?_ | refine g_new_of (by first | assumption | (simp only [g_new, g_up]; omega) | omega) ?_))) 0 (by decide) q942 rfl (by rfl) dX8_applyTo_1 ?_
  refine V_astore_n dX8_applyTo_4 (Or.inl ⟨_, rfl⟩) (by decide) ?_
  refine V_iconstv (-1) dX8_applyTo_5 (by decide) ?_
  refine V_istore_n dX8_applyTo_6 (by decide) ?_
  refine V_aload_n dX8_applyTo_7 rfl (Or.inl ⟨_, rfl⟩) ?_
  refine V_callVR (q := (RJ7, TJ7, 4)) kJ7_hashCode q953 q954 q955 hx rfl dX8_applyTo_8 ?_ (d' := 3) (as := []) (hst := rfl)
  refine (str_hashC h2 (by decide +kernel) ?_)
  refine V_lookup (off := 143) 154 dX8_applyTo_11 (by decide) (by decide +kernel) (by decide) ?_
  refine V_aload_n dX8_applyTo_154 rfl (Or.inl ⟨_, rfl⟩) ?_
  refine V_sc scX8_37 q1027 dX8_applyTo_155 (by decide) rfl (fun hS155 => ?_)
  refine V_callVR (q := (RJ7, TJ7, 4)) kJ7_equals q1015 q1016 q1017 hx rfl dX8_applyTo_157 ?_ (d' := 1) (as := [_]) (hst := rfl)
  refine (str_equals h2 hS155 (by decide) ?_)
  refine V_if_eq 195 dX8_applyTo_160 (by decide) (fun c160 => absurd c160 (by decide)) (fun _ => ?_)
  refine V_iconstv 5 dX8_applyTo_163 (by decide) ?_
  refine V_istore_n dX8_applyTo_164 (by decide) ?_
  refine V_goto 195 dX8_applyTo_165 (by decide) ?_
  refine V_iload_n dX8_applyTo_195 rfl ?_
  refine V_tableIn 349 dX8_applyTo_196 (by decide) (by decide) rfl (by decide) ?_
  exact V_subk hk ⟨rfl, rfl, trivial⟩
theorem ap_6 {c a : Nat} {f : Nat → Int32} (hC : CmdAt E G c 6 f) (hk : V l E mX8_applyTo 18 P 364 [(0, .ref c), (1, .ref a)] [] G) : V l E mX8_applyTo 18 P 0 (lv_args 0 [.ref c, .ref a]) [] G := by
  obtain ⟨wa, ar, n, z, h1, h2, -⟩ := hC
  obtain ⟨va, hx, -⟩ := id h2
  refine V_aload_n dX8_applyTo_0 rfl (Or.inl ⟨_, rfl⟩) ?_
  refine V_get ckX8 (by first | assumption | (repeat (first | exact g_up_at | exact g_new_at rfl | assumption | refine g_up_of (by first | assumption | (simp only [g_new, g_up]; omega) | omega) ?_ | refine g_new_of (by first | assumption | (simp only [g_new, g_up]; omega) | omega) ?_))) 0 (by decide) q942 rfl (by rfl) dX8_applyTo_1 ?_
  refine V_astore_n dX8_applyTo_4 (Or.inl ⟨_, rfl⟩) (by decide) ?_
  refine V_iconstv (-1) dX8_applyTo_5 (by decide) ?_
  refine V_istore_n dX8_applyTo_6 (by decide) ?_
  refine V_aload_n dX8_applyTo_7 rfl (Or.inl ⟨_, rfl⟩) ?_
  refine V_callVR (q := (RJ7, TJ7, 4)) kJ7_hashCode q953 q954 q955 hx rfl dX8_applyTo_8 ?_ (d' := 3) (as := []) (hst := rfl)
  refine (str_hashC h2 (by decide +kernel) ?_)
  refine V_lookup (off := 157) 168 dX8_applyTo_11 (by decide) (by decide +kernel) (by decide) ?_
  refine V_aload_n dX8_applyTo_168 rfl (Or.inl ⟨_, rfl⟩) ?_
  refine V_sc scX8_39 q1028 dX8_applyTo_169 (by decide) rfl (fun hS169 => ?_)
  refine V_callVR (q := (RJ7, TJ7, 4)) kJ7_equals q1015 q1016 q1017 hx rfl dX8_applyTo_171 ?_ (d' := 1) (as := [_]) (hst := rfl)
  refine (str_equals h2 hS169 (by decide) ?_)
  refine V_if_eq 195 dX8_applyTo_174 (by decide) (fun c174 => absurd c174 (by decide)) (fun _ => ?_)
  refine V_bipushv 6 dX8_applyTo_177 (by decide) ?_
  refine V_istore_n dX8_applyTo_179 (by decide) ?_
  refine V_goto 195 dX8_applyTo_180 (by decide) ?_
  refine V_iload_n dX8_applyTo_195 rfl ?_
  refine V_tableIn 364 dX8_applyTo_196 (by decide) (by decide) rfl (by decide) ?_
  exact V_subk hk ⟨rfl, rfl, trivial⟩
theorem ap_7 {c a : Nat} {f : Nat → Int32} (hC : CmdAt E G c 7 f) (hk : V l E mX8_applyTo 18 P 369 [(0, .ref c), (1, .ref a)] [] G) : V l E mX8_applyTo 18 P 0 (lv_args 0 [.ref c, .ref a]) [] G := by
  obtain ⟨wa, ar, n, z, h1, h2, -⟩ := hC
  obtain ⟨va, hx, -⟩ := id h2
  refine V_aload_n dX8_applyTo_0 rfl (Or.inl ⟨_, rfl⟩) ?_
  refine V_get ckX8 (by first | assumption | (repeat (first | exact g_up_at | exact g_new_at rfl | assumption | refine g_up_of (by first | assumption | (simp only [g_new, g_up]; omega) | omega) ?_ | refine g_new_of (by first | assumption | (simp only [g_new, g_up]; omega) | omega) ?_))) 0 (by decide) q942 rfl (by rfl) dX8_applyTo_1 ?_
  refine V_astore_n dX8_applyTo_4 (Or.inl ⟨_, rfl⟩) (by decide) ?_
  refine V_iconstv (-1) dX8_applyTo_5 (by decide) ?_
  refine V_istore_n dX8_applyTo_6 (by decide) ?_
  refine V_aload_n dX8_applyTo_7 rfl (Or.inl ⟨_, rfl⟩) ?_
  refine V_callVR (q := (RJ7, TJ7, 4)) kJ7_hashCode q953 q954 q955 hx rfl dX8_applyTo_8 ?_ (d' := 3) (as := []) (hst := rfl)
  refine (str_hashC h2 (by decide +kernel) ?_)
  refine V_lookup (off := 172) 183 dX8_applyTo_11 (by decide) (by decide +kernel) (by decide) ?_
  refine V_aload_n dX8_applyTo_183 rfl (Or.inl ⟨_, rfl⟩) ?_
  refine V_sc scX8_41 q1029 dX8_applyTo_184 (by decide) rfl (fun hS184 => ?_)
  refine V_callVR (q := (RJ7, TJ7, 4)) kJ7_equals q1015 q1016 q1017 hx rfl dX8_applyTo_186 ?_ (d' := 1) (as := [_]) (hst := rfl)
  refine (str_equals h2 hS184 (by decide) ?_)
  refine V_if_eq 195 dX8_applyTo_189 (by decide) (fun c189 => absurd c189 (by decide)) (fun _ => ?_)
  refine V_bipushv 7 dX8_applyTo_192 (by decide) ?_
  refine V_istore_n dX8_applyTo_194 (by decide) ?_
  refine V_iload_n dX8_applyTo_195 rfl ?_
  refine V_tableIn 369 dX8_applyTo_196 (by decide) (by decide) rfl (by decide) ?_
  exact V_subk hk ⟨rfl, rfl, trivial⟩
theorem ap_8 {c a : Nat} {f : Nat → Int32} (hC : CmdAt E G c 8 f) (hk : V l E mX8_applyTo 18 P 384 [(0, .ref c), (1, .ref a)] [] G) : V l E mX8_applyTo 18 P 0 (lv_args 0 [.ref c, .ref a]) [] G := by
  obtain ⟨wa, ar, n, z, h1, h2, -⟩ := hC
  obtain ⟨va, hx, -⟩ := id h2
  refine V_aload_n dX8_applyTo_0 rfl (Or.inl ⟨_, rfl⟩) ?_
  refine V_get ckX8 (by first | assumption | (repeat (first | exact g_up_at | exact g_new_at rfl | assumption | refine g_up_of (by first | assumption | (simp only [g_new, g_up]; omega) | omega) ?_ | refine g_new_of (by first | assumption | (simp only [g_new, g_up]; omega) | omega) ?_))) 0 (by decide) q942 rfl (by rfl) dX8_applyTo_1 ?_
  refine V_astore_n dX8_applyTo_4 (Or.inl ⟨_, rfl⟩) (by decide) ?_
  refine V_iconstv (-1) dX8_applyTo_5 (by decide) ?_
  refine V_istore_n dX8_applyTo_6 (by decide) ?_
  refine V_aload_n dX8_applyTo_7 rfl (Or.inl ⟨_, rfl⟩) ?_
  refine V_callVR (q := (RJ7, TJ7, 4)) kJ7_hashCode q953 q954 q955 hx rfl dX8_applyTo_8 ?_ (d' := 3) (as := []) (hst := rfl)
  refine (str_hashC h2 (by decide +kernel) ?_)
  refine V_lookup (off := 184) 195 dX8_applyTo_11 (by decide) (by decide +kernel) (by decide) ?_
  refine V_iload_n dX8_applyTo_195 rfl ?_
  refine V_tableOut 384 dX8_applyTo_196 (Or.inl (by decide)) (by decide) ?_
  exact V_subk hk ⟨rfl, rfl, trivial⟩
theorem cmd_0 {A : Nat → Prop} {n a s pa al c : Nat} {fs rs : List Nat} {o : Of} {f : Nat → Int32} (hC : CmdAt E G c 0 f) (h : OffC E A n G a o s pa fs al rs) (hB : g_B E ≤ n) (hn : n ≤ G.2.1) (hA : ∀ q, G.2.1 ≤ q → A q) (ha : AppOK o) (hf : g_fit E G 2100 8000) (kt : cmK o 0 f = 0 → ∀ G', g_mod (fun q => q < n) G G' 2100 8000 → OffAt E A n G' a (doO o 0 (f 0) (f 1) (f 2) (f 3) (f 4)) → P (.returned (some (.int (cmR o 0 f)))) G') (kf : cmK o 0 f ≠ 0 → ∀ q G', g_mod (fun q => q < n) G G' 2100 8000 → CfAt G' q (cmK o 0 f) → P (.threw q) G') : g_Spc l E mX8_applyTo 18 [.ref c, .ref a] G P := by
  obtain ⟨i1, i2, i3, i4, i5, i6, i7⟩ := ha
  obtain ⟨hf1, hf2⟩ := hf
  have k4 := h.2.2.2.1
  have hl := h.len
  refine V_intro (plainFor_of_name plX8) (Nat.le_of_ble_eq_true rfl) ?_
  refine ap_0 hC ?_
  obtain ⟨wa, ar, nn, z, h1, h2, h3, hlo, hhi⟩ := hC
  have hlo : 4 ≤ nn := hlo
  refine V_aload_n dX8_applyTo_244 rfl (Or.inl ⟨_, rfl⟩) ?_
  refine V_aload_n dX8_applyTo_245 rfl (Or.inl ⟨_, rfl⟩) ?_
  refine V_iconstv 0 dX8_applyTo_246 (by decide) ?_
  refine V_callV (q := (RX8, TX8, 2)) kX8_at q1030 q1032 qs8 (by first | assumption | (repeat (first | exact g_up_at | exact g_new_at rfl | assumption | refine g_up_of (by first | assumption | (simp only [g_new, g_up]; omega) | omega) ?_ | refine g_new_of (by first | assumption | (simp only [g_new, g_up]; omega) | omega) ?_))) rfl dX8_applyTo_247 ?_ (d' := 0) (as := [_]) (hst := rfl)
  refine (cmd_at h1 h3 (k := 0) rfl (by omega) hhi ?_)
  refine V_aload_n dX8_applyTo_250 rfl (Or.inl ⟨_, rfl⟩) ?_
  refine V_iconstv 1 dX8_applyTo_251 (by decide) ?_
  refine V_callV (q := (RX8, TX8, 2)) kX8_at q1030 q1032 qs8 (by first | assumption | (repeat (first | exact g_up_at | exact g_new_at rfl | assumption | refine g_up_of (by first | assumption | (simp only [g_new, g_up]; omega) | omega) ?_ | refine g_new_of (by first | assumption | (simp only [g_new, g_up]; omega) | omega) ?_))) rfl dX8_applyTo_252 ?_ (d' := 0) (as := [_]) (hst := rfl)
  refine (cmd_at h1 h3 (k := 1) rfl (by omega) hhi ?_)
  refine V_aload_n dX8_applyTo_255 rfl (Or.inl ⟨_, rfl⟩) ?_
  refine V_iconstv 2 dX8_applyTo_256 (by decide) ?_
  refine V_callV (q := (RX8, TX8, 2)) kX8_at q1030 q1032 qs8 (by first | assumption | (repeat (first | exact g_up_at | exact g_new_at rfl | assumption | refine g_up_of (by first | assumption | (simp only [g_new, g_up]; omega) | omega) ?_ | refine g_new_of (by first | assumption | (simp only [g_new, g_up]; omega) | omega) ?_))) rfl dX8_applyTo_257 ?_ (d' := 0) (as := [_]) (hst := rfl)
  refine (cmd_at h1 h3 (k := 2) rfl (by omega) hhi ?_)
  refine V_aload_n dX8_applyTo_260 rfl (Or.inl ⟨_, rfl⟩) ?_
  refine V_iconstv 3 dX8_applyTo_261 (by decide) ?_
  refine V_callV (q := (RX8, TX8, 2)) kX8_at q1030 q1032 qs8 (by first | assumption | (repeat (first | exact g_up_at | exact g_new_at rfl | assumption | refine g_up_of (by first | assumption | (simp only [g_new, g_up]; omega) | omega) ?_ | refine g_new_of (by first | assumption | (simp only [g_new, g_up]; omega) | omega) ?_))) rfl dX8_applyTo_262 ?_ (d' := 0) (as := [_]) (hst := rfl)
  refine (cmd_at h1 h3 (k := 3) rfl (by omega) hhi ?_)
  refine V_callV (q := (RX2, TX2, 10)) kX2_addColour q1034 q1035 q1036 (by first | assumption | (repeat (first | exact g_up_at | exact g_new_at rfl | assumption | refine g_up_of (by first | assumption | (simp only [g_new, g_up]; omega) | omega) ?_ | refine g_new_of (by first | assumption | (simp only [g_new, g_up]; omega) | omega) ?_))) rfl dX8_applyTo_265 ?_ (d' := 8) (as := [_, _, _, _]) (hst := rfl)
  refine (off_addColour h hB hn hA ⟨by omega, by omega⟩ (fun h0 G' m hO => ?_) (fun hne q G' m hcf => ?_))
  · refine V_ireturn dX8_applyTo_268 rfl ?_
    exact kt (by show kOf _ 97 115 = 0; rw [h0]; rfl) G' (m.wide (fun _ h => h) (by decide) (by decide)) hO
  · exact VX_out (ci := 0) (fs := []) rfl (kf (kOf_ne (by decide) (by decide) hne) q G' (m.wide (fun _ h => h) (by decide) (by decide)) hcf)
theorem cmd_1 {A : Nat → Prop} {n a s pa al c : Nat} {fs rs : List Nat} {o : Of} {f : Nat → Int32} (hC : CmdAt E G c 1 f) (h : OffC E A n G a o s pa fs al rs) (hB : g_B E ≤ n) (hn : n ≤ G.2.1) (hA : ∀ q, G.2.1 ≤ q → A q) (ha : AppOK o) (hf : g_fit E G 2100 8000) (kt : cmK o 1 f = 0 → ∀ G', g_mod (fun q => q < n) G G' 2100 8000 → OffAt E A n G' a (doO o 1 (f 0) (f 1) (f 2) (f 3) (f 4)) → P (.returned (some (.int (cmR o 1 f)))) G') (kf : cmK o 1 f ≠ 0 → ∀ q G', g_mod (fun q => q < n) G G' 2100 8000 → CfAt G' q (cmK o 1 f) → P (.threw q) G') : g_Spc l E mX8_applyTo 18 [.ref c, .ref a] G P := by
  obtain ⟨i1, i2, i3, i4, i5, i6, i7⟩ := ha
  obtain ⟨hf1, hf2⟩ := hf
  have k4 := h.2.2.2.1
  have hl := h.len
  refine V_intro (plainFor_of_name plX8) (Nat.le_of_ble_eq_true rfl) ?_
  refine ap_1 hC ?_
  obtain ⟨wa, ar, nn, z, h1, h2, h3, hlo, hhi⟩ := hC
  have hlo : 5 ≤ nn := hlo
  refine V_wf (fun wf hBG => ?_)
  have k1 := g_ke.new (A := g_all) wf (g_ob 9 [.null]) 1
  have wf1 := wf.new (g_ob 9 [.null]) 1
  have k2 := g_ke.new (A := g_all) wf1 (g_ai E 3 (fun _ => 0)) 3
  have n1 : c ≠ (g_new G (g_ob 9 [.null]) 1).2.1 := by have := wf _ _ h1; simp only [g_new]; omega
  have n2 : ar ≠ (g_new G (g_ob 9 [.null]) 1).2.1 := by have := wf _ _ h3; simp only [g_new]; omega
  have c1 := k2 _ _ trivial (k1 _ _ trivial h1)
  have c3 := k2 _ _ trivial (k1 _ _ trivial h3)
  refine V_aload_n dX8_applyTo_269 rfl (Or.inl ⟨_, rfl⟩) ?_
  refine V_new ckX11 q1096 dX8_applyTo_270 (by first | omega | (simp only [g_new, g_up]; omega)) (by first | omega | (simp only [g_new, g_up]; omega)) ?_
  refine V_dup dX8_applyTo_273 rfl ?_
  refine V_iconstv 3 dX8_applyTo_274 (by decide) ?_
  refine V_newarray_int 3 rfl (by decide) q388 dX8_applyTo_275 (by first | omega | (simp only [g_new, g_up]; omega)) (by first | omega | (simp only [g_new, g_up]; omega)) ?_
  refine V_dup dX8_applyTo_277 rfl ?_
  refine V_iconstv 0 dX8_applyTo_278 (by decide) ?_
  refine V_aload_n dX8_applyTo_279 rfl (Or.inl ⟨_, rfl⟩) ?_
  refine V_iconstv 0 dX8_applyTo_280 (by decide) ?_
  refine V_callV (q := (RX8, TX8, 2)) kX8_at q1030 q1032 qs8 c1 rfl dX8_applyTo_281 ?_ (d' := 0) (as := [_]) (hst := rfl)
  refine (cmd_at c1 c3 (k := 0) rfl (by omega) hhi ?_)
  refine V_iastore (g_new_at rfl) (by first | assumption | omega | (simp only [g_new, g_up]; omega) | (simp only [g_new, g_up, g_B] at *; omega)) (by first | assumption | exact g_in (by decide)) q388 dX8_applyTo_284 ?_
  rw [g_new_up rfl]
  have d1 : ∀ F, (g_new (g_new G (g_ob 9 [.null]) 1) (g_ai E 3 F) 3).1 c = some (g_ob 7 [.ref wa, .ref ar]) := fun F => g_new_of n1 (k1 _ _ trivial h1)
  have d3 : ∀ F, (g_new (g_new G (g_ob 9 [.null]) 1) (g_ai E 3 F) 3).1 ar = some (g_ai E nn f) := fun F => g_new_of n2 (k1 _ _ trivial h3)
  refine V_dup dX8_applyTo_285 rfl ?_
  refine V_iconstv 1 dX8_applyTo_286 (by decide) ?_
  refine V_aload_n dX8_applyTo_287 rfl (Or.inl ⟨_, rfl⟩) ?_
  refine V_iconstv 1 dX8_applyTo_288 (by decide) ?_
  refine V_callV (q := (RX8, TX8, 2)) kX8_at q1030 q1032 qs8 (d1 _) rfl dX8_applyTo_289 ?_ (d' := 0) (as := [_]) (hst := rfl)
  refine (cmd_at (d1 _) (d3 _) (k := 1) rfl (by omega) hhi ?_)
  refine V_iastore (g_new_at rfl) (by first | assumption | omega | (simp only [g_new, g_up]; omega) | (simp only [g_new, g_up, g_B] at *; omega)) (by first | assumption | exact g_in (by decide)) q388 dX8_applyTo_292 ?_
  rw [g_new_up rfl]
  refine V_dup dX8_applyTo_293 rfl ?_
  refine V_iconstv 2 dX8_applyTo_294 (by decide) ?_
  refine V_aload_n dX8_applyTo_295 rfl (Or.inl ⟨_, rfl⟩) ?_
  refine V_iconstv 2 dX8_applyTo_296 (by decide) ?_
  refine V_callV (q := (RX8, TX8, 2)) kX8_at q1030 q1032 qs8 (d1 _) rfl dX8_applyTo_297 ?_ (d' := 0) (as := [_]) (hst := rfl)
  refine (cmd_at (d1 _) (d3 _) (k := 2) rfl (by omega) hhi ?_)
  refine V_iastore (g_new_at rfl) (by first | assumption | omega | (simp only [g_new, g_up]; omega) | (simp only [g_new, g_up, g_B] at *; omega)) (by first | assumption | exact g_in (by decide)) q388 dX8_applyTo_300 ?_
  rw [g_new_up rfl]
  generalize hF : upd (upd (upd (fun _ => (0 : Int32)) (Int32.toNatClampNeg 0) (f 0)) (Int32.toNatClampNeg 1) (f 1)) (Int32.toNatClampNeg 2) (f 2) = F
  have hF3 : ∀ k, k < 3 → F k = tn_at (f 0, f 1, f 2) k := fun k hk => by rw [← hF]; exact upd3 hk
  have kN : g_ke g_all G (g_new (g_new G (g_ob 9 [.null]) 1) (g_ai E 3 F) 3) := k1.trans (g_ke.new wf1 _ _)
  have wN : g_wf (g_new (g_new G (g_ob 9 [.null]) 1) (g_ai E 3 F) 3) := wf1.new _ _
  have kU : g_ke g_all G (g_up (g_new (g_new G (g_ob 9 [.null]) 1) (g_ai E 3 F) 3) G.2.1 (g_ob 9 [.ref (G.2.1 + 1)])) := fun q x _ hx => g_up_of (wf.ne hx) (kN q x trivial hx)
  have u1 := kU _ _ trivial h1
  have u3 := kU _ _ trivial h3
  have hO := h.keep (kU.mono fun _ _ => trivial)
  refine V_callI kX11_init rfl rfl q1097 q1080 dX8_applyTo_301 ?_ (d' := 1) (as := [_]) (hst := rfl)
  refine (tint_init (g_new_of (by simp only [g_new]; omega) (g_new_at rfl)) hBG ?_)
  refine V_aload_n dX8_applyTo_304 rfl (Or.inl ⟨_, rfl⟩) ?_
  refine V_iconstv 3 dX8_applyTo_305 (by decide) ?_
  refine V_callV (q := (RX8, TX8, 2)) kX8_at q1030 q1032 qs8 u1 rfl dX8_applyTo_306 ?_ (d' := 0) (as := [_]) (hst := rfl)
  refine (cmd_at u1 u3 (k := 3) rfl (by omega) hhi ?_)
  refine V_aload_n dX8_applyTo_309 rfl (Or.inl ⟨_, rfl⟩) ?_
  refine V_iconstv 4 dX8_applyTo_310 (by decide) ?_
  refine V_callV (q := (RX8, TX8, 2)) kX8_at q1030 q1032 qs8 u1 rfl dX8_applyTo_311 ?_ (d' := 0) (as := [_]) (hst := rfl)
  refine (cmd_at u1 u3 (k := 4) rfl (by omega) hhi ?_)
  have ht : TintAt E A (g_up (g_new (g_new G (g_ob 9 [.null]) 1) (g_ai E 3 F) 3) G.2.1 (g_ob 9 [.ref (G.2.1 + 1)])) G.2.1 (f 0, f 1, f 2) := ⟨hA _ (Nat.le_refl _), G.2.1 + 1, F, hA _ (by omega), g_up_at, g_up_of (by omega) (g_new_at rfl), hF3⟩
  have mm : ∀ G', g_mod (fun q => q < n) (g_up (g_new (g_new G (g_ob 9 [.null]) 1) (g_ai E 3 F) 3) G.2.1 (g_ob 9 [.ref (G.2.1 + 1)])) G' 5 110 → g_mod (fun q => q < n) G G' 2100 8000 := fun G' m => by
    obtain ⟨m1, m2, m3, m4, m5⟩ := m
    simp only [g_new, g_up] at m2 m3 m4 m5
    exact ⟨(kU.mono fun _ _ => trivial).trans m1, by omega, by omega, by omega, by omega⟩
  refine V_callV (q := (RX2, TX2, 10)) kX2_addReport q1098 q1099 q1100 hO.2.2.2.1 rfl dX8_applyTo_314 ?_ (d' := 8) (as := [_, _, _]) (hst := rfl)
  refine (off_addReport hO hB (by simp only [g_new, g_up]; omega) (fun q hq => hA q (by simp only [g_new, g_up] at hq; omega)) ht ⟨by simp only [g_new, g_up]; omega, by simp only [g_new, g_up]; omega⟩ (fun h0 G' m hO' => ?_) (fun hne q G' m hcf => ?_))
  · refine V_ireturn dX8_applyTo_317 rfl ?_
    exact kt (by show kOf (crep o (f 0) (f 1) (f 2) (f 3) (f 4)) 97 115 = 0; rw [show crep o (f 0) (f 1) (f 2) (f 3) (f 4) = 0 from h0]; rfl) G' (mm G' m) hO'
  · exact VX_out (ci := 0) (fs := []) rfl (kf (kOf_ne (by decide) (by decide) hne) q G' (mm G' m) hcf)
theorem cmd_2 {A : Nat → Prop} {n a s pa al c : Nat} {fs rs : List Nat} {o : Of} {f : Nat → Int32} (hC : CmdAt E G c 2 f) (h : OffC E A n G a o s pa fs al rs) (hB : g_B E ≤ n) (hn : n ≤ G.2.1) (hA : ∀ q, G.2.1 ≤ q → A q) (ha : AppOK o) (hf : g_fit E G 2100 8000) (kt : cmK o 2 f = 0 → ∀ G', g_mod (fun q => q < n) G G' 2100 8000 → OffAt E A n G' a (doO o 2 (f 0) (f 1) (f 2) (f 3) (f 4)) → P (.returned (some (.int (cmR o 2 f)))) G') (kf : cmK o 2 f ≠ 0 → ∀ q G', g_mod (fun q => q < n) G G' 2100 8000 → CfAt G' q (cmK o 2 f) → P (.threw q) G') : g_Spc l E mX8_applyTo 18 [.ref c, .ref a] G P := by
  obtain ⟨i1, i2, i3, i4, i5, i6, i7⟩ := ha
  obtain ⟨hf1, hf2⟩ := hf
  have k4 := h.2.2.2.1
  have hl := h.len
  refine V_intro (plainFor_of_name plX8) (Nat.le_of_ble_eq_true rfl) ?_
  refine ap_2 hC ?_
  obtain ⟨wa, ar, nn, z, h1, h2, h3, hlo, hhi⟩ := hC
  have hlo : 1 ≤ nn := hlo
  refine V_aload_n dX8_applyTo_318 rfl (Or.inl ⟨_, rfl⟩) ?_
  refine V_aload_n dX8_applyTo_319 rfl (Or.inl ⟨_, rfl⟩) ?_
  refine V_iconstv 0 dX8_applyTo_320 (by decide) ?_
  refine V_callV (q := (RX8, TX8, 2)) kX8_at q1030 q1032 qs8 (by first | assumption | (repeat (first | exact g_up_at | exact g_new_at rfl | assumption | refine g_up_of (by first | assumption | (simp only [g_new, g_up]; omega) | omega) ?_ | refine g_new_of (by first | assumption | (simp only [g_new, g_up]; omega) | omega) ?_))) rfl dX8_applyTo_321 ?_ (d' := 0) (as := [_]) (hst := rfl)
  refine (cmd_at h1 h3 (k := 0) rfl (by omega) hhi ?_)
  refine V_callV (q := (RX2, TX2, 10)) kX2_withdraw q1135 q1136 q1137 (by first | assumption | (repeat (first | exact g_up_at | exact g_new_at rfl | assumption | refine g_up_of (by first | assumption | (simp only [g_new, g_up]; omega) | omega) ?_ | refine g_new_of (by first | assumption | (simp only [g_new, g_up]; omega) | omega) ?_))) rfl dX8_applyTo_324 ?_ (d' := 8) (as := [_]) (hst := rfl)
  refine (off_withdraw h hB hn i1 ⟨by omega, by omega⟩ (fun j hj G' m hO => ?_) (fun hne q G' m hcf => ?_))
  · refine V_ireturn dX8_applyTo_327 rfl ?_
    refine (show P _ G' from ?_)
    have e : (plc (f 0) o.2.1).getD 0 = j := by rw [hj]; rfl
    have kt9 := kt (by show (if plc (f 0) o.2.1 = none then (101 : Int32) else 0) = 0; rw [hj]; rfl) G' (m.wide (fun _ h => h) (by decide) (by decide)) (by show OffAt E A n G' a (ofWd o ((plc (f 0) o.2.1).getD 0)); rw [e]; exact hO)
    have kt9 : P (.returned (some (.int (nI (ofWd o ((plc (f 0) o.2.1).getD 0)).2.1.length)))) G' := kt9
    rw [e] at kt9
    exact kt9
  · have e : cmK o 2 f = 101 := by show (if plc (f 0) o.2.1 = none then (101 : Int32) else 0) = 101; rw [hne]; rfl
    exact VX_out (ci := 0) (fs := []) rfl (kf (by rw [e]; decide) q G' (m.wide (fun _ h => h) (by decide) (by decide)) (by rw [e]; exact hcf))
theorem cmd_3 {A : Nat → Prop} {n a s pa al c : Nat} {fs rs : List Nat} {o : Of} {f : Nat → Int32} (hC : CmdAt E G c 3 f) (h : OffC E A n G a o s pa fs al rs) (hB : g_B E ≤ n) (hn : n ≤ G.2.1) (hA : ∀ q, G.2.1 ≤ q → A q) (ha : AppOK o) (hf : g_fit E G 2100 8000) (kt : cmK o 3 f = 0 → ∀ G', g_mod (fun q => q < n) G G' 2100 8000 → OffAt E A n G' a (doO o 3 (f 0) (f 1) (f 2) (f 3) (f 4)) → P (.returned (some (.int (cmR o 3 f)))) G') (kf : cmK o 3 f ≠ 0 → ∀ q G', g_mod (fun q => q < n) G G' 2100 8000 → CfAt G' q (cmK o 3 f) → P (.threw q) G') : g_Spc l E mX8_applyTo 18 [.ref c, .ref a] G P := by
  obtain ⟨i1, i2, i3, i4, i5, i6, i7⟩ := ha
  obtain ⟨hf1, hf2⟩ := hf
  have k4 := h.2.2.2.1
  have hl := h.len
  refine V_intro (plainFor_of_name plX8) (Nat.le_of_ble_eq_true rfl) ?_
  refine ap_3 hC ?_
  obtain ⟨wa, ar, nn, z, h1, h2, h3, hlo, hhi⟩ := hC
  have hlo : 1 ≤ nn := hlo
  refine V_aload_n dX8_applyTo_328 rfl (Or.inl ⟨_, rfl⟩) ?_
  refine V_aload_n dX8_applyTo_329 rfl (Or.inl ⟨_, rfl⟩) ?_
  refine V_iconstv 0 dX8_applyTo_330 (by decide) ?_
  refine V_callV (q := (RX8, TX8, 2)) kX8_at q1030 q1032 qs8 (by first | assumption | (repeat (first | exact g_up_at | exact g_new_at rfl | assumption | refine g_up_of (by first | assumption | (simp only [g_new, g_up]; omega) | omega) ?_ | refine g_new_of (by first | assumption | (simp only [g_new, g_up]; omega) | omega) ?_))) rfl dX8_applyTo_331 ?_ (d' := 0) (as := [_]) (hst := rfl)
  refine (cmd_at h1 h3 (k := 0) rfl (by omega) hhi ?_)
  refine V_callV (q := (RX2, TX2, 10)) kX2_discard q1170 q1171 q1172 (by first | assumption | (repeat (first | exact g_up_at | exact g_new_at rfl | assumption | refine g_up_of (by first | assumption | (simp only [g_new, g_up]; omega) | omega) ?_ | refine g_new_of (by first | assumption | (simp only [g_new, g_up]; omega) | omega) ?_))) rfl dX8_applyTo_334 ?_ (d' := 8) (as := [_]) (hst := rfl)
  refine (off_discard h hB hn i1 ⟨by omega, by omega⟩ (fun j hj G' m hO => ?_) (fun hne q G' m hcf => ?_))
  · refine V_ireturn dX8_applyTo_337 rfl ?_
    refine (show P _ G' from ?_)
    have e : (plc (f 0) o.1).getD 0 = j := by rw [hj]; rfl
    have kt9 := kt (by show (if plc (f 0) o.1 = none then (101 : Int32) else 0) = 0; rw [hj]; rfl) G' (m.wide (fun _ h => h) (by decide) (by decide)) (by show OffAt E A n G' a (ofDis o ((plc (f 0) o.1).getD 0)); rw [e]; exact hO)
    have kt9 : P (.returned (some (.int (nI (ofDis o ((plc (f 0) o.1).getD 0)).1.length)))) G' := kt9
    rw [e] at kt9
    exact kt9
  · have e : cmK o 3 f = 101 := by show (if plc (f 0) o.1 = none then (101 : Int32) else 0) = 101; rw [hne]; rfl
    exact VX_out (ci := 0) (fs := []) rfl (kf (by rw [e]; decide) q G' (m.wide (fun _ h => h) (by decide) (by decide)) (by rw [e]; exact hcf))
theorem cmd_4 {A : Nat → Prop} {n a s pa al c : Nat} {fs rs : List Nat} {o : Of} {f : Nat → Int32} (hC : CmdAt E G c 4 f) (h : OffC E A n G a o s pa fs al rs) (hB : g_B E ≤ n) (hn : n ≤ G.2.1) (hA : ∀ q, G.2.1 ≤ q → A q) (ha : AppOK o) (hch : ((f 0).toUInt32 % 65536).toInt32 = f 0) (hf : g_fit E G 2100 8000) (kt : cmK o 4 f = 0 → ∀ G', g_mod (fun q => q < n) G G' 2100 8000 → OffAt E A n G' a (doO o 4 (f 0) (f 1) (f 2) (f 3) (f 4)) → P (.returned (some (.int (cmR o 4 f)))) G') (kf : cmK o 4 f ≠ 0 → ∀ q G', g_mod (fun q => q < n) G G' 2100 8000 → CfAt G' q (cmK o 4 f) → P (.threw q) G') : g_Spc l E mX8_applyTo 18 [.ref c, .ref a] G P := by
  obtain ⟨i1, i2, i3, i4, i5, i6, i7⟩ := ha
  obtain ⟨hf1, hf2⟩ := hf
  have k4 := h.2.2.2.1
  have hl := h.len
  refine V_intro (plainFor_of_name plX8) (Nat.le_of_ble_eq_true rfl) ?_
  refine ap_4 hC ?_
  obtain ⟨wa, ar, nn, z, h1, h2, h3, hlo, hhi⟩ := hC
  have hlo : 1 ≤ nn := hlo
  refine V_aload_n dX8_applyTo_338 rfl (Or.inl ⟨_, rfl⟩) ?_
  refine V_aload_n dX8_applyTo_339 rfl (Or.inl ⟨_, rfl⟩) ?_
  refine V_iconstv 0 dX8_applyTo_340 (by decide) ?_
  refine V_callV (q := (RX8, TX8, 2)) kX8_at q1030 q1032 qs8 (by first | assumption | (repeat (first | exact g_up_at | exact g_new_at rfl | assumption | refine g_up_of (by first | assumption | (simp only [g_new, g_up]; omega) | omega) ?_ | refine g_new_of (by first | assumption | (simp only [g_new, g_up]; omega) | omega) ?_))) rfl dX8_applyTo_341 ?_ (d' := 0) (as := [_]) (hst := rfl)
  refine (cmd_at h1 h3 (k := 0) rfl (by omega) hhi ?_)
  refine V_i2c dX8_applyTo_344 ?_
  rw [hch]
  refine V_callV (q := (RX2, TX2, 10)) kX2_setMetric q1187 q1188 q1189 (by first | assumption | (repeat (first | exact g_up_at | exact g_new_at rfl | assumption | refine g_up_of (by first | assumption | (simp only [g_new, g_up]; omega) | omega) ?_ | refine g_new_of (by first | assumption | (simp only [g_new, g_up]; omega) | omega) ?_))) rfl dX8_applyTo_345 ?_ (d' := 8) (as := [_]) (hst := rfl)
  refine (off_setMetric h hB hn ⟨by omega, by omega⟩ (fun h0 G' m hO => ?_) (fun hne q G' m hcf => ?_))
  · refine V_ireturn dX8_applyTo_348 rfl ?_
    exact kt (by show (if isM (f 0) = true then (0 : Int32) else 97) = 0; rw [if_pos h0]) G' (m.wide (fun _ h => h) (by decide) (by decide)) hO
  · have e : cmK o 4 f = 97 := by show (if isM (f 0) = true then (0 : Int32) else 97) = 97; rw [hne]; rfl
    exact VX_out (ci := 0) (fs := []) rfl (kf (by rw [e]; decide) q G' (m.wide (fun _ h => h) (by decide) (by decide)) (by rw [e]; exact hcf))
theorem cmd_5 {A : Nat → Prop} {n a s pa al c : Nat} {fs rs : List Nat} {o : Of} {f : Nat → Int32} (hC : CmdAt E G c 5 f) (h : OffC E A n G a o s pa fs al rs) (hB : g_B E ≤ n) (hn : n ≤ G.2.1) (hA : ∀ q, G.2.1 ≤ q → A q) (ha : AppOK o) (hf : g_fit E G 2100 8000) (kt : cmK o 5 f = 0 → ∀ G', g_mod (fun q => q < n) G G' 2100 8000 → OffAt E A n G' a (doO o 5 (f 0) (f 1) (f 2) (f 3) (f 4)) → P (.returned (some (.int (cmR o 5 f)))) G') (kf : cmK o 5 f ≠ 0 → ∀ q G', g_mod (fun q => q < n) G G' 2100 8000 → CfAt G' q (cmK o 5 f) → P (.threw q) G') : g_Spc l E mX8_applyTo 18 [.ref c, .ref a] G P := by
  obtain ⟨i1, i2, i3, i4, i5, i6, i7⟩ := ha
  obtain ⟨hf1, hf2⟩ := hf
  have k4 := h.2.2.2.1
  have hl := h.len
  refine V_intro (plainFor_of_name plX8) (Nat.le_of_ble_eq_true rfl) ?_
  refine ap_5 hC ?_
  obtain ⟨wa, ar, nn, z, h1, h2, h3, hlo, hhi⟩ := hC
  have hlo : 2 ≤ nn := hlo
  refine V_aload_n dX8_applyTo_349 rfl (Or.inl ⟨_, rfl⟩) ?_
  refine V_aload_n dX8_applyTo_350 rfl (Or.inl ⟨_, rfl⟩) ?_
  refine V_iconstv 0 dX8_applyTo_351 (by decide) ?_
  refine V_callV (q := (RX8, TX8, 2)) kX8_at q1030 q1032 qs8 (by first | assumption | (repeat (first | exact g_up_at | exact g_new_at rfl | assumption | refine g_up_of (by first | assumption | (simp only [g_new, g_up]; omega) | omega) ?_ | refine g_new_of (by first | assumption | (simp only [g_new, g_up]; omega) | omega) ?_))) rfl dX8_applyTo_352 ?_ (d' := 0) (as := [_]) (hst := rfl)
  refine (cmd_at h1 h3 (k := 0) rfl (by omega) hhi ?_)
  refine V_aload_n dX8_applyTo_355 rfl (Or.inl ⟨_, rfl⟩) ?_
  refine V_iconstv 1 dX8_applyTo_356 (by decide) ?_
  refine V_callV (q := (RX8, TX8, 2)) kX8_at q1030 q1032 qs8 (by first | assumption | (repeat (first | exact g_up_at | exact g_new_at rfl | assumption | refine g_up_of (by first | assumption | (simp only [g_new, g_up]; omega) | omega) ?_ | refine g_new_of (by first | assumption | (simp only [g_new, g_up]; omega) | omega) ?_))) rfl dX8_applyTo_357 ?_ (d' := 0) (as := [_]) (hst := rfl)
  refine (cmd_at h1 h3 (k := 1) rfl (by omega) hhi ?_)
  refine V_callV (q := (RX2, TX2, 10)) kX2_giveBack q1238 q1239 q1240 (by first | assumption | (repeat (first | exact g_up_at | exact g_new_at rfl | assumption | refine g_up_of (by first | assumption | (simp only [g_new, g_up]; omega) | omega) ?_ | refine g_new_of (by first | assumption | (simp only [g_new, g_up]; omega) | omega) ?_))) rfl dX8_applyTo_360 ?_ (d' := 17) (as := [_, _]) (hst := rfl)
  refine (off_giveBack h hB hn i1 (i2 fs hl.1) ⟨by omega, by omega⟩ (fun h0 k j hk hj G' m hO => ?_) (fun hne q G' m hcf => ?_))
  · refine V_ireturn dX8_applyTo_363 rfl ?_
    have e1 : (plc (f 0) o.2.1).getD 0 = k := by rw [hk]; rfl
    have e2 : (plc (f 1) o.1).getD 0 = j := by rw [hj]; rfl
    have kt9 := kt (by show kOf _ 101 117 = 0; rw [h0]; rfl) G' (m.wide (fun _ h => h) (by decide) (by decide)) (by show OffAt E A n G' a (ofGive o ((plc (f 0) o.2.1).getD 0) ((plc (f 1) o.1).getD 0)); rw [e1, e2]; exact hO)
    have kt9 : P (.returned (some (.int (rwAt o.2.1 ((plc (f 0) o.2.1).getD 0)).2.2.2))) G' := kt9
    rw [e1] at kt9
    exact kt9
  · exact VX_out (ci := 0) (fs := []) rfl (kf (kOf_ne (by decide) (by decide) hne) q G' (m.wide (fun _ h => h) (by decide) (by decide)) hcf)
theorem cmd_6 {A : Nat → Prop} {n a s pa al c : Nat} {fs rs : List Nat} {o : Of} {f : Nat → Int32} (hC : CmdAt E G c 6 f) (h : OffC E A n G a o s pa fs al rs) (hB : g_B E ≤ n) (hn : n ≤ G.2.1) (hA : ∀ q, G.2.1 ≤ q → A q) (ha : AppOK o) (hf : g_fit E G 2100 8000) (kt : cmK o 6 f = 0 → ∀ G', g_mod (fun q => q < n) G G' 2100 8000 → OffAt E A n G' a (doO o 6 (f 0) (f 1) (f 2) (f 3) (f 4)) → P (.returned (some (.int (cmR o 6 f)))) G') (kf : cmK o 6 f ≠ 0 → ∀ q G', g_mod (fun q => q < n) G G' 2100 8000 → CfAt G' q (cmK o 6 f) → P (.threw q) G') : g_Spc l E mX8_applyTo 18 [.ref c, .ref a] G P := by
  obtain ⟨i1, i2, i3, i4, i5, i6, i7⟩ := ha
  obtain ⟨hf1, hf2⟩ := hf
  have k4 := h.2.2.2.1
  have hl := h.len
  refine V_intro (plainFor_of_name plX8) (Nat.le_of_ble_eq_true rfl) ?_
  refine ap_6 hC ?_
  obtain ⟨wa, ar, nn, z, h1, h2, h3, hlo, hhi⟩ := hC
  have hlo : 0 ≤ nn := hlo
  refine V_aload_n dX8_applyTo_364 rfl (Or.inl ⟨_, rfl⟩) ?_
  refine V_callV (q := (RX2, TX2, 10)) kX2_settle q1409 q1410 q1411 (by first | assumption | (repeat (first | exact g_up_at | exact g_new_at rfl | assumption | refine g_up_of (by first | assumption | (simp only [g_new, g_up]; omega) | omega) ?_ | refine g_new_of (by first | assumption | (simp only [g_new, g_up]; omega) | omega) ?_))) rfl dX8_applyTo_365 ?_ (d' := 6) (as := []) (hst := rfl)
  refine (off_settle h hB hn i1 i3 i4 i5 ⟨by omega, by omega⟩ (fun G' m hO => ?_))
  refine V_ireturn dX8_applyTo_368 rfl ?_
  exact kt rfl G' (m.wide (fun _ h => h) (by decide) (by decide)) hO
theorem cmd_7 {A : Nat → Prop} {n a s pa al c : Nat} {fs rs : List Nat} {o : Of} {f : Nat → Int32} (hC : CmdAt E G c 7 f) (h : OffC E A n G a o s pa fs al rs) (hB : g_B E ≤ n) (hn : n ≤ G.2.1) (hA : ∀ q, G.2.1 ≤ q → A q) (ha : AppOK o) (hf : g_fit E G 2100 8000) (kt : cmK o 7 f = 0 → ∀ G', g_mod (fun q => q < n) G G' 2100 8000 → OffAt E A n G' a (doO o 7 (f 0) (f 1) (f 2) (f 3) (f 4)) → P (.returned (some (.int (cmR o 7 f)))) G') (kf : cmK o 7 f ≠ 0 → ∀ q G', g_mod (fun q => q < n) G G' 2100 8000 → CfAt G' q (cmK o 7 f) → P (.threw q) G') : g_Spc l E mX8_applyTo 18 [.ref c, .ref a] G P := by
  obtain ⟨i1, i2, i3, i4, i5, i6, i7⟩ := ha
  obtain ⟨hf1, hf2⟩ := hf
  have k4 := h.2.2.2.1
  have hl := h.len
  refine V_intro (plainFor_of_name plX8) (Nat.le_of_ble_eq_true rfl) ?_
  refine ap_7 hC ?_
  obtain ⟨wa, ar, nn, z, h1, h2, h3, hlo, hhi⟩ := hC
  have hlo : 2 ≤ nn := hlo
  refine V_aload_n dX8_applyTo_369 rfl (Or.inl ⟨_, rfl⟩) ?_
  refine V_aload_n dX8_applyTo_370 rfl (Or.inl ⟨_, rfl⟩) ?_
  refine V_iconstv 0 dX8_applyTo_371 (by decide) ?_
  refine V_callV (q := (RX8, TX8, 2)) kX8_at q1030 q1032 qs8 (by first | assumption | (repeat (first | exact g_up_at | exact g_new_at rfl | assumption | refine g_up_of (by first | assumption | (simp only [g_new, g_up]; omega) | omega) ?_ | refine g_new_of (by first | assumption | (simp only [g_new, g_up]; omega) | omega) ?_))) rfl dX8_applyTo_372 ?_ (d' := 0) (as := [_]) (hst := rfl)
  refine (cmd_at h1 h3 (k := 0) rfl (by omega) hhi ?_)
  refine V_aload_n dX8_applyTo_375 rfl (Or.inl ⟨_, rfl⟩) ?_
  refine V_iconstv 1 dX8_applyTo_376 (by decide) ?_
  refine V_callV (q := (RX8, TX8, 2)) kX8_at q1030 q1032 qs8 (by first | assumption | (repeat (first | exact g_up_at | exact g_new_at rfl | assumption | refine g_up_of (by first | assumption | (simp only [g_new, g_up]; omega) | omega) ?_ | refine g_new_of (by first | assumption | (simp only [g_new, g_up]; omega) | omega) ?_))) rfl dX8_applyTo_377 ?_ (d' := 0) (as := [_]) (hst := rfl)
  refine (cmd_at h1 h3 (k := 1) rfl (by omega) hhi ?_)
  refine V_callV (q := (RX2, TX2, 10)) kX2_mix q1472 q1473 q1474 (by first | assumption | (repeat (first | exact g_up_at | exact g_new_at rfl | assumption | refine g_up_of (by first | assumption | (simp only [g_new, g_up]; omega) | omega) ?_ | refine g_new_of (by first | assumption | (simp only [g_new, g_up]; omega) | omega) ?_))) rfl dX8_applyTo_380 ?_ (d' := 8) (as := [_, _]) (hst := rfl)
  refine (off_mix h hB hn hA i1 ⟨by omega, by omega⟩ (fun h0 k j hk hj G' m hO => ?_) (fun hne q G' m hcf => ?_))
  · refine V_ireturn dX8_applyTo_383 rfl ?_
    have e1 : (plc (f 0) o.1).getD 0 = k := by rw [hk]; rfl
    have e2 : (plc (f 1) o.1).getD 0 = j := by rw [hj]; rfl
    exact kt (by show kOf _ 101 97 = 0; rw [h0]; rfl) G' (m.wide (fun _ h => h) (by decide) (by decide)) (by show OffAt E A n G' a (ofMix o ((plc (f 0) o.1).getD 0) ((plc (f 1) o.1).getD 0)); rw [e1, e2]; exact hO)
  · exact VX_out (ci := 0) (fs := []) rfl (kf (kOf_ne (by decide) (by decide) hne) q G' (m.wide (fun _ h => h) (by decide) (by decide)) hcf)
theorem cmd_8 {A : Nat → Prop} {n a s pa al c : Nat} {fs rs : List Nat} {o : Of} {f : Nat → Int32} (hC : CmdAt E G c 8 f) (h : OffC E A n G a o s pa fs al rs) (hB : g_B E ≤ n) (hn : n ≤ G.2.1) (hA : ∀ q, G.2.1 ≤ q → A q) (ha : AppOK o) (hf : g_fit E G 2100 8000) (kt : cmK o 8 f = 0 → ∀ G', g_mod (fun q => q < n) G G' 2100 8000 → OffAt E A n G' a (doO o 8 (f 0) (f 1) (f 2) (f 3) (f 4)) → P (.returned (some (.int (cmR o 8 f)))) G') (kf : cmK o 8 f ≠ 0 → ∀ q G', g_mod (fun q => q < n) G G' 2100 8000 → CfAt G' q (cmK o 8 f) → P (.threw q) G') : g_Spc l E mX8_applyTo 18 [.ref c, .ref a] G P := by
  obtain ⟨i1, i2, i3, i4, i5, i6, i7⟩ := ha
  obtain ⟨hf1, hf2⟩ := hf
  have k4 := h.2.2.2.1
  have hl := h.len
  refine V_intro (plainFor_of_name plX8) (Nat.le_of_ble_eq_true rfl) ?_
  refine ap_8 hC ?_
  obtain ⟨wa, ar, nn, z, h1, h2, h3, hlo, hhi⟩ := hC
  have hlo : 1 ≤ nn := hlo
  refine V_aload_n dX8_applyTo_384 rfl (Or.inl ⟨_, rfl⟩) ?_
  refine V_aload_n dX8_applyTo_385 rfl (Or.inl ⟨_, rfl⟩) ?_
  refine V_iconstv 0 dX8_applyTo_386 (by decide) ?_
  refine V_callV (q := (RX8, TX8, 2)) kX8_at q1030 q1032 qs8 (by first | assumption | (repeat (first | exact g_up_at | exact g_new_at rfl | assumption | refine g_up_of (by first | assumption | (simp only [g_new, g_up]; omega) | omega) ?_ | refine g_new_of (by first | assumption | (simp only [g_new, g_up]; omega) | omega) ?_))) rfl dX8_applyTo_387 ?_ (d' := 0) (as := [_]) (hst := rfl)
  refine (cmd_at h1 h3 (k := 0) rfl (by omega) hhi ?_)
  refine V_callV (q := (RX2, TX2, 10)) kX2_passDays q1488 q1489 q1490 (by first | assumption | (repeat (first | exact g_up_at | exact g_new_at rfl | assumption | refine g_up_of (by first | assumption | (simp only [g_new, g_up]; omega) | omega) ?_ | refine g_new_of (by first | assumption | (simp only [g_new, g_up]; omega) | omega) ?_))) rfl dX8_applyTo_390 ?_ (d' := 8) (as := [_]) (hst := rfl)
  refine (off_passDays h hB hn hA i6 ⟨by omega, by omega⟩ (fun h0 G' m hO => ?_) (fun hne q G' m hcf => ?_))
  · obtain ⟨e1, e2⟩ := i7 _ (isb_cl (n := 99) (by decide) h0)
    rw [e1] at hO
    rw [e1, e2]
    refine V_ireturn dX8_applyTo_393 rfl ?_
    exact kt (by show (if isb (f 0) 1 99 = true then (0 : Int32) else 97) = 0; rw [if_pos h0]) G' (m.wide (fun _ h => h) (by decide) (by decide)) hO
  · have e : cmK o 8 f = 97 := by show (if isb (f 0) 1 99 = true then (0 : Int32) else 97) = 97; rw [hne]; rfl
    exact VX_out (ci := 0) (fs := []) rfl (kf (by rw [e]; decide) q G' (m.wide (fun _ h => h) (by decide) (by decide)) (by rw [e]; exact hcf))
theorem cmd_apply {A : Nat → Prop} {n a s pa al c kind : Nat} {fs rs : List Nat} {o : Of} {f : Nat → Int32} (hk9 : kind < 9) (hC : CmdAt E G c kind f) (h : OffC E A n G a o s pa fs al rs) (hB : g_B E ≤ n) (hn : n ≤ G.2.1) (hA : ∀ q, G.2.1 ≤ q → A q) (ha : AppOK o) (hch : kind = 4 → ((f 0).toUInt32 % 65536).toInt32 = f 0) (hf : g_fit E G 2100 8000) (kt : cmK o kind f = 0 → ∀ G', g_mod (fun q => q < n) G G' 2100 8000 → OffAt E A n G' a (doO o kind (f 0) (f 1) (f 2) (f 3) (f 4)) → P (.returned (some (.int (cmR o kind f)))) G') (kf : cmK o kind f ≠ 0 → ∀ q G', g_mod (fun q => q < n) G G' 2100 8000 → CfAt G' q (cmK o kind f) → P (.threw q) G') : g_Spc l E mX8_applyTo 18 [.ref c, .ref a] G P := by
  have hh : kind = 0 ∨ kind = 1 ∨ kind = 2 ∨ kind = 3 ∨ kind = 4 ∨ kind = 5 ∨ kind = 6 ∨ kind = 7 ∨ kind = 8 := by omega
  rcases hh with rfl | rfl | rfl | rfl | rfl | rfl | rfl | rfl | rfl
  · exact cmd_0 hC h hB hn hA ha hf kt kf
  · exact cmd_1 hC h hB hn hA ha hf kt kf
  · exact cmd_2 hC h hB hn hA ha hf kt kf
  · exact cmd_3 hC h hB hn hA ha hf kt kf
  · exact cmd_4 hC h hB hn hA ha (hch rfl) hf kt kf
  · exact cmd_5 hC h hB hn hA ha hf kt kf
  · exact cmd_6 hC h hB hn hA ha hf kt kf
  · exact cmd_7 hC h hB hn hA ha hf kt kf
  · exact cmd_8 hC h hB hn hA ha hf kt kf
end CMD
