/-! REFERENCE 5: mixing, days, greys, copies -/
set_option maxRecDepth 100000
def rm (x y : Int32) : Int32 := x - x / y * y
def stG (t : Tn) : Int32 := i_max (i_max (i_max 0 (i_abs (t.1 - 50))) (i_abs (t.2.1 - 50))) (i_abs (t.2.2 - 50))
def isG (c : Rw) : Bool := decide (stG c.2.1 = 0)
def fadeC (day : Int32) (c : Rw) : Rw := if 0 < rm (day - c.2.2.2) c.2.2.1 then c else (c.1, fdT c.2.1, c.2.2)
def pass1 (o : Of) : Of := (o.1.map (fadeC (o.2.2 4 + 1)), o.2.1, upd o.2.2 4 (o.2.2 4 + 1))
def passN : Nat → Of → Of
  | 0, o => o
  | n + 1, o => pass1 (passN n o)
/-- the first k are done -/
def mapTo (g : Rw → Rw) (k : Nat) (L : List Rw) : List Rw := (L.take k).map g ++ L.drop k
theorem mapTo_0 {g : Rw → Rw} {L : List Rw} : mapTo g 0 L = L := by simp [mapTo]
theorem mapTo_n {g : Rw → Rw} {L : List Rw} : mapTo g L.length L = L.map g := by simp [mapTo]
theorem mapTo_len {g : Rw → Rw} {k : Nat} {L : List Rw} : (mapTo g k L).length = L.length := by
  simp [mapTo]; omega
theorem mapTo_at {g : Rw → Rw} {k : Nat} {L : List Rw} (h : k < L.length) : (mapTo g k L)[k]? = L[k]? := by
  unfold mapTo
  have e : ((L.take k).map g).length = k := by simp; omega
  rw [List.getElem?_append_right (by omega), e, Nat.sub_self, List.getElem?_drop]
  rfl
theorem mapTo_s {g : Rw → Rw} {k : Nat} {L : List Rw} {c : Rw} (h : L[k]? = some c) : mapTo g (k + 1) L = (mapTo g k L).set k (g c) := by
  have hk := lt_of_at h
  have e : L[k] = c := by
    have := List.getElem?_eq_getElem hk
    rw [this] at h
    exact Option.some.inj h
  have el : ((L.take k).map g).length = k := by simp; omega
  unfold mapTo
  rw [List.set_append, if_neg (by omega), el, Nat.sub_self, List.drop_eq_getElem_cons hk, List.set_cons_zero, List.take_succ_eq_append_getElem hk, List.map_append, List.append_assoc, e]
  rfl
theorem set_self {L : List Rw} {k : Nat} {c : Rw} (h : L[k]? = some c) : L.set k c = L := by
  have hk := lt_of_at h
  have := List.getElem?_eq_getElem hk
  rw [this] at h
  cases h
  exact List.set_getElem_self hk
theorem TwO.row {f F : Nat → Int32} {o : Of} {k : Nat} {c' : Rw} (h : TwO f o) (hF : ∀ j, j < 6 → F (8 + 8 * k + j) = rw_at c' j) (hne : ∀ q, q < 8 + 8 * k ∨ 8 + 8 * k + 8 ≤ q → F q = f q) (hk : k < o.1.length) : TwO F (o.1.set k c', o.2) := by
  obtain ⟨h1, h2, h3, h4, h5, h6, h7⟩ := h
  refine ⟨by show (o.1.set k c').length ≤ 10; rw [List.length_set]; exact h1, h2, ?_, ?_, ?_, ?_, ?_⟩
  · show F 0 = nI (o.1.set k c').length
    rw [List.length_set, hne 0 (by omega)]; exact h3
  · rw [hne 1 (by omega)]; exact h4
  · intro j a b
    rw [hne j (by omega)]; exact h5 j a b
  · intro q r hq j hj
    have hq : (o.1.set k c')[q]? = some r := hq
    rw [List.getElem?_set] at hq
    by_cases e : k = q
    · subst e
      rw [if_pos rfl, if_pos hk] at hq
      cases hq
      exact hF j hj
    · rw [if_neg e] at hq
      rw [hne _ (by omega)]
      exact h6 q r hq j hj
  · intro q r hq j hj
    rw [hne _ (by omega)]
    exact h7 q r hq j hj
def cpy (f g : Nat → Int32) (a b n : Nat) : Nat → Int32 := fun q => if b ≤ q ∧ q < b + n then f (a + (q - b)) else g q
theorem cpy_0 {f g : Nat → Int32} {a b : Nat} : cpy f g a b 0 = g := funext fun q => if_neg (by omega)
theorem cpy_s {f g : Nat → Int32} {a b n : Nat} : upd (cpy f g a b n) (b + n) (f (a + n)) = cpy f g a b (n + 1) := by
  funext q
  show (if q = b + n then _ else _) = _
  by_cases e : q = b + n
  · rw [if_pos e]
    unfold cpy
    rw [if_pos (by omega)]
    congr 1
    omega
  · rw [if_neg e]
    unfold cpy
    by_cases h2 : b ≤ q ∧ q < b + n
    · rw [if_pos h2, if_pos (by omega)]
    · rw [if_neg h2, if_neg (by omega)]
theorem V_subk {l : Launch} {E : g_E} {M : g_M} {d : Nat} {P : Outcome → g_G → Prop} {pc : Nat} {L L' : List (Nat × Value)} {st : List Value} {G : g_G} (k : V l E M d P pc L' st G) (h : g_subL L' L) : V l E M d P pc L st G := V_sub h k
section TW5
variable {l : Launch} {E : g_E} {P : Outcome → g_G → Prop} {G : g_G} {m : Nat} {T : Tw} {o : Of}
theorem tw_mixes {x y : Int32} {a b : Nat} (hm : g_B E ≤ m) (h : TwO (T.1 1) o) (hk : plc x o.1 = some a) (hj : plc y o.1 = some b) (hab : a ≠ b) (kk : ∀ F, TwO F (ofMix o a b) → P (.returned (some (.int (o.2.2 2)))) (g_tG E G m (twA T 1 F))) : g_Spc l E mX5_mixes 3 [.ref m, .int x, .int y] (g_tG E G m T) P := by
  have b1 := h.1
  have hk1 := plc_lt hk
  have hj1 := plc_lt hj
  obtain ⟨r, hr, -⟩ := plc_some hk
  obtain ⟨c, hc, -⟩ := plc_some hj
  unfold ofMix at kk
  rw [rwAt_of hr, rwAt_of hc] at kk
  refine V_intro (plainFor_of_name plX5) (Nat.le_of_ble_eq_true rfl) ?_
  refine V_aload_n dX5_mixes_0 rfl (Or.inl ⟨_, rfl⟩) ?_
  refine V_iload_n dX5_mixes_1 rfl ?_
  refine V_callV (q := (RX5, TX5, 23)) kX5_colour q2856 q2858 qs60 tw0 rfl dX5_mixes_2 ?_ (d' := 2) (as := [_]) (hst := rfl)
  refine (tw_colour h ?_)
  rw [hk]
  refine V_istore_n dX5_mixes_5 (by decide) ?_
  refine V_aload_n dX5_mixes_6 rfl (Or.inl ⟨_, rfl⟩) ?_
  refine V_iload_n dX5_mixes_7 rfl ?_
  refine V_callV (q := (RX5, TX5, 23)) kX5_colour q2856 q2858 qs60 tw0 rfl dX5_mixes_8 ?_ (d' := 2) (as := [_]) (hst := rfl)
  refine (tw_colour h ?_)
  rw [hj]
  refine V_istore dX5_mixes_11 (by decide) ?_
  refine V_aload_n dX5_mixes_13 rfl (Or.inl ⟨_, rfl⟩) ?_
  refine V_iload_n dX5_mixes_14 rfl ?_
  refine V_iconstv 1 dX5_mixes_15 (by decide) ?_
  refine V_callV (q := (RX5, TX5, 23)) kX5_c q2860 q2862 qs61 tw0 rfl dX5_mixes_16 ?_ (d' := 1) (as := [_, _]) (hst := rfl)
  refine (tw_c (k := a) (j := 1) h rfl rfl hr (by decide) ?_)
  refine V_aload_n dX5_mixes_19 rfl (Or.inl ⟨_, rfl⟩) ?_
  refine V_iload dX5_mixes_20 rfl ?_
  refine V_iconstv 1 dX5_mixes_22 (by decide) ?_
  refine V_callV (q := (RX5, TX5, 23)) kX5_c q2860 q2862 qs61 tw0 rfl dX5_mixes_23 ?_ (d' := 1) (as := [_, _]) (hst := rfl)
  refine (tw_c (k := b) (j := 1) h rfl rfl hc (by decide) ?_)
  refine V_iadd dX5_mixes_26 ?_
  refine V_iconstv 2 dX5_mixes_27 (by decide) ?_
  refine V_idiv dX5_mixes_28 (by decide) ?_
  refine V_istore dX5_mixes_29 (by decide) ?_
  refine V_aload_n dX5_mixes_31 rfl (Or.inl ⟨_, rfl⟩) ?_
  refine V_iload_n dX5_mixes_32 rfl ?_
  refine V_iconstv 2 dX5_mixes_33 (by decide) ?_
  refine V_callV (q := (RX5, TX5, 23)) kX5_c q2860 q2862 qs61 tw0 rfl dX5_mixes_34 ?_ (d' := 1) (as := [_, _]) (hst := rfl)
  refine (tw_c (k := a) (j := 2) h rfl rfl hr (by decide) ?_)
  refine V_aload_n dX5_mixes_37 rfl (Or.inl ⟨_, rfl⟩) ?_
  refine V_iload dX5_mixes_38 rfl ?_
  refine V_iconstv 2 dX5_mixes_40 (by decide) ?_
  refine V_callV (q := (RX5, TX5, 23)) kX5_c q2860 q2862 qs61 tw0 rfl dX5_mixes_41 ?_ (d' := 1) (as := [_, _]) (hst := rfl)
  refine (tw_c (k := b) (j := 2) h rfl rfl hc (by decide) ?_)
  refine V_iadd dX5_mixes_44 ?_
  refine V_iconstv 2 dX5_mixes_45 (by decide) ?_
  refine V_idiv dX5_mixes_46 (by decide) ?_
  refine V_istore dX5_mixes_47 (by decide) ?_
  refine V_aload_n dX5_mixes_49 rfl (Or.inl ⟨_, rfl⟩) ?_
  refine V_iload_n dX5_mixes_50 rfl ?_
  refine V_iconstv 3 dX5_mixes_51 (by decide) ?_
  refine V_callV (q := (RX5, TX5, 23)) kX5_c q2860 q2862 qs61 tw0 rfl dX5_mixes_52 ?_ (d' := 1) (as := [_, _]) (hst := rfl)
  refine (tw_c (k := a) (j := 3) h rfl rfl hr (by decide) ?_)
  refine V_aload_n dX5_mixes_55 rfl (Or.inl ⟨_, rfl⟩) ?_
  refine V_iload dX5_mixes_56 rfl ?_
  refine V_iconstv 3 dX5_mixes_58 (by decide) ?_
  refine V_callV (q := (RX5, TX5, 23)) kX5_c q2860 q2862 qs61 tw0 rfl dX5_mixes_59 ?_ (d' := 1) (as := [_, _]) (hst := rfl)
  refine (tw_c (k := b) (j := 3) h rfl rfl hc (by decide) ?_)
  refine V_iadd dX5_mixes_62 ?_
  refine V_iconstv 2 dX5_mixes_63 (by decide) ?_
  refine V_idiv dX5_mixes_64 (by decide) ?_
  refine V_istore dX5_mixes_65 (by decide) ?_
  refine V_aload_n dX5_mixes_67 rfl (Or.inl ⟨_, rfl⟩) ?_
  refine V_iload_n dX5_mixes_68 rfl ?_
  refine V_iconstv 4 dX5_mixes_69 (by decide) ?_
  refine V_callV (q := (RX5, TX5, 23)) kX5_c q2860 q2862 qs61 tw0 rfl dX5_mixes_70 ?_ (d' := 1) (as := [_, _]) (hst := rfl)
  refine (tw_c (k := a) (j := 4) h rfl rfl hr (by decide) ?_)
  refine V_aload_n dX5_mixes_73 rfl (Or.inl ⟨_, rfl⟩) ?_
  refine V_iload dX5_mixes_74 rfl ?_
  refine V_iconstv 4 dX5_mixes_76 (by decide) ?_
  refine V_callV (q := (RX5, TX5, 23)) kX5_c q2860 q2862 qs61 tw0 rfl dX5_mixes_77 ?_ (d' := 1) (as := [_, _]) (hst := rfl)
  refine (tw_c (k := b) (j := 4) h rfl rfl hc (by decide) ?_)
  have fin : ∀ f : Int32, f = (if r.2.2.1 < c.2.2.1 then r.2.2.1 else c.2.2.1) → V l E mX5_mixes 3 P 99 [(0, .ref m), (3, .int (nI a)), (4, .int (nI b)), (5, .int ((r.2.1.1 + c.2.1.1) / 2)), (6, .int ((r.2.1.2.1 + c.2.1.2.1) / 2)), (7, .int ((r.2.1.2.2 + c.2.1.2.2) / 2))] [.int f] (g_tG E G m T) := by
    intro f hf
    subst hf
    have last : ∀ F, TwO F ((o.1.eraseIdx (max a b)).eraseIdx (min a b), o.2) → V l E mX5_mixes 3 P 133 [(0, .ref m), (3, .int (nI a)), (4, .int (nI b)), (5, .int ((r.2.1.1 + c.2.1.1) / 2)), (6, .int ((r.2.1.2.1 + c.2.1.2.1) / 2)), (7, .int ((r.2.1.2.2 + c.2.1.2.2) / 2)), (8, .int (if r.2.2.1 < c.2.2.1 then r.2.2.1 else c.2.2.1))] [] (g_tG E G m (twA T 1 F)) := by
      intro F hF
      have hl : ((o.1.eraseIdx (max a b)).eraseIdx (min a b)).length < 10 := by
        have e1 : (o.1.eraseIdx (max a b)).length = o.1.length - 1 := List.length_eraseIdx_of_lt (by omega)
        rw [List.length_eraseIdx_of_lt (by omega)]
        omega
      refine V_aload_n dX5_mixes_133 rfl (Or.inl ⟨_, rfl⟩) ?_
      refine V_iload dX5_mixes_134 rfl ?_
      refine V_iload dX5_mixes_136 rfl ?_
      refine V_iload dX5_mixes_138 rfl ?_
      refine V_iload dX5_mixes_140 rfl ?_
      refine V_callV (q := (RX5, TX5, 23)) kX5_adds q2798 q2800 qs50 tw0 rfl dX5_mixes_142 ?_ (d' := 1) (as := [_, _, _, _]) (hst := rfl)
      refine (tw_adds hm (show TwO ((twA T 1 F).1 1) _ by rw [twA_at]; exact hF) hl (fun F2 hF2 => ?_))
      refine V_ireturn dX5_mixes_145 rfl ?_
      rw [twA_twA]
      exact kk F2 hF2
    by_cases hba : b < a
    · have e1 : max a b = a := by omega
      have e2 : min a b = b := by omega
      rw [e1, e2] at last
      refine V_istore dX5_mixes_99 (by decide) ?_
      refine V_aload_n dX5_mixes_101 rfl (Or.inl ⟨_, rfl⟩) ?_
      refine V_iload_n dX5_mixes_102 rfl ?_
      refine V_iload dX5_mixes_103 rfl ?_
      refine V_icmp_le 112 dX5_mixes_105 (by decide) (fun c105 => absurd c105 ((fun q => absurd ((nI_leI (by omega) (by omega)).mp q) (by omega)))) (fun _ => ?_)
      refine V_iload_n dX5_mixes_108 rfl ?_
      refine V_goto 114 dX5_mixes_109 (by decide) ?_
      refine V_callV (q := (RX5, TX5, 23)) kX5_removeColour q2868 q2870 qs63 tw0 rfl dX5_mixes_114 ?_ (d' := 1) (as := [_]) (hst := rfl)
      refine (tw_removeColour (k := a) hm h rfl hk1 (fun F hF => ?_))
      have hl : (o.1.eraseIdx a).length = o.1.length - 1 := List.length_eraseIdx_of_lt hk1
      refine V_aload_n dX5_mixes_117 rfl (Or.inl ⟨_, rfl⟩) ?_
      refine V_iload_n dX5_mixes_118 rfl ?_
      refine V_iload dX5_mixes_119 rfl ?_
      refine V_icmp_le 129 dX5_mixes_121 (by decide) (fun c121 => absurd c121 ((fun q => absurd ((nI_leI (by omega) (by omega)).mp q) (by omega)))) (fun _ => ?_)
      refine V_iload dX5_mixes_124 rfl ?_
      refine V_goto 130 dX5_mixes_126 (by decide) ?_
      refine V_callV (q := (RX5, TX5, 23)) kX5_removeColour q2868 q2870 qs63 tw0 rfl dX5_mixes_130 ?_ (d' := 1) (as := [_]) (hst := rfl)
      refine (tw_removeColour (k := b) hm (show TwO ((twA T 1 F).1 1) _ by rw [twA_at]; exact hF) rfl (by show b < (o.1.eraseIdx a).length; omega) (fun F2 hF2 => ?_))
      rw [twA_twA]
      exact V_subk (last F2 hF2) ⟨rfl, rfl, rfl, rfl, rfl, rfl, rfl, trivial⟩
    · have e1 : max a b = b := by omega
      have e2 : min a b = a := by omega
      rw [e1, e2] at last
      have hab2 : nI a ≤ nI b := nI_le (by omega) (by omega)
      refine V_istore dX5_mixes_99 (by decide) ?_
      refine V_aload_n dX5_mixes_101 rfl (Or.inl ⟨_, rfl⟩) ?_
      refine V_iload_n dX5_mixes_102 rfl ?_
      refine V_iload dX5_mixes_103 rfl ?_
      refine V_icmp_le 112 dX5_mixes_105 (by decide) (fun _ => ?_) (fun c105 => absurd hab2 c105)
      refine V_iload dX5_mixes_112 rfl ?_
      refine V_callV (q := (RX5, TX5, 23)) kX5_removeColour q2868 q2870 qs63 tw0 rfl dX5_mixes_114 ?_ (d' := 1) (as := [_]) (hst := rfl)
      refine (tw_removeColour (k := b) hm h rfl hj1 (fun F hF => ?_))
      have hl : (o.1.eraseIdx b).length = o.1.length - 1 := List.length_eraseIdx_of_lt hj1
      refine V_aload_n dX5_mixes_117 rfl (Or.inl ⟨_, rfl⟩) ?_
      refine V_iload_n dX5_mixes_118 rfl ?_
      refine V_iload dX5_mixes_119 rfl ?_
      refine V_icmp_le 129 dX5_mixes_121 (by decide) (fun _ => ?_) (fun c121 => absurd hab2 c121)
      refine V_iload_n dX5_mixes_129 rfl ?_
      refine V_callV (q := (RX5, TX5, 23)) kX5_removeColour q2868 q2870 qs63 tw0 rfl dX5_mixes_130 ?_ (d' := 1) (as := [_]) (hst := rfl)
      refine (tw_removeColour (k := a) hm (show TwO ((twA T 1 F).1 1) _ by rw [twA_at]; exact hF) rfl (by show a < (o.1.eraseIdx b).length; omega) (fun F2 hF2 => ?_))
      rw [twA_twA]
      exact V_subk (last F2 hF2) ⟨rfl, rfl, rfl, rfl, rfl, rfl, rfl, trivial⟩
  refine V_icmp_ge 92 dX5_mixes_80 (by decide) (fun c80 => ?_) (fun c80 => ?_)
  · refine V_aload_n dX5_mixes_92 rfl (Or.inl ⟨_, rfl⟩) ?_
    refine V_iload dX5_mixes_93 rfl ?_
    refine V_iconstv 4 dX5_mixes_95 (by decide) ?_
    refine V_callV (q := (RX5, TX5, 23)) kX5_c q2860 q2862 qs61 tw0 rfl dX5_mixes_96 ?_ (d' := 1) (as := [_, _]) (hst := rfl)
    refine (tw_c (k := b) (j := 4) h rfl rfl hc (by decide) ?_)
    exact V_subk (fin _ (if_neg (Int32.not_lt.mpr c80)).symm) ⟨rfl, rfl, rfl, rfl, rfl, rfl, trivial⟩
  · refine V_aload_n dX5_mixes_83 rfl (Or.inl ⟨_, rfl⟩) ?_
    refine V_iload_n dX5_mixes_84 rfl ?_
    refine V_iconstv 4 dX5_mixes_85 (by decide) ?_
    refine V_callV (q := (RX5, TX5, 23)) kX5_c q2860 q2862 qs61 tw0 rfl dX5_mixes_86 ?_ (d' := 1) (as := [_, _]) (hst := rfl)
    refine (tw_c (k := a) (j := 4) h rfl rfl hr (by decide) ?_)
    refine V_goto 99 dX5_mixes_89 (by decide) ?_
    exact V_subk (fin _ (if_pos (Int32.not_le.mp c80)).symm) ⟨rfl, rfl, rfl, rfl, rfl, rfl, trivial⟩
theorem tw_faded {x : Int32} (kk : P (.returned (some (.int (fd1 x)))) G) : g_Spc l E mX5_faded 0 [.int x] G P := by
  refine V_intro (plainFor_of_name plX5) (Nat.le_of_ble_eq_true rfl) ?_
  refine V_iload_n dX5_faded_0 rfl ?_
  refine V_bipushv 50 dX5_faded_1 (by decide) ?_
  refine V_icmp_le 12 dX5_faded_3 (by decide) (fun c3 => ?_) (fun c3 => ?_)
  · refine V_iload_n dX5_faded_12 rfl ?_
    refine V_bipushv 50 dX5_faded_13 (by decide) ?_
    refine V_icmp_ge 24 dX5_faded_15 (by decide) (fun c15 => ?_) (fun c15 => ?_)
    · refine V_iload_n dX5_faded_24 rfl ?_
      refine V_ireturn dX5_faded_25 rfl ?_
      have e : fd1 x = x := by unfold fd1; rw [if_neg (Int32.not_lt.mpr c3), if_neg (Int32.not_lt.mpr c15)]
      rw [e] at kk
      exact kk
    · refine V_iload_n dX5_faded_18 rfl ?_
      refine V_iconstv 1 dX5_faded_19 (by decide) ?_
      refine V_iadd dX5_faded_20 ?_
      refine V_goto 25 dX5_faded_21 (by decide) ?_
      refine V_ireturn dX5_faded_25 rfl ?_
      have e : fd1 x = x + 1 := by unfold fd1; rw [if_neg (Int32.not_lt.mpr c3), if_pos (Int32.not_le.mp c15)]
      rw [e] at kk
      exact kk
  · refine V_iload_n dX5_faded_6 rfl ?_
    refine V_iconstv 1 dX5_faded_7 (by decide) ?_
    refine V_isub dX5_faded_8 ?_
    refine V_goto 25 dX5_faded_9 (by decide) ?_
    refine V_ireturn dX5_faded_25 rfl ?_
    have e : fd1 x = x - 1 := by unfold fd1; rw [if_pos (Int32.not_le.mp c3)]
    rw [e] at kk
    exact kk
theorem tw_ageAt {x : Int32} {k : Nat} {c : Rw} (h : TwO (T.1 1) o) (hx : x = nI k) (hk : o.1[k]? = some c) (kk : P (.returned (some (.int (o.2.2 4 - c.2.2.2)))) (g_tG E G m T)) : g_Spc l E mX5_ageAt 2 [.ref m, .int x] (g_tG E G m T) P := by
  have e4 : T.1 1 4 = o.2.2 4 := h.2.2.2.2.1 4 (by decide) (by decide)
  refine V_intro (plainFor_of_name plX5) (Nat.le_of_ble_eq_true rfl) ?_
  refine V_aload_n dX5_ageAt_0 rfl (Or.inl ⟨_, rfl⟩) ?_
  refine V_get ckX5 tw0 0 (by decide) q2699 rfl rfl dX5_ageAt_1 ?_
  refine V_iconstv 4 dX5_ageAt_4 (by decide) ?_
  refine tw_ld 1 (4) (by decide) (by decide) rfl (show _ < 136 from by omega) (by decide) dX5_ageAt_5 ?_
  rw [e4]
  refine V_aload_n dX5_ageAt_6 rfl (Or.inl ⟨_, rfl⟩) ?_
  refine V_iload_n dX5_ageAt_7 rfl ?_
  refine V_iconstv 5 dX5_ageAt_8 (by decide) ?_
  refine V_callV (q := (RX5, TX5, 23)) kX5_c q2860 q2862 qs61 tw0 rfl dX5_ageAt_9 ?_ (d' := 1) (as := [_, _]) (hst := rfl)
  refine (tw_c (k := k) (j := 5) h hx rfl hk (by decide) ?_)
  refine V_isub dX5_ageAt_12 ?_
  refine V_ireturn dX5_ageAt_13 rfl ?_
  exact kk
theorem tw_fadesLeft {x : Int32} {k : Nat} {c : Rw} (h : TwO (T.1 1) o) (hx : x = nI k) (hk : o.1[k]? = some c) (kk : P (.returned (some (.int (stG c.2.1)))) (g_tG E G m T)) : g_Spc l E mX5_fadesLeft 2 [.ref m, .int x] (g_tG E G m T) P := by
  subst hx
  refine V_intro (plainFor_of_name plX5) (Nat.le_of_ble_eq_true rfl) ?_
  have step : ∀ (j : Nat) (s : Int32), 0 < j → j < 4 → V l E mX5_fadesLeft 2 P 4 [(0, .ref m), (1, .int (nI k)), (2, .int (i_max s (i_abs (rw_at c j - 50)))), (3, .int (nI (j + 1)))] [] (g_tG E G m T) → V l E mX5_fadesLeft 2 P 4 [(0, .ref m), (1, .int (nI k)), (2, .int s), (3, .int (nI j))] [] (g_tG E G m T) := by
    intro j s h0 h4 nx
    refine V_iload_n dX5_fadesLeft_4 rfl ?_
    refine V_iconstv 3 dX5_fadesLeft_5 (by decide) ?_
    refine V_icmp_gt 48 dX5_fadesLeft_6 (by decide) (fun c6 => absurd c6 (fun q => absurd ((nI_ltI (a := 3) (by decide) (by omega)).mp q) (by omega))) (fun _ => ?_)
    refine V_aload_n dX5_fadesLeft_9 rfl (Or.inl ⟨_, rfl⟩) ?_
    refine V_iload_n dX5_fadesLeft_10 rfl ?_
    refine V_iload_n dX5_fadesLeft_11 rfl ?_
    refine V_callV (q := (RX5, TX5, 23)) kX5_c q2860 q2862 qs61 tw0 rfl dX5_fadesLeft_12 ?_ (d' := 1) (as := [_, _]) (hst := rfl)
    refine (tw_c (k := k) (j := j) h rfl rfl hk (by omega) ?_)
    refine V_bipushv 50 dX5_fadesLeft_15 (by decide) ?_
    refine V_isub dX5_fadesLeft_17 ?_
    refine V_callS kX5_size q2899 q2900 dX5_fadesLeft_18 ?_ (d' := 0) (as := [_]) (hst := rfl)
    refine (tw_size ?_)
    refine V_iload_n dX5_fadesLeft_21 rfl ?_
    unfold i_max at nx
    refine V_icmp_le 40 dX5_fadesLeft_22 (by decide) (fun c22 => ?_) (fun c22 => ?_)
    · rw [if_neg (Int32.not_lt.mpr c22)] at nx
      refine V_iload_n dX5_fadesLeft_40 rfl ?_
      refine V_istore_n dX5_fadesLeft_41 (by decide) ?_
      refine V_iinc dX5_fadesLeft_42 rfl (by decide) ?_
      refine V_goto 4 dX5_fadesLeft_45 (by decide) ?_
      refine V_sub (L' := [(0, .ref m), (1, .int (nI k)), (2, .int s), (3, .int (nI j + Int32.ofInt 1))]) ⟨rfl, rfl, rfl, rfl, trivial⟩ ?_
      rw [show nI j + Int32.ofInt 1 = nI (j + 1) from nI_1 j]
      exact nx
    · rw [if_pos (Int32.not_le.mp c22)] at nx
      refine V_aload_n dX5_fadesLeft_25 rfl (Or.inl ⟨_, rfl⟩) ?_
      refine V_iload_n dX5_fadesLeft_26 rfl ?_
      refine V_iload_n dX5_fadesLeft_27 rfl ?_
      refine V_callV (q := (RX5, TX5, 23)) kX5_c q2860 q2862 qs61 tw0 rfl dX5_fadesLeft_28 ?_ (d' := 1) (as := [_, _]) (hst := rfl)
      refine (tw_c (k := k) (j := j) h rfl rfl hk (by omega) ?_)
      refine V_bipushv 50 dX5_fadesLeft_31 (by decide) ?_
      refine V_isub dX5_fadesLeft_33 ?_
      refine V_callS kX5_size q2899 q2900 dX5_fadesLeft_34 ?_ (d' := 0) (as := [_]) (hst := rfl)
      refine (tw_size ?_)
      refine V_goto 41 dX5_fadesLeft_37 (by decide) ?_
      refine V_istore_n dX5_fadesLeft_41 (by decide) ?_
      refine V_iinc dX5_fadesLeft_42 rfl (by decide) ?_
      refine V_goto 4 dX5_fadesLeft_45 (by decide) ?_
      refine V_sub (L' := [(0, .ref m), (1, .int (nI k)), (2, .int (i_abs (rw_at c j - 50))), (3, .int (nI j + Int32.ofInt 1))]) ⟨rfl, rfl, rfl, rfl, trivial⟩ ?_
      rw [show nI j + Int32.ofInt 1 = nI (j + 1) from nI_1 j]
      exact nx
  refine V_iconstv 0 dX5_fadesLeft_0 (by decide) ?_
  refine V_istore_n dX5_fadesLeft_1 (by decide) ?_
  refine V_iconstv 1 dX5_fadesLeft_2 (by decide) ?_
  refine V_istore_n dX5_fadesLeft_3 (by decide) ?_
  refine V_sub (L' := [(0, .ref m), (1, .int (nI k)), (2, .int 0), (3, .int (nI 1))]) ⟨rfl, rfl, rfl, rfl, trivial⟩ ?_
  refine step 1 _ (by decide) (by decide) (step 2 _ (by decide) (by decide) (step 3 _ (by decide) (by decide) ?_))
  refine V_iload_n dX5_fadesLeft_4 rfl ?_
  refine V_iconstv 3 dX5_fadesLeft_5 (by decide) ?_
  refine V_icmp_gt 48 dX5_fadesLeft_6 (by decide) (fun _ => ?_) (fun c6 => absurd (show (3 : Int32) < nI 4 by decide) c6)
  refine V_iload_n dX5_fadesLeft_48 rfl ?_
  refine V_ireturn dX5_fadesLeft_49 rfl ?_
  exact kk
theorem tw_greys (h : TwO (T.1 1) o) (kk : P (.returned (some (.int (nI (o.1.countP isG))))) (g_tG E G m T)) : g_Spc l E mX5_greys 3 [.ref m] (g_tG E G m T) P := by
  have b1 := h.1
  have b3 := h.2.2.1
  refine V_intro (plainFor_of_name plX5) (Nat.le_of_ble_eq_true rfl) ?_
  have loop : ∀ i, i ≤ o.1.length → ∀ a : Nat, P (.returned (some (.int (nI (a + (o.1.drop i).countP isG))))) (g_tG E G m T) → V l E mX5_greys 3 P 4 [(0, .ref m), (1, .int (nI a)), (2, .int (nI i))] [] (g_tG E G m T) := by
    refine down o.1.length ?_ ?_
    · intro a kk
      rw [List.drop_length] at kk
      refine V_iload_n dX5_greys_4 rfl ?_
      refine V_aload_n dX5_greys_5 rfl (Or.inl ⟨_, rfl⟩) ?_
      refine V_get ckX5 tw0 0 (by decide) q2699 rfl rfl dX5_greys_6 ?_
      refine V_iconstv 0 dX5_greys_9 (by decide) ?_
      refine tw_ld 1 (0) (by decide) (by decide) rfl (show _ < 136 from by omega) (by decide) dX5_greys_10 ?_
      rw [b3]
      refine V_icmp_ge 36 dX5_greys_11 (by decide) (fun _ => ?_) (fun c11 => absurd (Int32.le_refl _) c11)
      refine V_iload_n dX5_greys_36 rfl ?_
      refine V_ireturn dX5_greys_37 rfl ?_
      exact kk
    · intro i hi ih a kk
      obtain ⟨c, hc, hd⟩ := drop_at hi
      rw [hd, List.countP_cons] at kk
      refine V_iload_n dX5_greys_4 rfl ?_
      refine V_aload_n dX5_greys_5 rfl (Or.inl ⟨_, rfl⟩) ?_
      refine V_get ckX5 tw0 0 (by decide) q2699 rfl rfl dX5_greys_6 ?_
      refine V_iconstv 0 dX5_greys_9 (by decide) ?_
      refine tw_ld 1 (0) (by decide) (by decide) rfl (show _ < 136 from by omega) (by decide) dX5_greys_10 ?_
      rw [b3]
      refine V_icmp_ge 36 dX5_greys_11 (by decide) (fun c11 => absurd c11 (nI_ge hi (by omega))) (fun _ => ?_)
      refine V_iload_n dX5_greys_14 rfl ?_
      refine V_aload_n dX5_greys_15 rfl (Or.inl ⟨_, rfl⟩) ?_
      refine V_iload_n dX5_greys_16 rfl ?_
      refine V_callV (q := (RX5, TX5, 23)) kX5_fadesLeft q2970 q2972 qs81 tw0 rfl dX5_greys_17 ?_ (d' := 2) (as := [_]) (hst := rfl)
      refine (tw_fadesLeft (k := i) h rfl hc ?_)
      have nx : ∀ x : Nat, P (.returned (some (.int (nI (a + x + (o.1.drop (i + 1)).countP isG))))) (g_tG E G m T) → V l E mX5_greys 3 P 28 [(0, .ref m), (1, .int (nI a)), (2, .int (nI i))] [.int (nI x), .int (nI a)] (g_tG E G m T) := by
        intro x hx
        refine V_iadd dX5_greys_28 ?_
        refine V_istore_n dX5_greys_29 (by decide) ?_
        refine V_iinc dX5_greys_30 rfl (by decide) ?_
        refine V_goto 4 dX5_greys_33 (by decide) ?_
        refine V_sub (L' := [(0, .ref m), (1, .int (nI a + nI x)), (2, .int (nI i + Int32.ofInt 1))]) ⟨rfl, rfl, rfl, trivial⟩ ?_
        rw [show nI i + Int32.ofInt 1 = nI (i + 1) from nI_1 i, nI_add]
        exact ih _ hx
      refine V_if_ne 27 dX5_greys_20 (by decide) (fun c20 => ?_) (fun c20 => ?_)
      · rw [show isG c = false from decide_eq_false c20, if_neg (by decide), Nat.add_zero] at kk
        refine V_iconstv 0 dX5_greys_27 (by decide) ?_
        exact V_subk (nx 0 kk) ⟨rfl, rfl, rfl, trivial⟩
      · rw [show isG c = true from decide_eq_true c20, if_pos rfl, ← Nat.add_assoc, Nat.add_right_comm] at kk
        refine V_iconstv 1 dX5_greys_23 (by decide) ?_
        refine V_goto 28 dX5_greys_24 (by decide) ?_
        exact V_subk (nx 1 kk) ⟨rfl, rfl, rfl, trivial⟩
  refine V_iconstv 0 dX5_greys_0 (by decide) ?_
  refine V_istore_n dX5_greys_1 (by decide) ?_
  refine V_iconstv 0 dX5_greys_2 (by decide) ?_
  refine V_istore_n dX5_greys_3 (by decide) ?_
  refine V_sub (L' := [(0, .ref m), (1, .int (nI 0)), (2, .int (nI 0))]) ⟨rfl, rfl, rfl, trivial⟩ ?_
  exact loop 0 (Nat.zero_le _) 0 (by rw [List.drop_zero, Nat.zero_add]; exact kk)
end TW5
