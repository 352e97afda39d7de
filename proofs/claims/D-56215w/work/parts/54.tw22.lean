/-! REFERENCE 21: what a command would do -/
set_option maxRecDepth 100000
def kOf (w a b : Int32) : Int32 := if w = 0 then 0 else if w = 1 then a else b
def whyK (o : Of) (kind : Nat) (a b c d e : Int32) : Int32 := match kind with
  | 0 => kOf (cadd o a b c d) 97 115
  | 1 => kOf (crep o a b c d e) 97 115
  | 2 => if plc a o.2.1 = none then 101 else 0
  | 3 => if plc a o.1 = none then 101 else 0
  | 5 => kOf (cgive o a b) 101 117
  | 7 => kOf (cmix o a b) 101 97
  | 8 => if isb a 1 99 = true then 0 else 97
  | _ => 0
def doO (o : Of) (kind : Nat) (a b c d e : Int32) : Of := match kind with
  | 0 => ofAdd o (a, b, c) d
  | 1 => ofRep o (a, b, c) d e
  | 2 => ofWd o ((plc a o.2.1).getD 0)
  | 3 => ofDis o ((plc a o.1).getD 0)
  | 4 => ofMet o a
  | 5 => ofGive o ((plc a o.2.1).getD 0) ((plc b o.1).getD 0)
  | 6 => gvL o (prs o)
  | 7 => ofMix o ((plc a o.1).getD 0) ((plc b o.1).getD 0)
  | _ => passN a.toNatClampNeg o
/-- all but the office and the settlements' arrays is kept -/
def twK (T T' : Tw) : Prop := (∀ a, a ≠ 1 → a ≠ 5 → a ≠ 6 → a ≠ 7 → T'.1 a = T.1 a) ∧ T'.2 = T.2
theorem twK.A {T : Tw} {F : Nat → Int32} : twK T (twA T 1 F) := ⟨fun _ h _ _ _ => twA_ne h, rfl⟩
theorem kOf_0 {w a b : Int32} (ha : a ≠ 0) (hb : b ≠ 0) (h : kOf w a b = 0) : w = 0 := by
  unfold kOf at h
  by_cases e : w = 0
  · exact e
  · rw [if_neg e] at h
    by_cases e1 : w = 1
    · rw [if_pos e1] at h; exact absurd h ha
    · rw [if_neg e1] at h; exact absurd h hb
section TW22
variable {l : Launch} {E : g_E} {P : Outcome → g_G → Prop} {G : g_G} {m : Nat} {T : Tw} {o : Of}
theorem tw_kindOf {w a b : Int32} (kk : P (.returned (some (.int (kOf w a b)))) G) : g_Spc l E mX5_kindOf 0 [.int w, .int a, .int b] G P := by
  unfold kOf at kk
  refine V_intro (plainFor_of_name plX5) (Nat.le_of_ble_eq_true rfl) ?_
  refine V_iload_n dX5_kindOf_0 rfl ?_
  refine V_if_ne 8 dX5_kindOf_1 (by decide) (fun c1 => ?_) (fun c1 => ?_)
  · rw [if_neg c1] at kk
    refine V_iload_n dX5_kindOf_8 rfl ?_
    refine V_iconstv 1 dX5_kindOf_9 (by decide) ?_
    refine V_icmp_ne 17 dX5_kindOf_10 (by decide) (fun c10 => ?_) (fun c10 => ?_)
    · rw [if_neg c10] at kk
      refine V_iload_n dX5_kindOf_17 rfl ?_
      refine V_ireturn dX5_kindOf_18 rfl ?_
      exact kk
    · rw [if_pos c10] at kk
      refine V_iload_n dX5_kindOf_13 rfl ?_
      refine V_goto 18 dX5_kindOf_14 (by decide) ?_
      refine V_ireturn dX5_kindOf_18 rfl ?_
      exact kk
  · rw [if_pos c1] at kk
    refine V_iconstv 0 dX5_kindOf_4 (by decide) ?_
    refine V_goto 18 dX5_kindOf_5 (by decide) ?_
    refine V_ireturn dX5_kindOf_18 rfl ?_
    exact kk
theorem tw_why {x a b c d e : Int32} {kind : Nat} (h : TwO (T.1 1) o) (hx : x = nI kind) (hk : kind < 9) (kk : P (.returned (some (.int (whyK o kind a b c d e)))) (g_tG E G m T)) : g_Spc l E mX5_why 5 [.ref m, .int x, .int a, .int b, .int c, .int d, .int e] (g_tG E G m T) P := by
  subst hx
  have b1 := h.1
  have b2 := h.2.1
  refine V_intro (plainFor_of_name plX5) (Nat.le_of_ble_eq_true rfl) ?_
  match kind, hk, kk with
  | 0, _, kk =>
    refine V_iload_n dX5_why_0 rfl ?_
    refine V_tableIn 52 dX5_why_1 (by decide) (by decide) rfl (by decide) ?_
    refine V_aload_n dX5_why_52 rfl (Or.inl ⟨_, rfl⟩) ?_
    refine V_iload_n dX5_why_53 rfl ?_
    refine V_iload_n dX5_why_54 rfl ?_
    refine V_iload dX5_why_55 rfl ?_
    refine V_iload dX5_why_57 rfl ?_
    refine V_callV (q := (RX5, TX5, 23)) kX5_cannotAdd q2784 q2786 qs48 tw0 rfl dX5_why_59 ?_ (d' := 2) (as := [_, _, _, _]) (hst := rfl)
    refine (tw_cannotAdd h ?_)
    refine V_bipushv 97 dX5_why_62 (by decide) ?_
    refine V_bipushv 115 dX5_why_64 (by decide) ?_
    refine V_callS kX5_kindOf q3255 q3256 dX5_why_66 ?_ (d' := 0) (as := [_, _, _]) (hst := rfl)
    refine (tw_kindOf ?_)
    refine V_ireturn dX5_why_69 rfl ?_
    exact kk
  | 1, _, kk =>
    refine V_iload_n dX5_why_0 rfl ?_
    refine V_tableIn 70 dX5_why_1 (by decide) (by decide) rfl (by decide) ?_
    refine V_aload_n dX5_why_70 rfl (Or.inl ⟨_, rfl⟩) ?_
    refine V_iload_n dX5_why_71 rfl ?_
    refine V_iload_n dX5_why_72 rfl ?_
    refine V_iload dX5_why_73 rfl ?_
    refine V_iload dX5_why_75 rfl ?_
    refine V_iload dX5_why_77 rfl ?_
    refine V_callV (q := (RX5, TX5, 23)) kX5_cannotReport q2817 q2819 qs53 tw0 rfl dX5_why_79 ?_ (d' := 2) (as := [_, _, _, _, _]) (hst := rfl)
    refine (tw_cannotReport h ?_)
    refine V_bipushv 97 dX5_why_82 (by decide) ?_
    refine V_bipushv 115 dX5_why_84 (by decide) ?_
    refine V_callS kX5_kindOf q3255 q3256 dX5_why_86 ?_ (d' := 0) (as := [_, _, _]) (hst := rfl)
    refine (tw_kindOf ?_)
    refine V_ireturn dX5_why_89 rfl ?_
    exact kk
  | 2, _, kk =>
    have kk : P (.returned (some (.int (if plc a o.2.1 = none then 101 else 0)))) (g_tG E G m T) := kk
    refine V_iload_n dX5_why_0 rfl ?_
    refine V_tableIn 90 dX5_why_1 (by decide) (by decide) rfl (by decide) ?_
    refine V_aload_n dX5_why_90 rfl (Or.inl ⟨_, rfl⟩) ?_
    refine V_iload_n dX5_why_91 rfl ?_
    refine V_callV (q := (RX5, TX5, 23)) kX5_openReport q2832 q2834 qs55 tw0 rfl dX5_why_92 ?_ (d' := 2) (as := [_]) (hst := rfl)
    refine (tw_openReport h ?_)
    cases hp : plc a o.2.1 with
    | none =>
      rw [if_pos hp] at kk
      refine V_if_ge 103 dX5_why_95 (by decide) (fun c95 => absurd c95 (show ¬ 0 ≤ plI none by decide)) (fun _ => ?_)
      refine V_bipushv 101 dX5_why_98 (by decide) ?_
      refine V_goto 104 dX5_why_100 (by decide) ?_
      refine V_ireturn dX5_why_104 rfl ?_
      exact kk
    | some k =>
      have := plc_lt hp
      rw [if_neg (by rw [hp]; exact fun q => by cases q)] at kk
      refine V_if_ge 103 dX5_why_95 (by decide) (fun _ => ?_) (fun c95 => absurd (Int32.not_lt.mp (nI_pos (show k < 2 ^ 31 by omega))) c95)
      refine V_iconstv 0 dX5_why_103 (by decide) ?_
      refine V_ireturn dX5_why_104 rfl ?_
      exact kk
  | 3, _, kk =>
    have kk : P (.returned (some (.int (if plc a o.1 = none then 101 else 0)))) (g_tG E G m T) := kk
    refine V_iload_n dX5_why_0 rfl ?_
    refine V_tableIn 105 dX5_why_1 (by decide) (by decide) rfl (by decide) ?_
    refine V_aload_n dX5_why_105 rfl (Or.inl ⟨_, rfl⟩) ?_
    refine V_iload_n dX5_why_106 rfl ?_
    refine V_callV (q := (RX5, TX5, 23)) kX5_colour q2856 q2858 qs60 tw0 rfl dX5_why_107 ?_ (d' := 2) (as := [_]) (hst := rfl)
    refine (tw_colour h ?_)
    cases hp : plc a o.1 with
    | none =>
      rw [if_pos hp] at kk
      refine V_if_ge 118 dX5_why_110 (by decide) (fun c110 => absurd c110 (show ¬ 0 ≤ plI none by decide)) (fun _ => ?_)
      refine V_bipushv 101 dX5_why_113 (by decide) ?_
      refine V_goto 119 dX5_why_115 (by decide) ?_
      refine V_ireturn dX5_why_119 rfl ?_
      exact kk
    | some k =>
      have := plc_lt hp
      rw [if_neg (by rw [hp]; exact fun q => by cases q)] at kk
      refine V_if_ge 118 dX5_why_110 (by decide) (fun _ => ?_) (fun c110 => absurd (Int32.not_lt.mp (nI_pos (show k < 2 ^ 31 by omega))) c110)
      refine V_iconstv 0 dX5_why_118 (by decide) ?_
      refine V_ireturn dX5_why_119 rfl ?_
      exact kk
  | 4, _, kk =>
    refine V_iload_n dX5_why_0 rfl ?_
    refine V_tableIn 165 dX5_why_1 (by decide) (by decide) rfl (by decide) ?_
    refine V_iconstv 0 dX5_why_165 (by decide) ?_
    refine V_ireturn dX5_why_166 rfl ?_
    exact kk
  | 5, _, kk =>
    refine V_iload_n dX5_why_0 rfl ?_
    refine V_tableIn 120 dX5_why_1 (by decide) (by decide) rfl (by decide) ?_
    refine V_aload_n dX5_why_120 rfl (Or.inl ⟨_, rfl⟩) ?_
    refine V_iload_n dX5_why_121 rfl ?_
    refine V_iload_n dX5_why_122 rfl ?_
    refine V_callV (q := (RX5, TX5, 23)) kX5_cannotGive q2887 q2889 qs65 tw0 rfl dX5_why_123 ?_ (d' := 4) (as := [_, _]) (hst := rfl)
    refine (tw_cannotGive h ?_)
    refine V_bipushv 101 dX5_why_126 (by decide) ?_
    refine V_bipushv 117 dX5_why_128 (by decide) ?_
    refine V_callS kX5_kindOf q3255 q3256 dX5_why_130 ?_ (d' := 0) (as := [_, _, _]) (hst := rfl)
    refine (tw_kindOf ?_)
    refine V_ireturn dX5_why_133 rfl ?_
    exact kk
  | 6, _, kk =>
    refine V_iload_n dX5_why_0 rfl ?_
    refine V_tableIn 165 dX5_why_1 (by decide) (by decide) rfl (by decide) ?_
    refine V_iconstv 0 dX5_why_165 (by decide) ?_
    refine V_ireturn dX5_why_166 rfl ?_
    exact kk
  | 7, _, kk =>
    refine V_iload_n dX5_why_0 rfl ?_
    refine V_tableIn 134 dX5_why_1 (by decide) (by decide) rfl (by decide) ?_
    refine V_aload_n dX5_why_134 rfl (Or.inl ⟨_, rfl⟩) ?_
    refine V_iload_n dX5_why_135 rfl ?_
    refine V_iload_n dX5_why_136 rfl ?_
    refine V_callV (q := (RX5, TX5, 23)) kX5_cannotMix q2943 q2945 qs76 tw0 rfl dX5_why_137 ?_ (d' := 3) (as := [_, _]) (hst := rfl)
    refine (tw_cannotMix h ?_)
    refine V_bipushv 101 dX5_why_140 (by decide) ?_
    refine V_bipushv 97 dX5_why_142 (by decide) ?_
    refine V_callS kX5_kindOf q3255 q3256 dX5_why_144 ?_ (d' := 0) (as := [_, _, _]) (hst := rfl)
    refine (tw_kindOf ?_)
    refine V_ireturn dX5_why_147 rfl ?_
    exact kk
  | 8, _, kk =>
    have kk : P (.returned (some (.int (if isb a 1 99 = true then 0 else 97)))) (g_tG E G m T) := kk
    refine V_iload_n dX5_why_0 rfl ?_
    refine V_tableIn 148 dX5_why_1 (by decide) (by decide) rfl (by decide) ?_
    refine V_iload_n dX5_why_148 rfl ?_
    refine V_iconstv 1 dX5_why_149 (by decide) ?_
    refine V_bipushv 99 dX5_why_150 (by decide) ?_
    refine V_callS kX5_in q2791 q2792 dX5_why_152 ?_ (d' := 0) (as := [_, _, _]) (hst := rfl)
    refine (tw_in ?_)
    cases hb : isb a 1 99 with
    | true =>
      rw [if_pos hb] at kk
      refine V_if_eq 162 dX5_why_155 (by decide) (fun c155 => absurd c155 (show ¬ b2i true = 0 by decide)) (fun _ => ?_)
      refine V_iconstv 0 dX5_why_158 (by decide) ?_
      refine V_goto 164 dX5_why_159 (by decide) ?_
      refine V_ireturn dX5_why_164 rfl ?_
      exact kk
    | false =>
      rw [if_neg (by rw [hb]; decide)] at kk
      refine V_if_eq 162 dX5_why_155 (by decide) (fun _ => ?_) (fun c155 => absurd rfl c155)
      refine V_bipushv 97 dX5_why_162 (by decide) ?_
      refine V_ireturn dX5_why_164 rfl ?_
      exact kk
theorem tw_does {x a b c d e : Int32} {kind : Nat} (hm : g_B E ≤ m) (h : TwO (T.1 1) o) (hx : x = nI kind) (hk : kind < 9) (hw : whyK o kind a b c d e = 0) (hg : kind = 6 → gvOK o (prs o)) (hf : ∀ c ∈ o.1, c.2.2.1 ≠ 0) (kk : ∀ T' r, TwO (T'.1 1) (doO o kind a b c d e) → twK T T' → P (.returned (some (.int r))) (g_tG E G m T')) : g_Spc l E mX5_does 7 [.ref m, .int x, .int a, .int b, .int c, .int d, .int e] (g_tG E G m T) P := by
  subst hx
  have b1 := h.1
  have b2 := h.2.1
  have fa : ∀ {F : Nat → Int32} {o' : Of}, TwO F o' → TwO ((twA T 1 F).1 1) o' := fun hF => by rw [twA_at]; exact hF
  refine V_intro (plainFor_of_name plX5) (Nat.le_of_ble_eq_true rfl) ?_
  match kind, hk, hw, hg, kk with
  | 0, _, hw, _, kk =>
    have hc := kOf_0 (by decide) (by decide) (show kOf (cadd o a b c d) 97 115 = 0 from hw)
    have hn : o.1.length < 10 := by
      rcases cadd_3 (o := o) (r := a) (g := b) (b := c) (f := d) with q | q | q
      · omega
      · rw [q] at hc; cases hc
      · rw [q] at hc; cases hc
    refine V_iload_n dX5_does_0 rfl ?_
    refine V_tableIn 48 dX5_does_1 (by decide) (by decide) rfl (by decide) ?_
    refine V_aload_n dX5_does_48 rfl (Or.inl ⟨_, rfl⟩) ?_
    refine V_iload_n dX5_does_49 rfl ?_
    refine V_iload_n dX5_does_50 rfl ?_
    refine V_iload dX5_does_51 rfl ?_
    refine V_iload dX5_does_53 rfl ?_
    refine V_callV (q := (RX5, TX5, 23)) kX5_adds q2798 q2800 qs50 tw0 rfl dX5_does_55 ?_ (d' := 1) (as := [_, _, _, _]) (hst := rfl)
    refine (tw_adds hm h hn (fun F hF => ?_))
    refine V_ireturn dX5_does_58 rfl ?_
    exact kk _ _ (fa hF) twK.A
  | 1, _, hw, _, kk =>
    have hc := kOf_0 (by decide) (by decide) (show kOf (crep o a b c d e) 97 115 = 0 from hw)
    have hn : o.2.1.length < 6 := by
      rcases crep_3 (o := o) (r := a) (g := b) (b := c) (f := d) (w := e) with q | q | q
      · omega
      · rw [q] at hc; cases hc
      · rw [q] at hc; cases hc
    refine V_iload_n dX5_does_0 rfl ?_
    refine V_tableIn 59 dX5_does_1 (by decide) (by decide) rfl (by decide) ?_
    refine V_aload_n dX5_does_59 rfl (Or.inl ⟨_, rfl⟩) ?_
    refine V_iload_n dX5_does_60 rfl ?_
    refine V_iload_n dX5_does_61 rfl ?_
    refine V_iload dX5_does_62 rfl ?_
    refine V_iload dX5_does_64 rfl ?_
    refine V_iload dX5_does_66 rfl ?_
    refine V_callV (q := (RX5, TX5, 23)) kX5_reports q2821 q2823 qs54 tw0 rfl dX5_does_68 ?_ (d' := 1) (as := [_, _, _, _, _]) (hst := rfl)
    refine (tw_reports hm h hn (fun F hF => ?_))
    refine V_ireturn dX5_does_71 rfl ?_
    exact kk _ _ (fa hF) twK.A
  | 2, _, hw, _, kk =>
    have hw : (if plc a o.2.1 = none then (101 : Int32) else 0) = 0 := hw
    cases hp : plc a o.2.1 with
    | none => rw [if_pos hp] at hw; cases hw
    | some k =>
      have ek : doO o 2 a b c d e = ofWd o k := by show ofWd o ((plc a o.2.1).getD 0) = _; rw [hp]; rfl
      rw [ek] at kk
      refine V_iload_n dX5_does_0 rfl ?_
      refine V_tableIn 72 dX5_does_1 (by decide) (by decide) rfl (by decide) ?_
      refine V_aload_n dX5_does_72 rfl (Or.inl ⟨_, rfl⟩) ?_
      refine V_iload_n dX5_does_73 rfl ?_
      refine V_callV (q := (RX5, TX5, 23)) kX5_withdraws q2840 q2842 qs57 tw0 rfl dX5_does_74 ?_ (d' := 3) (as := [_]) (hst := rfl)
      refine (tw_withdraws hm h hp (fun F hF => ?_))
      refine V_ireturn dX5_does_77 rfl ?_
      exact kk _ _ (fa hF) twK.A
  | 3, _, hw, _, kk =>
    have hw : (if plc a o.1 = none then (101 : Int32) else 0) = 0 := hw
    cases hp : plc a o.1 with
    | none => rw [if_pos hp] at hw; cases hw
    | some k =>
      have ek : doO o 3 a b c d e = ofDis o k := by show ofDis o ((plc a o.1).getD 0) = _; rw [hp]; rfl
      rw [ek] at kk
      refine V_iload_n dX5_does_0 rfl ?_
      refine V_tableIn 78 dX5_does_1 (by decide) (by decide) rfl (by decide) ?_
      refine V_aload_n dX5_does_78 rfl (Or.inl ⟨_, rfl⟩) ?_
      refine V_iload_n dX5_does_79 rfl ?_
      refine V_callV (q := (RX5, TX5, 23)) kX5_discards q2864 q2866 qs62 tw0 rfl dX5_does_80 ?_ (d' := 3) (as := [_]) (hst := rfl)
      refine (tw_discards hm h hp (fun F hF => ?_))
      refine V_ireturn dX5_does_83 rfl ?_
      exact kk _ _ (fa hF) twK.A
  | 4, _, _, _, kk =>
    refine V_iload_n dX5_does_0 rfl ?_
    refine V_tableIn 84 dX5_does_1 (by decide) (by decide) rfl (by decide) ?_
    refine V_aload_n dX5_does_84 rfl (Or.inl ⟨_, rfl⟩) ?_
    refine V_iload_n dX5_does_85 rfl ?_
    refine V_callV (q := (RX5, TX5, 23)) kX5_measures q2879 q2881 qs64 tw0 rfl dX5_does_86 ?_ (d' := 0) (as := [_]) (hst := rfl)
    refine (tw_measures hm h (fun F hF => ?_))
    refine V_ireturn dX5_does_89 rfl ?_
    exact kk _ _ (fa hF) twK.A
  | 5, _, hw, _, kk =>
    have hc := kOf_0 (by decide) (by decide) (show kOf (cgive o a b) 101 117 = 0 from hw)
    rcases cgive_3 (o := o) (r := a) (i := b) with ⟨q, k, j, hk, hj⟩ | q | q
    · have ek : doO o 5 a b c d e = ofGive o k j := by show ofGive o ((plc a o.2.1).getD 0) ((plc b o.1).getD 0) = _; rw [hk, hj]; rfl
      rw [ek] at kk
      refine V_iload_n dX5_does_0 rfl ?_
      refine V_tableIn 90 dX5_does_1 (by decide) (by decide) rfl (by decide) ?_
      refine V_aload_n dX5_does_90 rfl (Or.inl ⟨_, rfl⟩) ?_
      refine V_iload_n dX5_does_91 rfl ?_
      refine V_iload_n dX5_does_92 rfl ?_
      refine V_callV (q := (RX5, TX5, 23)) kX5_gives q2910 q2912 qs70 tw0 rfl dX5_does_93 ?_ (d' := 3) (as := [_, _]) (hst := rfl)
      refine (tw_gives hm h hk hj (fun F hF => ?_))
      refine V_ireturn dX5_does_96 rfl ?_
      exact kk _ _ (fa hF) twK.A
    · rw [q] at hc; cases hc
    · rw [q] at hc; cases hc
  | 6, _, _, hg, kk =>
    refine V_iload_n dX5_does_0 rfl ?_
    refine V_tableIn 97 dX5_does_1 (by decide) (by decide) rfl (by decide) ?_
    refine V_aload_n dX5_does_97 rfl (Or.inl ⟨_, rfl⟩) ?_
    refine V_callV (q := (RX5, TX5, 23)) kX5_settleAll q2918 q2920 qs71 tw0 rfl dX5_does_98 ?_ (d' := 6) (as := []) (hst := rfl)
    refine (tw_settleAll hm h (hg rfl) (fun F5 F6 F7 F hF => ?_))
    refine V_ireturn dX5_does_101 rfl ?_
    refine kk _ _ (by rw [twA_at]; exact hF) ⟨fun a h1 h5 h6 h7 => ?_, rfl⟩
    rw [twA_ne h1]
    unfold twG
    rw [twA_ne h7, twA_ne h6, twA_ne h5]
  | 7, _, hw, _, kk =>
    have hc := kOf_0 (by decide) (by decide) (show kOf (cmix o a b) 101 97 = 0 from hw)
    rcases cmix_3 (o := o) (x := a) (y := b) with ⟨q, k, j, hk, hj, hkj⟩ | q | q
    · have ek : doO o 7 a b c d e = ofMix o k j := by show ofMix o ((plc a o.1).getD 0) ((plc b o.1).getD 0) = _; rw [hk, hj]; rfl
      rw [ek] at kk
      refine V_iload_n dX5_does_0 rfl ?_
      refine V_tableIn 102 dX5_does_1 (by decide) (by decide) rfl (by decide) ?_
      refine V_aload_n dX5_does_102 rfl (Or.inl ⟨_, rfl⟩) ?_
      refine V_iload_n dX5_does_103 rfl ?_
      refine V_iload_n dX5_does_104 rfl ?_
      refine V_callV (q := (RX5, TX5, 23)) kX5_mixes q2947 q2949 qs77 tw0 rfl dX5_does_105 ?_ (d' := 3) (as := [_, _]) (hst := rfl)
      refine (tw_mixes hm h hk hj hkj (fun F hF => ?_))
      refine V_ireturn dX5_does_108 rfl ?_
      exact kk _ _ (fa hF) twK.A
    · rw [q] at hc; cases hc
    · rw [q] at hc; cases hc
  | 8, _, hw, _, kk =>
    have hw : (if isb a 1 99 = true then (0 : Int32) else 97) = 0 := hw
    have hb : isb a 1 99 = true := by
      cases hb : isb a 1 99 with
      | true => rfl
      | false => rw [if_neg (by rw [hb]; decide)] at hw; cases hw
    have hx : ¬ a < 0 := by
      unfold isb at hb
      rw [Bool.and_eq_true, decide_eq_true_eq] at hb
      exact Int32.not_lt.mpr (Int32.le_trans (by decide) hb.1)
    obtain ⟨j, hj, rfl⟩ := nI_of hx
    have ek : doO o 8 (nI j) b c d e = passN j o := by show passN (nI j).toNatClampNeg o = _; rw [nI_clamp hj]
    rw [ek] at kk
    refine V_iload_n dX5_does_0 rfl ?_
    refine V_tableOut 109 dX5_does_1 (Or.inr (by decide)) (by decide) ?_
    refine V_aload_n dX5_does_109 rfl (Or.inl ⟨_, rfl⟩) ?_
    refine V_iload_n dX5_does_110 rfl ?_
    refine V_callV (q := (RX5, TX5, 23)) kX5_passes q2955 q2957 qs78 tw0 rfl dX5_does_111 ?_ (d' := 4) (as := [_]) (hst := rfl)
    refine (tw_passes hm h rfl hj hf (fun F hF => ?_))
    refine V_ireturn dX5_does_114 rfl ?_
    exact kk _ _ (fa hF) twK.A
end TW22
