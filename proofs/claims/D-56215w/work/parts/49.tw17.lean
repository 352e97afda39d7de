/-! REFERENCE 16: nearest to parts, closest -/
set_option maxRecDepth 100000
def inN (x : Int32) (n : Nat) : Prop := ∃ j, j ≤ n ∧ x = nI j
def TnOK (t : Tn) : Prop := inN t.1 99 ∧ inN t.2.1 99 ∧ inN t.2.2 99
def ad (i j : Nat) : Nat := (i - j) + (j - i)
theorem abs_ad {i j : Nat} (hi : i ≤ 99) (hj : j ≤ 99) : i_abs (nI i - nI j) = nI (ad i j) := by
  unfold i_abs ad
  by_cases h : j ≤ i
  · rw [pk_sub h, if_pos (nI_pos' (by omega)), show i - j + (j - i) = i - j by omega]
  · rw [if_neg (Int32.not_le.mpr (pk_sneg (by omega) (by omega))), Int32.neg_sub, pk_sub (by omega), show i - j + (j - i) = j - i by omega]
theorem nI_max {x y : Nat} (hx : x < 2 ^ 31) (hy : y < 2 ^ 31) : i_max (nI x) (nI y) = nI (max x y) := by
  unfold i_max
  by_cases h : x < y
  · rw [if_pos (nI_lt h hy), Nat.max_eq_right (by omega)]
  · rw [if_neg (fun q => h ((nI_ltI hx hy).mp q)), Nat.max_eq_left (by omega)]
def dN (k x y z : Nat) : Nat := if k = 0 then x + y + z else if k = 1 then x * x + y * y + z * z else max x (max y z)
theorem comb_N {k x y z : Nat} (hx : x ≤ 99) (hy : y ≤ 99) (hz : z ≤ 99) : comb k (nI x) (nI y) (nI z) = nI (dN k x y z) := by
  unfold comb dN
  by_cases h0 : k = 0
  · rw [if_pos h0, if_pos h0, nI_add, nI_add]
  · rw [if_neg h0, if_neg h0]
    by_cases h1 : k = 1
    · rw [if_pos h1, if_pos h1, nI_mul, nI_mul, nI_mul, nI_add, nI_add]
    · rw [if_neg h1, if_neg h1, nI_max (by omega) (by omega), nI_max (by omega) (by omega)]
theorem dN_le {k x y z : Nat} (hx : x ≤ 99) (hy : y ≤ 99) (hz : z ≤ 99) : dN k x y z ≤ 29403 := by
  have h1 : x * x ≤ 99 * 99 := Nat.mul_le_mul hx hx
  have h2 : y * y ≤ 99 * 99 := Nat.mul_le_mul hy hy
  have h3 : z * z ≤ 99 * 99 := Nat.mul_le_mul hz hz
  unfold dN
  split
  · omega
  · split
    · omega
    · omega
theorem dst_N {k : Nat} {t u : Tn} (h : TnOK t) (g : TnOK u) : ∃ D, D ≤ 29403 ∧ dst k t u = nI D := by
  obtain ⟨⟨a, ha, e1⟩, ⟨b, hb, e2⟩, ⟨c, hc, e3⟩⟩ := h
  obtain ⟨⟨a', ha', f1⟩, ⟨b', hb', f2⟩, ⟨c', hc', f3⟩⟩ := g
  have l : ∀ i j, i ≤ 99 → j ≤ 99 → ad i j ≤ 99 := fun i j hi hj => by unfold ad; omega
  refine ⟨dN k (ad a a') (ad b b') (ad c c'), dN_le (l _ _ ha ha') (l _ _ hb hb') (l _ _ hc hc'), ?_⟩
  unfold dst
  rw [e1, e2, e3, f1, f2, f3, abs_ad ha ha', abs_ad hb hb', abs_ad hc hc']
  exact comb_N (l _ _ ha ha') (l _ _ hb hb') (l _ _ hc hc')
theorem dst_lt {k : Nat} {t u : Tn} (h : TnOK t) (g : TnOK u) : dst k t u < 1000000000 := by
  obtain ⟨D, hD, e⟩ := dst_N (k := k) h g
  rw [e]
  exact nI_lt (b := 1000000000) (by omega) (by decide)
theorem isb_99 {x : Int32} (h : isb x 0 99 = true) : inN x 99 := by
  unfold isb at h
  rw [Bool.and_eq_true, decide_eq_true_eq, decide_eq_true_eq] at h
  obtain ⟨s, hs, rfl⟩ := nI_of (Int32.not_lt.mpr h.1)
  exact ⟨s, (nI_leI hs (b := 99) (by decide)).mp h.2, rfl⟩
theorem abs_sym {x y : Int32} : i_abs (x - y) = i_abs (y - x) := by
  have e : y - x = -(x - y) := Int32.neg_sub.symm
  rw [e]
  generalize x - y = z
  unfold i_abs
  by_cases h : 0 ≤ z
  · rw [if_pos h]
    by_cases h2 : (0 : Int32) ≤ -z
    · rw [if_pos h2]
      have h3 : z ≤ 0 := by
        rw [Int32.le_iff_toInt_le] at h h2 ⊢
        rw [Int32.toInt_neg] at h2
        have := z.le_toInt
        have := z.toInt_lt
        simp only [Int32.toInt_zero] at *
        rw [Int.bmod_eq_of_le (by omega) (by omega)] at h2
        omega
      have : z = 0 := Int32.le_antisymm h3 h
      rw [this]; rfl
    · rw [if_neg h2, Int32.neg_neg]
  · rw [if_neg h]
    by_cases h2 : (0 : Int32) ≤ -z
    · rw [if_pos h2]
    · rw [if_neg h2, Int32.neg_neg]
      rw [Int32.le_iff_toInt_le] at h h2
      have h5 := z.le_toInt
      have h6 := z.toInt_lt
      by_cases h7 : z.toInt = -2 ^ 31
      · apply Int32.toInt_inj.mp
        rw [Int32.toInt_neg, h7]
        decide
      · exfalso
        rw [Int32.toInt_neg, Int.bmod_eq_of_le (by omega) (by omega)] at h2
        simp only [Int32.toInt_zero] at *
        omega
theorem dst_sym {k : Nat} {t u : Tn} : dst k t u = dst k u t := by
  unfold dst
  rw [abs_sym (x := t.1), abs_sym (x := t.2.1), abs_sym (x := t.2.2)]
theorem tw_most2 {x y z : Int32} : (if y ≤ x ∧ z ≤ x then x else if z ≤ y then y else z) = i_max x (i_max y z) := by
  have e : (if z ≤ y then y else z) = i_max y z := by
    unfold i_max
    by_cases h : z ≤ y
    · rw [if_pos h, if_neg (Int32.not_lt.mpr h)]
    · rw [if_neg h, if_pos (Int32.not_le.mp h)]
  rw [e]
  unfold i_max
  by_cases h : y ≤ x ∧ z ≤ x
  · rw [if_pos h]
    by_cases h2 : y < z
    · rw [if_pos h2, if_neg (Int32.not_lt.mpr h.2)]
    · rw [if_neg h2, if_neg (Int32.not_lt.mpr h.1)]
  · rw [if_neg h]
    by_cases h2 : y < z
    · rw [if_pos h2]
      have h3 : ¬ z ≤ x := fun q => h ⟨Int32.le_of_lt (Int32.lt_of_lt_of_le h2 q), q⟩
      rw [if_pos (Int32.not_le.mp h3)]
    · rw [if_neg h2]
      have h3 : ¬ y ≤ x := fun q => h ⟨q, Int32.le_trans (Int32.not_lt.mp h2) q⟩
      rw [if_pos (Int32.not_le.mp h3)]
def qNear (S : St) (r g b : Int32) : Int32 × Int32 := if (isb r 0 99 && isb g 0 99 && isb b 0 99) = true then (match nst S.1 (r, g, b) with
  | none => (2, 0)
  | some j => (0, (rwAt S.1.1 j).1)) else (1, 0)
def clI (o : Of) (c : Rw) : Int32 → List Rw → Int32
  | m, [] => m
  | m, x :: t => clI o c (if dO o c.2.1 x < m then dO o c.2.1 x else m) t
def clA (o : Of) (m : Int32) : Nat → Int32
  | 0 => m
  | a + 1 => clI o (rwAt o.1 a) (clA o m a) (o.1.take a)
def qCl (S : St) : Int32 × Int32 := if 1 < S.1.1.length then (0, clA S.1 1000000000 S.1.1.length) else (1, 0)
theorem clI_c {o : Of} {c : Rw} {m : Int32} {x : Rw} {t : List Rw} : clI o c m (x :: t) = clI o c (if dO o c.2.1 x < m then dO o c.2.1 x else m) t := rfl
section TW17
variable {l : Launch} {E : g_E} {P : Outcome → g_G → Prop} {G : g_G} {m : Nat} {T : Tw} {o : Of} {S : St}
theorem tw_farFrom {x r g b : Int32} {k : Nat} {c : Rw} (h : TwO (T.1 1) o) (hx : x = nI k) (hk : o.1[k]? = some c) (kk : P (.returned (some (.int (dO o (r, g, b) c)))) (g_tG E G m T)) : g_Spc l E mX5_farFrom 2 [.ref m, .int x, .int r, .int g, .int b] (g_tG E G m T) P := by
  have e5 : T.1 1 5 = o.2.2 5 := h.2.2.2.2.1 5 (by decide) (by decide)
  refine V_intro (plainFor_of_name plX5) (Nat.le_of_ble_eq_true rfl) ?_
  refine V_aload_n dX5_farFrom_0 rfl (Or.inl ⟨_, rfl⟩) ?_
  refine V_iload_n dX5_farFrom_1 rfl ?_
  refine V_iconstv 1 dX5_farFrom_2 (by decide) ?_
  refine V_callV (q := (RX5, TX5, 23)) kX5_c q2860 q2862 qs61 tw0 rfl dX5_farFrom_3 ?_ (d' := 1) (as := [_, _]) (hst := rfl)
  refine (tw_c (k := k) (j := 1) h hx rfl hk (by decide) ?_)
  refine V_iload_n dX5_farFrom_6 rfl ?_
  refine V_isub dX5_farFrom_7 ?_
  refine V_callS kX5_size q2899 q2900 dX5_farFrom_8 ?_ (d' := 0) (as := [_]) (hst := rfl)
  refine (tw_size ?_)
  refine V_istore dX5_farFrom_11 (by decide) ?_
  refine V_aload_n dX5_farFrom_13 rfl (Or.inl ⟨_, rfl⟩) ?_
  refine V_iload_n dX5_farFrom_14 rfl ?_
  refine V_iconstv 2 dX5_farFrom_15 (by decide) ?_
  refine V_callV (q := (RX5, TX5, 23)) kX5_c q2860 q2862 qs61 tw0 rfl dX5_farFrom_16 ?_ (d' := 1) (as := [_, _]) (hst := rfl)
  refine (tw_c (k := k) (j := 2) h hx rfl hk (by decide) ?_)
  refine V_iload_n dX5_farFrom_19 rfl ?_
  refine V_isub dX5_farFrom_20 ?_
  refine V_callS kX5_size q2899 q2900 dX5_farFrom_21 ?_ (d' := 0) (as := [_]) (hst := rfl)
  refine (tw_size ?_)
  refine V_istore dX5_farFrom_24 (by decide) ?_
  refine V_aload_n dX5_farFrom_26 rfl (Or.inl ⟨_, rfl⟩) ?_
  refine V_iload_n dX5_farFrom_27 rfl ?_
  refine V_iconstv 3 dX5_farFrom_28 (by decide) ?_
  refine V_callV (q := (RX5, TX5, 23)) kX5_c q2860 q2862 qs61 tw0 rfl dX5_farFrom_29 ?_ (d' := 1) (as := [_, _]) (hst := rfl)
  refine (tw_c (k := k) (j := 3) h hx rfl hk (by decide) ?_)
  refine V_iload dX5_farFrom_32 rfl ?_
  refine V_isub dX5_farFrom_34 ?_
  refine V_callS kX5_size q2899 q2900 dX5_farFrom_35 ?_ (d' := 0) (as := [_]) (hst := rfl)
  refine (tw_size ?_)
  refine V_istore dX5_farFrom_38 (by decide) ?_
  refine V_aload_n dX5_farFrom_40 rfl (Or.inl ⟨_, rfl⟩) ?_
  refine V_get ckX5 tw0 0 (by decide) q2699 rfl rfl dX5_farFrom_41 ?_
  refine V_iconstv 5 dX5_farFrom_44 (by decide) ?_
  refine tw_ld 1 (5) (by decide) (by decide) rfl (show _ < 136 from by omega) (by decide) dX5_farFrom_45 ?_
  refine V_bipushv 109 dX5_farFrom_46 (by decide) ?_
  rw [e5]
  unfold dO dst comb mt_k at kk
  rw [abs_sym (x := r), abs_sym (x := g), abs_sym (x := b)] at kk
  rw [show rw_at c 1 = c.2.1.1 from rfl, show rw_at c 2 = c.2.1.2.1 from rfl, show rw_at c 3 = c.2.1.2.2 from rfl]
  generalize i_abs (c.2.1.1 - r) = u at kk ⊢
  generalize i_abs (c.2.1.2.1 - g) = v at kk ⊢
  generalize i_abs (c.2.1.2.2 - b) = w at kk ⊢
  refine V_icmp_ne 60 dX5_farFrom_48 (by decide) (fun c48 => ?_) (fun c48 => ?_)
  · refine V_aload_n dX5_farFrom_60 rfl (Or.inl ⟨_, rfl⟩) ?_
    refine V_get ckX5 tw0 0 (by decide) q2699 rfl rfl dX5_farFrom_61 ?_
    refine V_iconstv 5 dX5_farFrom_64 (by decide) ?_
    refine tw_ld 1 (5) (by decide) (by decide) rfl (show _ < 136 from by omega) (by decide) dX5_farFrom_65 ?_
    refine V_bipushv 115 dX5_farFrom_66 (by decide) ?_
    rw [e5]
    refine V_icmp_ne 89 dX5_farFrom_68 (by decide) (fun c68 => ?_) (fun c68 => ?_)
    · rw [if_neg c48, if_neg c68, if_neg (by decide), if_neg (by decide), ← tw_most2] at kk
      refine V_iload dX5_farFrom_89 rfl ?_
      refine V_iload dX5_farFrom_91 rfl ?_
      refine V_icmp_lt 108 dX5_farFrom_93 (by decide) (fun c93 => ?_) (fun c93 => ?_)
      · rw [if_neg (fun q => Int32.not_le.mpr c93 q.1)] at kk
        refine V_iload dX5_farFrom_108 rfl ?_
        refine V_iload dX5_farFrom_110 rfl ?_
        refine V_icmp_lt 120 dX5_farFrom_112 (by decide) (fun c112 => ?_) (fun c112 => ?_)
        · rw [if_neg (Int32.not_le.mpr c112)] at kk
          refine V_iload dX5_farFrom_120 rfl ?_
          refine V_ireturn dX5_farFrom_122 rfl ?_
          exact kk
        · rw [if_pos (Int32.not_lt.mp c112)] at kk
          refine V_iload dX5_farFrom_115 rfl ?_
          refine V_goto 122 dX5_farFrom_117 (by decide) ?_
          refine V_ireturn dX5_farFrom_122 rfl ?_
          exact kk
      · refine V_iload dX5_farFrom_96 rfl ?_
        refine V_iload dX5_farFrom_98 rfl ?_
        refine V_icmp_lt 108 dX5_farFrom_100 (by decide) (fun c100 => ?_) (fun c100 => ?_)
        · rw [if_neg (fun q => Int32.not_le.mpr c100 q.2)] at kk
          refine V_iload dX5_farFrom_108 rfl ?_
          refine V_iload dX5_farFrom_110 rfl ?_
          refine V_icmp_lt 120 dX5_farFrom_112 (by decide) (fun c112 => ?_) (fun c112 => ?_)
          · rw [if_neg (Int32.not_le.mpr c112)] at kk
            refine V_iload dX5_farFrom_120 rfl ?_
            refine V_ireturn dX5_farFrom_122 rfl ?_
            exact kk
          · rw [if_pos (Int32.not_lt.mp c112)] at kk
            refine V_iload dX5_farFrom_115 rfl ?_
            refine V_goto 122 dX5_farFrom_117 (by decide) ?_
            refine V_ireturn dX5_farFrom_122 rfl ?_
            exact kk
        · rw [if_pos ⟨Int32.not_lt.mp c93, Int32.not_lt.mp c100⟩] at kk
          refine V_iload dX5_farFrom_103 rfl ?_
          refine V_goto 122 dX5_farFrom_105 (by decide) ?_
          refine V_ireturn dX5_farFrom_122 rfl ?_
          exact kk
    · rw [if_neg c48, if_pos c68, if_neg (by decide), if_pos rfl] at kk
      refine V_iload dX5_farFrom_71 rfl ?_
      refine V_iload dX5_farFrom_73 rfl ?_
      refine V_imul dX5_farFrom_75 ?_
      refine V_iload dX5_farFrom_76 rfl ?_
      refine V_iload dX5_farFrom_78 rfl ?_
      refine V_imul dX5_farFrom_80 ?_
      refine V_iadd dX5_farFrom_81 ?_
      refine V_iload dX5_farFrom_82 rfl ?_
      refine V_iload dX5_farFrom_84 rfl ?_
      refine V_imul dX5_farFrom_86 ?_
      refine V_iadd dX5_farFrom_87 ?_
      refine V_ireturn dX5_farFrom_88 rfl ?_
      exact kk
  · rw [if_pos c48, if_pos rfl] at kk
    refine V_iload dX5_farFrom_51 rfl ?_
    refine V_iload dX5_farFrom_53 rfl ?_
    refine V_iadd dX5_farFrom_55 ?_
    refine V_iload dX5_farFrom_56 rfl ?_
    refine V_iadd dX5_farFrom_58 ?_
    refine V_ireturn dX5_farFrom_59 rfl ?_
    exact kk
theorem tw_near {r g b : Int32} (hm : g_B E ≤ m) (h : TwS T S) (hp : ∀ c ∈ S.1.1, TnOK c.2.1) (kk : ∀ T', TwS T' S → T'.2 5 = (qNear S r g b).1 → P (.returned (some (.int (qNear S r g b).2))) (g_tG E G m T')) : g_Spc l E mX5_near 3 [.ref m, .int r, .int g, .int b] (g_tG E G m T) P := by
  have b1 := h.1.1
  have e0 : T.1 1 0 = nI S.1.1.length := h.1.2.2.1
  have h1 : ∀ c, TwO ((twI T 5 c).1 1) S.1 := fun _ => h.1
  unfold qNear at kk
  refine V_intro (plainFor_of_name plX5) (Nat.le_of_ble_eq_true rfl) ?_
  refine V_aload_n dX5_near_0 rfl (Or.inl ⟨_, rfl⟩) ?_
  refine V_iload_n dX5_near_1 rfl ?_
  refine V_iload_n dX5_near_2 rfl ?_
  refine V_iload_n dX5_near_3 rfl ?_
  refine V_callS kX5_areParts q2788 q2789 dX5_near_4 ?_ (d' := 1) (as := [_, _, _]) (hst := rfl)
  refine (tw_areParts ?_)
  cases hb : (isb r 0 99 && isb g 0 99 && isb b 0 99) with
  | false =>
    rw [if_neg (by rw [hb]; decide)] at kk
    refine V_if_ne 14 dX5_near_7 (by decide) (fun c7 => absurd c7 (show ¬ ¬ b2i false = 0 by decide)) (fun _ => ?_)
    refine V_iconstv 1 dX5_near_10 (by decide) ?_
    refine V_goto 28 dX5_near_11 (by decide) ?_
    refine tw_putI 5 hm (by decide) q2704 rfl rfl rfl rfl rfl dX5_near_28 ?_
    refine V_aload_n dX5_near_31 rfl (Or.inl ⟨_, rfl⟩) ?_
    refine V_get ckX5 tw0 5 (by decide) q2704 rfl rfl dX5_near_32 ?_
    refine V_if_le 40 dX5_near_35 (by decide) (fun c35 => absurd c35 (show ¬ (1 : Int32) ≤ 0 by decide)) (fun _ => ?_)
    refine V_iconstv 0 dX5_near_38 (by decide) ?_
    refine V_ireturn dX5_near_39 rfl ?_
    exact kk _ (h.q _) rfl
  | true =>
    rw [if_pos hb] at kk
    simp only [Bool.and_eq_true] at hb
    have ht : TnOK (r, g, b) := ⟨isb_99 hb.1.1, isb_99 hb.1.2, isb_99 hb.2⟩
    refine V_if_ne 14 dX5_near_7 (by decide) (fun _ => ?_) (fun c7 => absurd c7 (show ¬ b2i true = 0 by decide))
    refine V_aload_n dX5_near_14 rfl (Or.inl ⟨_, rfl⟩) ?_
    refine V_get ckX5 tw0 0 (by decide) q2699 rfl rfl dX5_near_15 ?_
    refine V_iconstv 0 dX5_near_18 (by decide) ?_
    refine tw_ld 1 (0) (by decide) (by decide) rfl (show _ < 136 from by omega) (by decide) dX5_near_19 ?_
    rw [e0]
    cases hn : nst S.1 (r, g, b) with
    | none =>
      rw [hn] at kk
      have en := nst_none.mp hn
      rw [en]
      refine V_if_ne 27 dX5_near_20 (by decide) (fun c20 => absurd c20 (show ¬ ¬ nI 0 = 0 by decide)) (fun _ => ?_)
      refine V_iconstv 2 dX5_near_23 (by decide) ?_
      refine V_goto 28 dX5_near_24 (by decide) ?_
      refine tw_putI 5 hm (by decide) q2704 rfl rfl rfl rfl rfl dX5_near_28 ?_
      refine V_aload_n dX5_near_31 rfl (Or.inl ⟨_, rfl⟩) ?_
      refine V_get ckX5 tw0 5 (by decide) q2704 rfl rfl dX5_near_32 ?_
      refine V_if_le 40 dX5_near_35 (by decide) (fun c35 => absurd c35 (show ¬ (2 : Int32) ≤ 0 by decide)) (fun _ => ?_)
      refine V_iconstv 0 dX5_near_38 (by decide) ?_
      refine V_ireturn dX5_near_39 rfl ?_
      exact kk _ (h.q _) rfl
    | some j =>
      rw [hn] at kk
      have hj := nst_lt hn
      have loop : ∀ i, i ≤ S.1.1.length → ∀ q : Option (Nat × Int32), (amF (dO S.1 (r, g, b)) i q (S.1.1.drop i)).map (·.1) = some j → V l E mX5_near 3 P 50 [(0, .ref m), (1, .int r), (2, .int g), (3, .int b), (4, .int (plI (q.map (·.1)))), (5, .int ((q.map (·.2)).getD 1000000000)), (6, .int (nI i))] [] (g_tG E G m (twI T 5 0)) := by
        refine down S.1.1.length ?_ ?_
        · intro q hq
          rw [List.drop_length] at hq
          have hq : q.map (·.1) = some j := hq
          rw [hq]
          refine V_iload dX5_near_50 rfl ?_
          refine V_aload_n dX5_near_52 rfl (Or.inl ⟨_, rfl⟩) ?_
          refine V_get ckX5 tw0 0 (by decide) q2699 rfl rfl dX5_near_53 ?_
          refine V_iconstv 0 dX5_near_56 (by decide) ?_
          refine tw_ld 1 (0) (by decide) (by decide) rfl (show _ < 136 from by omega) (by decide) dX5_near_57 ?_
          rw [show (twI T 5 0).1 1 0 = nI S.1.1.length from e0]
          refine V_icmp_ge 96 dX5_near_58 (by decide) (fun _ => ?_) (fun c58 => absurd (Int32.le_refl _) c58)
          refine V_aload_n dX5_near_96 rfl (Or.inl ⟨_, rfl⟩) ?_
          refine V_iload dX5_near_97 rfl ?_
          refine V_iconstv 0 dX5_near_99 (by decide) ?_
          refine V_callV (q := (RX5, TX5, 23)) kX5_c q2860 q2862 qs61 tw0 rfl dX5_near_100 ?_ (d' := 1) (as := [_, _]) (hst := rfl)
          refine (tw_c (k := j) (j := 0) (h1 _) rfl rfl (at_of hj) (by decide) ?_)
          refine V_ireturn dX5_near_103 rfl ?_
          exact kk _ (h.q _) rfl
        · intro i hi ih q hq
          obtain ⟨c, hc, hd⟩ := drop_at hi
          rw [hd] at hq
          have hlt : dO S.1 (r, g, b) c < 1000000000 := dst_lt ht (hp c (List.mem_of_getElem? hc))
          have next : ∀ q' : Option (Nat × Int32), (amF (dO S.1 (r, g, b)) (i + 1) q' (S.1.1.drop (i + 1))).map (·.1) = some j → V l E mX5_near 3 P 90 [(0, .ref m), (1, .int r), (2, .int g), (3, .int b), (4, .int (plI (q'.map (·.1)))), (5, .int ((q'.map (·.2)).getD 1000000000)), (6, .int (nI i))] [] (g_tG E G m (twI T 5 0)) := by
            intro q' hq'
            refine V_iinc dX5_near_90 rfl (by decide) ?_
            refine V_goto 50 dX5_near_93 (by decide) ?_
            refine V_sub (L' := [(0, .ref m), (1, .int r), (2, .int g), (3, .int b), (4, .int (plI (q'.map (·.1)))), (5, .int ((q'.map (·.2)).getD 1000000000)), (6, .int (nI i + Int32.ofInt 1))]) ⟨rfl, rfl, rfl, rfl, rfl, rfl, rfl, trivial⟩ ?_
            rw [show nI i + Int32.ofInt 1 = nI (i + 1) from nI_1 i]
            exact ih q' hq'
          have take : (amF (dO S.1 (r, g, b)) (i + 1) (some (i, dO S.1 (r, g, b) c)) (S.1.1.drop (i + 1))).map (·.1) = some j → V l E mX5_near 3 P 82 [(0, .ref m), (1, .int r), (2, .int g), (3, .int b), (6, .int (nI i)), (7, .int (dO S.1 (r, g, b) c))] [] (g_tG E G m (twI T 5 0)) := by
            intro hq'
            refine V_iload dX5_near_82 rfl ?_
            refine V_istore dX5_near_84 (by decide) ?_
            refine V_iload dX5_near_86 rfl ?_
            refine V_istore dX5_near_88 (by decide) ?_
            exact V_subk (next _ hq') ⟨rfl, rfl, rfl, rfl, rfl, rfl, rfl, trivial⟩
          refine V_iload dX5_near_50 rfl ?_
          refine V_aload_n dX5_near_52 rfl (Or.inl ⟨_, rfl⟩) ?_
          refine V_get ckX5 tw0 0 (by decide) q2699 rfl rfl dX5_near_53 ?_
          refine V_iconstv 0 dX5_near_56 (by decide) ?_
          refine tw_ld 1 (0) (by decide) (by decide) rfl (show _ < 136 from by omega) (by decide) dX5_near_57 ?_
          rw [show (twI T 5 0).1 1 0 = nI S.1.1.length from e0]
          refine V_icmp_ge 96 dX5_near_58 (by decide) (fun c58 => absurd c58 (nI_ge hi (by omega))) (fun _ => ?_)
          refine V_aload_n dX5_near_61 rfl (Or.inl ⟨_, rfl⟩) ?_
          refine V_iload dX5_near_62 rfl ?_
          refine V_iload_n dX5_near_64 rfl ?_
          refine V_iload_n dX5_near_65 rfl ?_
          refine V_iload_n dX5_near_66 rfl ?_
          refine V_callV (q := (RX5, TX5, 23)) kX5_farFrom q3075 q3077 qs89 tw0 rfl dX5_near_67 ?_ (d' := 2) (as := [_, _, _, _]) (hst := rfl)
          refine (tw_farFrom (k := i) (h1 _) rfl hc ?_)
          refine V_istore dX5_near_70 (by decide) ?_
          refine V_iload dX5_near_72 rfl ?_
          refine V_iload dX5_near_74 rfl ?_
          cases q with
          | none =>
            refine V_icmp_lt 82 dX5_near_76 (by decide) (fun _ => ?_) (fun c76 => absurd hlt c76)
            exact V_subk (take hq) ⟨rfl, rfl, rfl, rfl, rfl, rfl, trivial⟩
          | some z =>
            obtain ⟨a, y⟩ := z
            have hq : (amF (dO S.1 (r, g, b)) (i + 1) (if dO S.1 (r, g, b) c < y then some (i, dO S.1 (r, g, b) c) else some (a, y)) (S.1.1.drop (i + 1))).map (·.1) = some j := hq
            have e9 : ((some (a, y)).map (·.2)).getD 1000000000 = y := rfl
            refine V_icmp_lt 82 dX5_near_76 (by decide) (fun c76 => ?_) (fun c76 => ?_)
            · rw [e9] at c76
              rw [if_pos c76] at hq
              exact V_subk (take hq) ⟨rfl, rfl, rfl, rfl, rfl, rfl, trivial⟩
            · rw [e9] at c76
              rw [if_neg c76] at hq
              refine V_goto 90 dX5_near_79 (by decide) ?_
              exact V_subk (next _ hq) ⟨rfl, rfl, rfl, rfl, rfl, rfl, rfl, trivial⟩
      refine V_if_ne 27 dX5_near_20 (by decide) (fun _ => ?_) (fun c20 => absurd c20 (nI_ne0 (by omega) (by omega)))
      refine V_iconstv 0 dX5_near_27 (by decide) ?_
      refine tw_putI 5 hm (by decide) q2704 rfl rfl rfl rfl rfl dX5_near_28 ?_
      refine V_aload_n dX5_near_31 rfl (Or.inl ⟨_, rfl⟩) ?_
      refine V_get ckX5 tw0 5 (by decide) q2704 rfl rfl dX5_near_32 ?_
      refine V_if_le 40 dX5_near_35 (by decide) (fun _ => ?_) (fun c35 => absurd (show (0 : Int32) ≤ 0 by decide) c35)
      refine V_iconstv (-1) dX5_near_40 (by decide) ?_
      refine V_istore dX5_near_41 (by decide) ?_
      refine V_ldc 1000000000 q3074 dX5_near_43 ?_
      refine V_istore dX5_near_45 (by decide) ?_
      refine V_iconstv 0 dX5_near_47 (by decide) ?_
      refine V_istore dX5_near_48 (by decide) ?_
      refine V_sub (L' := [(0, .ref m), (1, .int r), (2, .int g), (3, .int b), (4, .int (plI none)), (5, .int 1000000000), (6, .int (nI 0))]) ⟨rfl, rfl, rfl, rfl, rfl, rfl, rfl, trivial⟩ ?_
      exact loop 0 (Nat.zero_le _) none hn
theorem tw_closest (hm : g_B E ≤ m) (h : TwS T S) (kk : ∀ T', TwS T' S → T'.2 5 = (qCl S).1 → P (.returned (some (.int (qCl S).2))) (g_tG E G m T')) : g_Spc l E mX5_closest 2 [.ref m] (g_tG E G m T) P := by
  have b1 := h.1.1
  have e0 : T.1 1 0 = nI S.1.1.length := h.1.2.2.1
  have e5 : T.1 1 5 = S.1.2.2 5 := h.1.2.2.2.2.1 5 (by decide) (by decide)
  have h1 : ∀ c, TwO ((twI T 5 c).1 1) S.1 := fun _ => h.1
  unfold qCl at kk
  refine V_intro (plainFor_of_name plX5) (Nat.le_of_ble_eq_true rfl) ?_
  refine V_aload_n dX5_closest_0 rfl (Or.inl ⟨_, rfl⟩) ?_
  refine V_aload_n dX5_closest_1 rfl (Or.inl ⟨_, rfl⟩) ?_
  refine V_get ckX5 tw0 0 (by decide) q2699 rfl rfl dX5_closest_2 ?_
  refine V_iconstv 0 dX5_closest_5 (by decide) ?_
  refine tw_ld 1 (0) (by decide) (by decide) rfl (show _ < 136 from by omega) (by decide) dX5_closest_6 ?_
  refine V_iconstv 1 dX5_closest_7 (by decide) ?_
  rw [e0]
  by_cases hn : 1 < S.1.1.length
  · rw [if_pos hn] at kk
    have outer : ∀ a, a ≤ S.1.1.length → V l E mX5_closest 2 P 29 [(0, .ref m), (1, .int (clA S.1 1000000000 a)), (2, .int (nI a))] [] (g_tG E G m (twI T 5 0)) := by
      refine down S.1.1.length ?_ ?_
      · refine V_iload_n dX5_closest_29 rfl ?_
        refine V_aload_n dX5_closest_30 rfl (Or.inl ⟨_, rfl⟩) ?_
        refine V_get ckX5 tw0 0 (by decide) q2699 rfl rfl dX5_closest_31 ?_
        refine V_iconstv 0 dX5_closest_34 (by decide) ?_
        refine tw_ld 1 (0) (by decide) (by decide) rfl (show _ < 136 from by omega) (by decide) dX5_closest_35 ?_
        rw [show (twI T 5 0).1 1 0 = nI S.1.1.length from e0]
        refine V_icmp_ge 91 dX5_closest_36 (by decide) (fun _ => ?_) (fun c36 => absurd (Int32.le_refl _) c36)
        refine V_iload_n dX5_closest_91 rfl ?_
        refine V_ireturn dX5_closest_92 rfl ?_
        exact kk _ (h.q _) rfl
      · intro a ha ih
        have ec : clA S.1 1000000000 (a + 1) = clI S.1 (rwAt S.1.1 a) (clA S.1 1000000000 a) (S.1.1.take a) := rfl
        have hc := at_of ha
        have lt : (S.1.1.take a).length = a := by rw [List.length_take]; omega
        have inner : ∀ b, b ≤ (S.1.1.take a).length → ∀ v, clI S.1 (rwAt S.1.1 a) v ((S.1.1.take a).drop b) = clA S.1 1000000000 (a + 1) → V l E mX5_closest 2 P 41 [(0, .ref m), (1, .int v), (2, .int (nI a)), (3, .int (nI b))] [] (g_tG E G m (twI T 5 0)) := by
          refine down (S.1.1.take a).length ?_ ?_
          · intro v hv
            rw [List.drop_length] at hv
            have hv : v = clA S.1 1000000000 (a + 1) := hv
            subst hv
            rw [lt]
            refine V_iload_n dX5_closest_41 rfl ?_
            refine V_iload_n dX5_closest_42 rfl ?_
            refine V_icmp_ge 85 dX5_closest_43 (by decide) (fun _ => ?_) (fun c43 => absurd (Int32.le_refl _) c43)
            refine V_iinc dX5_closest_85 rfl (by decide) ?_
            refine V_goto 29 dX5_closest_88 (by decide) ?_
            refine V_sub (L' := [(0, .ref m), (1, .int (clA S.1 1000000000 (a + 1))), (2, .int (nI a + Int32.ofInt 1))]) ⟨rfl, rfl, rfl, trivial⟩ ?_
            rw [show nI a + Int32.ofInt 1 = nI (a + 1) from nI_1 a]
            exact ih
          · intro b hb ihb v hv
            obtain ⟨d, hd, hdr⟩ := drop_at hb
            rw [lt] at hb
            have hd9 : S.1.1[b]? = some d := by
              rw [List.getElem?_take, if_pos hb] at hd
              exact hd
            rw [hdr, clI_c] at hv
            have next : ∀ v', clI S.1 (rwAt S.1.1 a) v' ((S.1.1.take a).drop (b + 1)) = clA S.1 1000000000 (a + 1) → V l E mX5_closest 2 P 78 [(0, .ref m), (2, .int (nI a)), (3, .int (nI b))] [.int v'] (g_tG E G m (twI T 5 0)) := by
              intro v' hv'
              refine V_istore_n dX5_closest_78 (by decide) ?_
              refine V_iinc dX5_closest_79 rfl (by decide) ?_
              refine V_goto 41 dX5_closest_82 (by decide) ?_
              refine V_sub (L' := [(0, .ref m), (1, .int v'), (2, .int (nI a)), (3, .int (nI b + Int32.ofInt 1))]) ⟨rfl, rfl, rfl, rfl, trivial⟩ ?_
              rw [show nI b + Int32.ofInt 1 = nI (b + 1) from nI_1 b]
              exact ihb v' hv'
            refine V_iload_n dX5_closest_41 rfl ?_
            refine V_iload_n dX5_closest_42 rfl ?_
            refine V_icmp_ge 85 dX5_closest_43 (by decide) (fun c43 => absurd c43 (nI_ge hb (by omega))) (fun _ => ?_)
            refine V_aload_n dX5_closest_46 rfl (Or.inl ⟨_, rfl⟩) ?_
            refine V_iload_n dX5_closest_47 rfl ?_
            refine V_callS kX5_colourRow q2802 q2803 dX5_closest_48 ?_ (d' := 0) (as := [_]) (hst := rfl)
            refine (tw_colourRow (k := a) rfl ?_)
            refine V_iload_n dX5_closest_51 rfl ?_
            refine V_callS kX5_colourRow q2802 q2803 dX5_closest_52 ?_ (d' := 0) (as := [_]) (hst := rfl)
            refine (tw_colourRow (k := b) rfl ?_)
            refine V_callV (q := (RX5, TX5, 23)) kX5_apart q2895 q2897 qs67 tw0 rfl dX5_closest_55 ?_ (d' := 1) (as := [_, _]) (hst := rfl)
            refine (tw_apart rfl rfl (by omega) (by omega) ?_)
            rw [(h1 _).tnC hc, (h1 _).tnC hd9, show (twI T 5 0).1 1 5 = S.1.2.2 5 from e5]
            refine V_iload_n dX5_closest_58 rfl ?_
            refine V_icmp_ge 77 dX5_closest_59 (by decide) (fun c59 => ?_) (fun c59 => ?_)
            · rw [if_neg (show ¬ dO S.1 (rwAt S.1.1 a).2.1 d < v from Int32.not_lt.mpr c59)] at hv
              refine V_iload_n dX5_closest_77 rfl ?_
              exact V_subk (next v hv) ⟨rfl, rfl, rfl, trivial⟩
            · rw [if_pos (show dO S.1 (rwAt S.1.1 a).2.1 d < v from Int32.not_le.mp c59)] at hv
              refine V_aload_n dX5_closest_62 rfl (Or.inl ⟨_, rfl⟩) ?_
              refine V_iload_n dX5_closest_63 rfl ?_
              refine V_callS kX5_colourRow q2802 q2803 dX5_closest_64 ?_ (d' := 0) (as := [_]) (hst := rfl)
              refine (tw_colourRow (k := a) rfl ?_)
              refine V_iload_n dX5_closest_67 rfl ?_
              refine V_callS kX5_colourRow q2802 q2803 dX5_closest_68 ?_ (d' := 0) (as := [_]) (hst := rfl)
              refine (tw_colourRow (k := b) rfl ?_)
              refine V_callV (q := (RX5, TX5, 23)) kX5_apart q2895 q2897 qs67 tw0 rfl dX5_closest_71 ?_ (d' := 1) (as := [_, _]) (hst := rfl)
              refine (tw_apart rfl rfl (by omega) (by omega) ?_)
              rw [(h1 _).tnC hc, (h1 _).tnC hd9, show (twI T 5 0).1 1 5 = S.1.2.2 5 from e5]
              refine V_goto 78 dX5_closest_74 (by decide) ?_
              exact V_subk (next (dO S.1 (rwAt S.1.1 a).2.1 d) hv) ⟨rfl, rfl, rfl, trivial⟩
        refine V_iload_n dX5_closest_29 rfl ?_
        refine V_aload_n dX5_closest_30 rfl (Or.inl ⟨_, rfl⟩) ?_
        refine V_get ckX5 tw0 0 (by decide) q2699 rfl rfl dX5_closest_31 ?_
        refine V_iconstv 0 dX5_closest_34 (by decide) ?_
        refine tw_ld 1 (0) (by decide) (by decide) rfl (show _ < 136 from by omega) (by decide) dX5_closest_35 ?_
        rw [show (twI T 5 0).1 1 0 = nI S.1.1.length from e0]
        refine V_icmp_ge 91 dX5_closest_36 (by decide) (fun c36 => absurd c36 (nI_ge ha (by omega))) (fun _ => ?_)
        refine V_iconstv 0 dX5_closest_39 (by decide) ?_
        refine V_istore_n dX5_closest_40 (by decide) ?_
        refine V_sub (L' := [(0, .ref m), (1, .int (clA S.1 1000000000 a)), (2, .int (nI a)), (3, .int (nI 0))]) ⟨rfl, rfl, rfl, rfl, trivial⟩ ?_
        exact inner 0 (Nat.zero_le _) _ (by rw [List.drop_zero]; exact ec.symm)
    refine V_icmp_le 15 dX5_closest_8 (by decide) (fun c8 => absurd c8 (fun q => absurd ((nI_leI (b := 1) (by omega) (by decide)).mp q) (by omega))) (fun _ => ?_)
    refine V_iconstv 1 dX5_closest_11 (by decide) ?_
    refine V_goto 16 dX5_closest_12 (by decide) ?_
    refine V_callV (q := (RX5, TX5, 23)) kX5_checked q2986 q2988 qs83 tw0 rfl dX5_closest_16 ?_ (d' := 0) (as := [_]) (hst := rfl)
    refine (tw_checked (b := true) hm ?_)
    refine V_if_le 24 dX5_closest_19 (by decide) (fun _ => ?_) (fun c19 => absurd (by decide) c19)
    refine V_ldc 1000000000 q3074 dX5_closest_24 ?_
    refine V_istore_n dX5_closest_26 (by decide) ?_
    refine V_iconstv 0 dX5_closest_27 (by decide) ?_
    refine V_istore_n dX5_closest_28 (by decide) ?_
    refine V_sub (L' := [(0, .ref m), (1, .int (clA S.1 1000000000 0)), (2, .int (nI 0))]) ⟨rfl, rfl, rfl, trivial⟩ ?_
    exact outer 0 (Nat.zero_le _)
  · rw [if_neg hn] at kk
    refine V_icmp_le 15 dX5_closest_8 (by decide) (fun _ => ?_) (fun c8 => absurd (nI_le (b := 1) (by omega) (by decide)) c8)
    refine V_iconstv 0 dX5_closest_15 (by decide) ?_
    refine V_callV (q := (RX5, TX5, 23)) kX5_checked q2986 q2988 qs83 tw0 rfl dX5_closest_16 ?_ (d' := 0) (as := [_]) (hst := rfl)
    refine (tw_checked (b := false) hm ?_)
    refine V_if_le 24 dX5_closest_19 (by decide) (fun c19 => absurd c19 (by decide)) (fun _ => ?_)
    refine V_iconstv 0 dX5_closest_22 (by decide) ?_
    refine V_ireturn dX5_closest_23 rfl ?_
    exact kk _ (h.q _) rfl
theorem tw_nearest {r g b : Int32} (hm : g_B E ≤ m) (h : TwS T S) (hp : ∀ c ∈ S.1.1, TnOK c.2.1) (kk : ∀ T', TwS T' S → T'.2 5 = (qNear S r g b).1 → P (.returned (some (.int (qNear S r g b).2))) (g_tG E G m T')) : g_Spc l E mX5_nearest 4 [.ref m, .int r, .int g, .int b] (g_tG E G m T) P := by
  refine V_intro (plainFor_of_name plX5) (Nat.le_of_ble_eq_true rfl) ?_
  refine V_aload_n dX5_nearest_0 rfl (Or.inl ⟨_, rfl⟩) ?_
  refine V_iload_n dX5_nearest_1 rfl ?_
  refine V_iload_n dX5_nearest_2 rfl ?_
  refine V_iload_n dX5_nearest_3 rfl ?_
  refine V_callV (q := (RX5, TX5, 23)) kX5_near q3070 q3072 qs88 tw0 rfl dX5_nearest_4 ?_ (d' := 3) (as := [_, _, _]) (hst := rfl)
  refine (tw_near hm h hp (fun T' h1 h2 => ?_))
  refine V_ireturn dX5_nearest_7 rfl ?_
  exact kk T' h1 h2
theorem tw_nearestByLooking {r g b : Int32} (hm : g_B E ≤ m) (h : TwS T S) (hp : ∀ c ∈ S.1.1, TnOK c.2.1) (kk : ∀ T', TwS T' S → T'.2 5 = (qNear S r g b).1 → P (.returned (some (.int (qNear S r g b).2))) (g_tG E G m T')) : g_Spc l E mX5_nearestByLooking 4 [.ref m, .int r, .int g, .int b] (g_tG E G m T) P := by
  refine V_intro (plainFor_of_name plX5) (Nat.le_of_ble_eq_true rfl) ?_
  refine V_aload_n dX5_nearestByLooking_0 rfl (Or.inl ⟨_, rfl⟩) ?_
  refine V_iload_n dX5_nearestByLooking_1 rfl ?_
  refine V_iload_n dX5_nearestByLooking_2 rfl ?_
  refine V_iload_n dX5_nearestByLooking_3 rfl ?_
  refine V_callV (q := (RX5, TX5, 23)) kX5_near q3070 q3072 qs88 tw0 rfl dX5_nearestByLooking_4 ?_ (d' := 3) (as := [_, _, _]) (hst := rfl)
  refine (tw_near hm h hp (fun T' h1 h2 => ?_))
  refine V_ireturn dX5_nearestByLooking_7 rfl ?_
  exact kk T' h1 h2
theorem tw_closestDistance (hm : g_B E ≤ m) (h : TwS T S) (kk : ∀ T', TwS T' S → T'.2 5 = (qCl S).1 → P (.returned (some (.int (qCl S).2))) (g_tG E G m T')) : g_Spc l E mX5_closestDistance 3 [.ref m] (g_tG E G m T) P := by
  refine V_intro (plainFor_of_name plX5) (Nat.le_of_ble_eq_true rfl) ?_
  refine V_aload_n dX5_closestDistance_0 rfl (Or.inl ⟨_, rfl⟩) ?_
  refine V_callV (q := (RX5, TX5, 23)) kX5_closest q3087 q3089 qs90 tw0 rfl dX5_closestDistance_1 ?_ (d' := 2) (as := []) (hst := rfl)
  refine (tw_closest hm h (fun T' h1 h2 => ?_))
  refine V_ireturn dX5_closestDistance_4 rfl ?_
  exact kk T' h1 h2
theorem tw_closestDistanceBySorting (hm : g_B E ≤ m) (h : TwS T S) (kk : ∀ T', TwS T' S → T'.2 5 = (qCl S).1 → P (.returned (some (.int (qCl S).2))) (g_tG E G m T')) : g_Spc l E mX5_closestDistanceBySorting 3 [.ref m] (g_tG E G m T) P := by
  refine V_intro (plainFor_of_name plX5) (Nat.le_of_ble_eq_true rfl) ?_
  refine V_aload_n dX5_closestDistanceBySorting_0 rfl (Or.inl ⟨_, rfl⟩) ?_
  refine V_callV (q := (RX5, TX5, 23)) kX5_closest q3087 q3089 qs90 tw0 rfl dX5_closestDistanceBySorting_1 ?_ (d' := 2) (as := []) (hst := rfl)
  refine (tw_closest hm h (fun T' h1 h2 => ?_))
  refine V_ireturn dX5_closestDistanceBySorting_4 rfl ?_
  exact kk T' h1 h2
end TW17
