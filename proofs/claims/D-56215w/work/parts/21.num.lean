/-! MODULE ColourOffice: numbers -/
set_option maxRecDepth 100000
section NUM
variable {l : Launch} {E : g_E} {P : Outcome → g_G → Prop} {G : g_G}
def isb (v lo hi : Int32) : Bool := decide (lo ≤ v) && decide (v ≤ hi)
theorem co_isBetween {v lo hi : Int32} (k : P (.returned (some (.int (b2i (isb v lo hi))))) G) : g_Spc l E mX1_isBetween 0 [.int v, .int lo, .int hi] G P := by
  refine V_intro (plainFor_of_name plX1) (Nat.le_of_ble_eq_true rfl) ?_
  refine V_iload_n dX1_isBetween_0 rfl ?_
  refine V_iload_n dX1_isBetween_1 rfl ?_
  refine V_icmp_lt 14 dX1_isBetween_2 (by decide) (fun c2 => ?_) (fun c2 => ?_)
  · refine V_iconstv 0 dX1_isBetween_14 (by decide) ?_
    refine V_zreturn dX1_isBetween_15 rfl rfl ?_
    have e : isb v lo hi = false := by simp [isb, Int32.not_le.mpr c2]
    rw [e] at k
    exact k
  · refine V_iload_n dX1_isBetween_5 rfl ?_
    refine V_iload_n dX1_isBetween_6 rfl ?_
    refine V_icmp_gt 14 dX1_isBetween_7 (by decide) (fun c7 => ?_) (fun c7 => ?_)
    · refine V_iconstv 0 dX1_isBetween_14 (by decide) ?_
      refine V_zreturn dX1_isBetween_15 rfl rfl ?_
      have e : isb v lo hi = false := by simp [isb, Int32.not_le.mpr c7]
      rw [e] at k
      exact k
    · refine V_iconstv 1 dX1_isBetween_10 (by decide) ?_
      refine V_goto 15 dX1_isBetween_11 (by decide) ?_
      refine V_zreturn dX1_isBetween_15 rfl rfl ?_
      have e : isb v lo hi = true := by simp [isb, Int32.not_lt.mp c2, Int32.not_lt.mp c7]
      rw [e] at k
      exact k
/-- the parts from place i on are parts -/
def okFrom (f : Nat → Int32) : Nat → Nat → Bool → Bool
  | 0, _, g => g
  | j + 1, i, g => okFrom f j (i + 1) (g && isb (f i) 0 99)
theorem co_areParts {a : Nat} {f : Nat → Int32} (h : G.1 a = some (g_ai E 3 f)) (k : P (.returned (some (.int (b2i (okFrom f 3 0 true))))) G) : g_Spc l E mX1_areParts 1 [.ref a] G P := by
  refine V_intro (plainFor_of_name plX1) (Nat.le_of_ble_eq_true rfl) ?_
  have loop : ∀ (j i : Nat) (g : Bool), i + j = 3 → P (.returned (some (.int (b2i (okFrom f j i g))))) G → V l E mX1_areParts 1 P 10 [(0, .ref a), (1, .int (b2i g)), (2, .ref a), (3, .int (nI 3)), (4, .int (nI i))] [] G := by
    intro j
    induction j with
    | zero =>
      intro i g hi k
      have hi3 : i = 3 := by omega
      subst hi3
      refine V_iload dX1_areParts_10 rfl ?_
      refine V_iload_n dX1_areParts_12 rfl ?_
      refine V_icmp_ge 49 dX1_areParts_13 (by decide) (fun _ => ?_) (fun c13 => absurd (Int32.le_refl _) c13)
      refine V_iload_n dX1_areParts_49 rfl ?_
      refine V_zreturn dX1_areParts_50 rfl (b2i_nar _) ?_
      exact k
    | succ j ih =>
      intro i g hi k
      have hlt : ¬ nI 3 ≤ nI i := nI_ge (by omega) (by decide)
      have hin : vp_in (nI i) 3 := vp_in_nI (by omega) (by decide)
      refine V_iload dX1_areParts_10 rfl ?_
      refine V_iload_n dX1_areParts_12 rfl ?_
      refine V_icmp_ge 49 dX1_areParts_13 (by decide) (fun c13 => absurd c13 hlt) (fun _ => ?_)
      refine V_aload_n dX1_areParts_16 rfl (Or.inl ⟨_, rfl⟩) ?_
      refine V_iload dX1_areParts_17 rfl ?_
      refine V_iaload (by first | assumption | (repeat (first | exact g_up_at | exact g_new_at rfl | assumption | refine g_up_of (by first | assumption | (simp only [g_new, g_up]; omega) | omega) ?_ | refine g_new_of (by first | assumption | (simp only [g_new, g_up]; omega) | omega) ?_))) (by first | assumption | exact g_in (by decide)) q388 dX1_areParts_19 ?_
      refine V_istore dX1_areParts_20 (by decide) ?_
      refine V_iload_n dX1_areParts_22 rfl ?_
      rw [nI_clamp (by omega)]
      cases g with
      | false =>
        refine V_if_eq 41 dX1_areParts_23 (by decide) (fun _ => ?_) (fun c23 => absurd rfl c23)
        refine V_iconstv 0 dX1_areParts_41 (by decide) ?_
        refine V_istore_n dX1_areParts_42 (by decide) ?_
        refine V_iinc dX1_areParts_43 rfl (by decide) ?_
        refine V_goto 10 dX1_areParts_46 (by decide) ?_
        refine V_sub (L' := [(0, .ref a), (1, .int (b2i false)), (2, .ref a), (3, .int (nI 3)), (4, .int (nI i + Int32.ofInt 1))]) ⟨rfl, rfl, rfl, rfl, rfl, trivial⟩ ?_
        rw [show nI i + Int32.ofInt 1 = nI (i + 1) from nI_1 i]
        exact ih (i + 1) false (by omega) k
      | true =>
        refine V_if_eq 41 dX1_areParts_23 (by decide) (fun c23 => absurd c23 (by decide)) (fun _ => ?_)
        refine V_iload dX1_areParts_26 rfl ?_
        refine V_iconstv 0 dX1_areParts_28 (by decide) ?_
        refine V_bipushv 99 dX1_areParts_29 (by decide) ?_
        refine V_callS kX1_isBetween q1041 q1042 dX1_areParts_31 ?_ (d' := 0) (as := [_, _, _]) (hst := rfl)
        refine (co_isBetween ?_)
        have k : P (.returned (some (.int (b2i (okFrom f j (i + 1) (isb (f i) 0 99)))))) G := k
        cases hb : isb (f i) 0 99 with
        | false =>
          rw [hb] at k
          refine V_if_eq 41 dX1_areParts_34 (by decide) (fun _ => ?_) (fun c34 => absurd rfl c34)
          refine V_iconstv 0 dX1_areParts_41 (by decide) ?_
          refine V_istore_n dX1_areParts_42 (by decide) ?_
          refine V_iinc dX1_areParts_43 rfl (by decide) ?_
          refine V_goto 10 dX1_areParts_46 (by decide) ?_
          refine V_sub (L' := [(0, .ref a), (1, .int (b2i false)), (2, .ref a), (3, .int (nI 3)), (4, .int (nI i + Int32.ofInt 1))]) ⟨rfl, rfl, rfl, rfl, rfl, trivial⟩ ?_
          rw [show nI i + Int32.ofInt 1 = nI (i + 1) from nI_1 i]
          exact ih (i + 1) false (by omega) k
        | true =>
          rw [hb] at k
          refine V_if_eq 41 dX1_areParts_34 (by decide) (fun c34 => absurd c34 (by decide)) (fun _ => ?_)
          refine V_iconstv 1 dX1_areParts_37 (by decide) ?_
          refine V_goto 42 dX1_areParts_38 (by decide) ?_
          refine V_istore_n dX1_areParts_42 (by decide) ?_
          refine V_iinc dX1_areParts_43 rfl (by decide) ?_
          refine V_goto 10 dX1_areParts_46 (by decide) ?_
          refine V_sub (L' := [(0, .ref a), (1, .int (b2i true)), (2, .ref a), (3, .int (nI 3)), (4, .int (nI i + Int32.ofInt 1))]) ⟨rfl, rfl, rfl, rfl, rfl, trivial⟩ ?_
          rw [show nI i + Int32.ofInt 1 = nI (i + 1) from nI_1 i]
          exact ih (i + 1) true (by omega) k
  refine V_iconstv 1 dX1_areParts_0 (by decide) ?_
  refine V_istore_n dX1_areParts_1 (by decide) ?_
  refine V_aload_n dX1_areParts_2 rfl (Or.inl ⟨_, rfl⟩) ?_
  refine V_astore_n dX1_areParts_3 (Or.inl ⟨_, rfl⟩) (by decide) ?_
  refine V_aload_n dX1_areParts_4 rfl (Or.inl ⟨_, rfl⟩) ?_
  refine V_alen_i (by first | assumption | (repeat (first | exact g_up_at | exact g_new_at rfl | assumption | refine g_up_of (by first | assumption | (simp only [g_new, g_up]; omega) | omega) ?_ | refine g_new_of (by first | assumption | (simp only [g_new, g_up]; omega) | omega) ?_))) q388 dX1_areParts_5 ?_
  refine V_istore_n dX1_areParts_6 (by decide) ?_
  refine V_iconstv 0 dX1_areParts_7 (by decide) ?_
  refine V_istore dX1_areParts_8 (by decide) ?_
  refine V_sub (L' := [(0, .ref a), (1, .int (b2i true)), (2, .ref a), (3, .int (nI 3)), (4, .int (nI 0))]) ⟨rfl, rfl, rfl, rfl, rfl, trivial⟩ ?_
  exact loop 3 0 true rfl k
/-! metrics -/
/-- the metric's number: sum, squares, greatest -/
def mt_k (c : Int32) : Nat := if c = 109 then 0 else if c = 115 then 1 else 2
def mt_ad (E : g_E) (k : Nat) : Nat := if k = 0 then lam_ad E 28 13 "lambda$metricOf$0" else if k = 1 then lam_ad E 34 17 "lambda$metricOf$1" else lam_ad E 40 18 "lambda$metricOf$2"
def comb (k : Nat) (x y z : Int32) : Int32 := if k = 0 then x + y + z else if k = 1 then x * x + y * y + z * z else i_max x (i_max y z)
theorem co_lam0 {x y z : Int32} (k : P (.returned (some (.int (x + y + z)))) G) : g_Spc l E mX1_lambda_metricOf_0 0 [.int x, .int y, .int z] G P := by
  refine V_intro (plainFor_of_name plX1) (Nat.le_of_ble_eq_true rfl) ?_
  refine V_iload_n dX1_lambda_metricOf_0_0 rfl ?_
  refine V_iload_n dX1_lambda_metricOf_0_1 rfl ?_
  refine V_iadd dX1_lambda_metricOf_0_2 ?_
  refine V_iload_n dX1_lambda_metricOf_0_3 rfl ?_
  refine V_iadd dX1_lambda_metricOf_0_4 ?_
  refine V_ireturn dX1_lambda_metricOf_0_5 rfl ?_
  exact k
theorem co_lam1 {x y z : Int32} (k : P (.returned (some (.int (x * x + y * y + z * z)))) G) : g_Spc l E mX1_lambda_metricOf_1 0 [.int x, .int y, .int z] G P := by
  refine V_intro (plainFor_of_name plX1) (Nat.le_of_ble_eq_true rfl) ?_
  refine V_iload_n dX1_lambda_metricOf_1_0 rfl ?_
  refine V_iload_n dX1_lambda_metricOf_1_1 rfl ?_
  refine V_imul dX1_lambda_metricOf_1_2 ?_
  refine V_iload_n dX1_lambda_metricOf_1_3 rfl ?_
  refine V_iload_n dX1_lambda_metricOf_1_4 rfl ?_
  refine V_imul dX1_lambda_metricOf_1_5 ?_
  refine V_iadd dX1_lambda_metricOf_1_6 ?_
  refine V_iload_n dX1_lambda_metricOf_1_7 rfl ?_
  refine V_iload_n dX1_lambda_metricOf_1_8 rfl ?_
  refine V_imul dX1_lambda_metricOf_1_9 ?_
  refine V_iadd dX1_lambda_metricOf_1_10 ?_
  refine V_ireturn dX1_lambda_metricOf_1_11 rfl ?_
  exact k
theorem co_lam2 {x y z : Int32} (k : P (.returned (some (.int (i_max x (i_max y z))))) G) : g_Spc l E mX1_lambda_metricOf_2 1 [.int x, .int y, .int z] G P := by
  refine V_intro (plainFor_of_name plX1) (Nat.le_of_ble_eq_true rfl) ?_
  refine V_iload_n dX1_lambda_metricOf_2_0 rfl ?_
  refine V_iload_n dX1_lambda_metricOf_2_1 rfl ?_
  refine V_iload_n dX1_lambda_metricOf_2_2 rfl ?_
  refine V_callS kJ17_max q1261 q612 dX1_lambda_metricOf_2_3 ?_ (d' := 0) (as := [_, _]) (hst := rfl)
  refine (math_max ?_)
  refine V_callS kJ17_max q1261 q612 dX1_lambda_metricOf_2_6 ?_ (d' := 0) (as := [_, _]) (hst := rfl)
  refine (math_max ?_)
  refine V_ireturn dX1_lambda_metricOf_2_9 rfl ?_
  exact k
theorem co_metricOf {c : Int32} (k : P (.returned (some (.ref (mt_ad E (mt_k c))))) G) : g_Spc l E mX1_metricOf 0 [.int c] G P := by
  refine V_intro (plainFor_of_name plX1) (Nat.le_of_ble_eq_true rfl) ?_
  refine V_iload_n dX1_metricOf_0 rfl ?_
  by_cases h1 : c = 109
  · subst h1
    refine V_lookup (off := 27) 28 dX1_metricOf_1 (by decide) (by decide) (by decide) ?_
    refine V_indy rfl lam_s0 (Nat.le_of_ble_eq_true rfl) dX1_metricOf_28 ?_
    refine V_areturnO dX1_metricOf_33 rfl ?_
    exact k
  · by_cases h2 : c = 115
    · subst h2
      refine V_lookup (off := 33) 34 dX1_metricOf_1 (by decide) (by decide) (by decide) ?_
      refine V_indy rfl lam_s1 (Nat.le_of_ble_eq_true rfl) dX1_metricOf_34 ?_
      refine V_areturnO dX1_metricOf_39 rfl ?_
      exact k
    · have e : mt_k c = 2 := by simp [mt_k, h1, h2]
      rw [e] at k
      refine V_lookup (off := 39) 40 dX1_metricOf_1 (by decide) ((lv_osw h1 rfl).trans (lv_osw h2 rfl)) (by decide) ?_
      refine V_indy rfl lam_s2 (Nat.le_of_ble_eq_true rfl) dX1_metricOf_40 ?_
      refine V_areturnO dX1_metricOf_45 rfl ?_
      exact k
theorem V_combine {M : g_M} {d pc i count k : Nat} {L : List (Nat × Value)} {st : List Value} {x y z : Int32} (hlink : Cond.methodLink M.1.cls i lam_if ∈ lw_all) (hd : decode M.2.1 pc = .ok (.invokeinterface i count, 5)) (hdd : 3 ≤ d) (hlen : st.length ≤ 14) (kk : V l E M d P (pc + 5) L (.int (comb k x y z) :: st) G) : V l E M d P pc L (.int z :: .int y :: .int x :: .ref (mt_ad E k) :: st) G := by
  by_cases h0 : k = 0
  · subst h0
    exact V_callL lam_ok0 lam_s0 kX1_lambda_metricOf_0 rfl q1255 hlink q1352 q1351 hd hlen (by omega) (co_lam0 ⟨rfl, rfl⟩) kk
  · by_cases h1 : k = 1
    · subst h1
      exact V_callL lam_ok1 lam_s1 kX1_lambda_metricOf_1 rfl q1257 hlink q1352 q1351 hd hlen (by omega) (co_lam1 ⟨rfl, rfl⟩) kk
    · have e : mt_ad E k = lam_ad E 40 18 "lambda$metricOf$2" := by simp [mt_ad, h0, h1]
      have e2 : comb k x y z = i_max x (i_max y z) := by simp [comb, h0, h1]
      rw [e]
      rw [e2] at kk
      exact V_callL lam_ok2 lam_s2 kX1_lambda_metricOf_2 rfl q1259 hlink q1352 q1351 hd hlen (by omega) (co_lam2 ⟨rfl, rfl⟩) kk
/-- the distance of two tints by metric k -/
def dst (k : Nat) (t u : Tn) : Int32 := comb k (i_abs (t.1 - u.1)) (i_abs (t.2.1 - u.2.1)) (i_abs (t.2.2 - u.2.2))
theorem co_distance {A : Nat → Prop} {a b k : Nat} {t u : Tn} (h : TintAt E A G a t) (g : TintAt E A G b u) (kk : P (.returned (some (.int (dst k t u)))) G) : g_Spc l E mX1_distance 3 [.ref (mt_ad E k), .ref a, .ref b] G P := by
  have ha := h
  have hb := g
  obtain ⟨-, pa, fa, -, ha1, -⟩ := h
  obtain ⟨-, pb, fb, -, hb1, -⟩ := g
  refine V_intro (plainFor_of_name plX1) (Nat.le_of_ble_eq_true rfl) ?_
  refine V_aload_n dX1_distance_0 rfl (Or.inl ⟨_, rfl⟩) ?_
  refine V_aload_n dX1_distance_1 rfl (Or.inl ⟨_, rfl⟩) ?_
  refine V_aload_n dX1_distance_2 rfl (Or.inl ⟨_, rfl⟩) ?_
  refine V_iconstv 0 dX1_distance_3 (by decide) ?_
  refine V_callV (q := (RX11, TX11, 1)) kX11_difference q1342 q1343 q1344 (by first | assumption | (repeat (first | exact g_up_at | exact g_new_at rfl | assumption | refine g_up_of (by first | assumption | (simp only [g_new, g_up]; omega) | omega) ?_ | refine g_new_of (by first | assumption | (simp only [g_new, g_up]; omega) | omega) ?_))) rfl dX1_distance_4 ?_ (d' := 1) (as := [_, _]) (hst := rfl)
  refine (tint_difference (k := 0) ha hb rfl (by decide) ?_)
  refine V_aload_n dX1_distance_7 rfl (Or.inl ⟨_, rfl⟩) ?_
  refine V_aload_n dX1_distance_8 rfl (Or.inl ⟨_, rfl⟩) ?_
  refine V_iconstv 1 dX1_distance_9 (by decide) ?_
  refine V_callV (q := (RX11, TX11, 1)) kX11_difference q1342 q1343 q1344 (by first | assumption | (repeat (first | exact g_up_at | exact g_new_at rfl | assumption | refine g_up_of (by first | assumption | (simp only [g_new, g_up]; omega) | omega) ?_ | refine g_new_of (by first | assumption | (simp only [g_new, g_up]; omega) | omega) ?_))) rfl dX1_distance_10 ?_ (d' := 1) (as := [_, _]) (hst := rfl)
  refine (tint_difference (k := 1) ha hb rfl (by decide) ?_)
  refine V_aload_n dX1_distance_13 rfl (Or.inl ⟨_, rfl⟩) ?_
  refine V_aload_n dX1_distance_14 rfl (Or.inl ⟨_, rfl⟩) ?_
  refine V_iconstv 2 dX1_distance_15 (by decide) ?_
  refine V_callV (q := (RX11, TX11, 1)) kX11_difference q1342 q1343 q1344 (by first | assumption | (repeat (first | exact g_up_at | exact g_new_at rfl | assumption | refine g_up_of (by first | assumption | (simp only [g_new, g_up]; omega) | omega) ?_ | refine g_new_of (by first | assumption | (simp only [g_new, g_up]; omega) | omega) ?_))) rfl dX1_distance_16 ?_ (d' := 1) (as := [_, _]) (hst := rfl)
  refine (tint_difference (k := 2) ha hb rfl (by decide) ?_)
  refine V_combine q1350 dX1_distance_19 (by decide) (Nat.le_of_ble_eq_true rfl) ?_
  refine V_ireturn dX1_distance_24 rfl ?_
  exact kk
end NUM
