/-! MODULE Settlement -/
set_option maxRecDepth 100000
def gL (o : Of) (r c : Rw) : Int64 := 1000000 * r.2.2.2.toInt64 - (dO o r.2.1 c).toInt64
def bWL (o : Of) (nx : Nat → Int64) (r : Rw) (S : Nat) : Nat → Int64 → List Rw → Int64
  | _, b, [] => b
  | j, b, c :: t => bWL o nx r S (j + 1) (if S.testBit j = false ∧ fitO o r c = true then l_max b (gL o r c + nx (S ||| 2 ^ j)) else b) t
def bTL (o : Of) : List Rw → Nat → Int64
  | [], _ => 0
  | r :: t, S => l_max (bTL o t S) (bWL o (bTL o t) r S 0 0 o.1)
def bYL (o : Of) : List Rw → Nat → Int64
  | [], _ => 0
  | r :: t, S => bWL o (bYL o t) r S 0 (bYL o t S) o.1
def chFL (o : Of) (nx : Nat → Int64) (v : Int64) (r : Rw) (S : Nat) : Nat → List Rw → Option Nat
  | _, [] => none
  | j, c :: t => if S.testBit j = false ∧ fitO o r c = true ∧ gL o r c + nx (S ||| 2 ^ j) = v then some j else chFL o nx v r S (j + 1) t
theorem bWL_c {o : Of} {nx : Nat → Int64} {r c : Rw} {S j : Nat} {b : Int64} {t : List Rw} : bWL o nx r S j b (c :: t) = bWL o nx r S (j + 1) (if S.testBit j = false ∧ fitO o r c = true then l_max b (gL o r c + nx (S ||| 2 ^ j)) else b) t := rfl
theorem bTL_c {o : Of} {r : Rw} {t : List Rw} {S : Nat} : bTL o (r :: t) S = l_max (bTL o t S) (bWL o (bTL o t) r S 0 0 o.1) := rfl
theorem bYL_c {o : Of} {r : Rw} {t : List Rw} {S : Nat} : bYL o (r :: t) S = bWL o (bYL o t) r S 0 (bYL o t S) o.1 := rfl
/-- no distance is -1 -/
def DisOK (o : Of) : Prop := ∀ r ∈ o.2.1, ∀ c ∈ o.1, dO o r.2.1 c ≠ -1
theorem sb_gt {S i : Nat} (h : S.testBit i = false) : S < S ||| 2 ^ i := by
  refine Nat.lt_of_le_of_ne Nat.left_le_or (fun e => ?_)
  have h2 : (S ||| 2 ^ i).testBit i = true := by rw [Nat.testBit_or, Nat.testBit_two_pow_self, Bool.or_true]
  rw [← e, h] at h2
  cases h2
section SETL
variable {l : Launch} {E : g_E} {P : Outcome → g_G → Prop} {G : g_G}
theorem math_maxL {x y : Int64} (k : P (.returned (some (.long (l_max x y)))) G) : g_Spc l E mJ17_max_2 0 [.long x, .long y] G P := by
  refine V_intro (by decide +kernel) (Nat.le_of_ble_eq_true rfl) ?_
  refine V_lload_n dJ17_max_2_0 rfl ?_
  refine V_lload_n dJ17_max_2_1 rfl ?_
  refine V_lcmp dJ17_max_2_2 ?_
  refine V_if_lt 10 dJ17_max_2_3 (by decide) (fun c3 => ?_) (fun c3 => ?_)
  · refine V_lload_n dJ17_max_2_10 rfl ?_
    refine V_lreturn dJ17_max_2_11 rfl ?_
    have e : l_max x y = y := if_pos ((lg_cmp_lt _ _).mp c3)
    rw [e] at k
    exact k
  · refine V_lload_n dJ17_max_2_6 rfl ?_
    refine V_goto 11 dJ17_max_2_7 (by decide) ?_
    refine V_lreturn dJ17_max_2_11 rfl ?_
    have e : l_max x y = x := if_neg (fun q => c3 ((lg_cmp_lt _ _).mpr q))
    rw [e] at k
    exact k
/-- a settlement's object -/
def SetAt (E : g_E) (G : g_G) (a : Nat) (o : Of) : Prop := ∃ (ra da : Nat) (rf df : Nat → Int32), G.1 a = some (g_ob 13 [.int (nI o.2.1.length), .int (nI o.1.length), .ref ra, .ref da]) ∧ G.1 ra = some (g_ai E o.2.1.length rf) ∧ G.1 da = some (g_ai E (o.2.1.length * o.1.length) df) ∧ (∀ (k : Nat) (r : Rw), o.2.1[k]? = some r → rf k = r.2.2.2) ∧ ∀ (k j : Nat) (r c : Rw), o.2.1[k]? = some r → o.1[j]? = some c → df (o.1.length * k + j) = if fitO o r c = true then dO o r.2.1 c else -1
theorem SetAt.keep {a : Nat} {o : Of} {G' : g_G} (h : SetAt E G a o) (hk : g_ke g_all G G') : SetAt E G' a o := by
  obtain ⟨ra, da, rf, df, h1, h2, h3, h4⟩ := h
  exact ⟨ra, da, rf, df, hk _ _ trivial h1, hk _ _ trivial h2, hk _ _ trivial h3, h4⟩
theorem pl_lt {R C k j : Nat} (hk : k < R) (hj : j < C) : C * k + j < R * C := by
  have h1 : C * k + C ≤ C * R := by rw [← Nat.mul_succ]; exact Nat.mul_le_mul_left _ hk
  rw [Nat.mul_comm R C]
  omega
theorem st_fits {a k j : Nat} {x y : Int32} {o : Of} {r c : Rw} (h : SetAt E G a o) (hC : o.1.length ≤ 10) (hR : o.2.1.length ≤ 6) (hD : DisOK o) (hx : x = nI k) (hy : y = nI j) (hr : o.2.1[k]? = some r) (hc : o.1[j]? = some c) (kk : P (.returned (some (.int (b2i (fitO o r c))))) G) : g_Spc l E mX15_fits 0 [.ref a, .int x, .int y] G P := by
  obtain ⟨ra, da, rf, df, h1, h2, h3, h4, h5⟩ := h
  have hk := lt_of_at hr
  have hj := lt_of_at hc
  have hlt := pl_lt hk hj
  have hb : o.2.1.length * o.1.length ≤ 60 := Nat.mul_le_mul hR hC
  have hin : vp_in (nI (o.1.length * k + j)) (o.2.1.length * o.1.length) := vp_in_nI hlt (by omega)
  subst hx
  subst hy
  refine V_intro (plainFor_of_name plX15) (Nat.le_of_ble_eq_true rfl) ?_
  refine V_aload_n dX15_fits_0 rfl (Or.inl ⟨_, rfl⟩) ?_
  refine V_get ckX15 (by first | assumption | (repeat (first | exact g_up_at | exact g_new_at rfl | assumption | refine g_up_of (by first | assumption | (simp only [g_new, g_up]; omega) | omega) ?_ | refine g_new_of (by first | assumption | (simp only [g_new, g_up]; omega) | omega) ?_))) 3 (by decide) q1434 rfl (by rfl) dX15_fits_1 ?_
  refine V_aload_n dX15_fits_4 rfl (Or.inl ⟨_, rfl⟩) ?_
  refine V_get ckX15 (by first | assumption | (repeat (first | exact g_up_at | exact g_new_at rfl | assumption | refine g_up_of (by first | assumption | (simp only [g_new, g_up]; omega) | omega) ?_ | refine g_new_of (by first | assumption | (simp only [g_new, g_up]; omega) | omega) ?_))) 1 (by decide) q1432 rfl (by rfl) dX15_fits_5 ?_
  refine V_iload_n dX15_fits_8 rfl ?_
  refine V_imul dX15_fits_9 ?_
  refine V_iload_n dX15_fits_10 rfl ?_
  refine V_iadd dX15_fits_11 ?_
  rw [nI_mul, nI_add]
  refine V_iaload (by first | assumption | (repeat (first | exact g_up_at | exact g_new_at rfl | assumption | refine g_up_of (by first | assumption | (simp only [g_new, g_up]; omega) | omega) ?_ | refine g_new_of (by first | assumption | (simp only [g_new, g_up]; omega) | omega) ?_))) (by first | assumption | exact g_in (by decide)) q388 dX15_fits_12 ?_
  rw [nI_clamp (by omega), h5 k j r c hr hc]
  refine V_iconstv (-1) dX15_fits_13 (by decide) ?_
  refine V_icmp_eq 21 dX15_fits_14 (by decide) (fun c14 => ?_) (fun c14 => ?_)
  · refine V_iconstv 0 dX15_fits_21 (by decide) ?_
    refine V_zreturn dX15_fits_22 rfl rfl ?_
    have e : fitO o r c = false := by
      cases hf : fitO o r c with
      | false => rfl
      | true =>
        rw [hf, if_pos rfl] at c14
        exact absurd c14 (hD r (List.mem_of_getElem? hr) c (List.mem_of_getElem? hc))
    rw [e] at kk
    exact kk
  · refine V_iconstv 1 dX15_fits_17 (by decide) ?_
    refine V_goto 22 dX15_fits_18 (by decide) ?_
    refine V_zreturn dX15_fits_22 rfl rfl ?_
    have e : fitO o r c = true := by
      cases hf : fitO o r c with
      | true => rfl
      | false =>
        rw [hf, if_neg (by decide)] at c14
        exact absurd rfl c14
    rw [e] at kk
    exact kk
theorem st_worth {a k j : Nat} {x y : Int32} {o : Of} {r c : Rw} (h : SetAt E G a o) (hC : o.1.length ≤ 10) (hR : o.2.1.length ≤ 6) (hx : x = nI k) (hy : y = nI j) (hr : o.2.1[k]? = some r) (hc : o.1[j]? = some c) (hf : fitO o r c = true) (kk : P (.returned (some (.long (gL o r c)))) G) : g_Spc l E mX15_worth 0 [.ref a, .int x, .int y] G P := by
  obtain ⟨ra, da, rf, df, h1, h2, h3, h4, h5⟩ := h
  have hk := lt_of_at hr
  have hj := lt_of_at hc
  have hlt := pl_lt hk hj
  have hb : o.2.1.length * o.1.length ≤ 60 := Nat.mul_le_mul hR hC
  have hin : vp_in (nI (o.1.length * k + j)) (o.2.1.length * o.1.length) := vp_in_nI hlt (by omega)
  have hin2 : vp_in (nI k) o.2.1.length := vp_in_nI hk (by omega)
  subst hx
  subst hy
  refine V_intro (plainFor_of_name plX15) (Nat.le_of_ble_eq_true rfl) ?_
  refine V_ldc2 1000000 q1468 dX15_worth_0 ?_
  refine V_aload_n dX15_worth_3 rfl (Or.inl ⟨_, rfl⟩) ?_
  refine V_get ckX15 (by first | assumption | (repeat (first | exact g_up_at | exact g_new_at rfl | assumption | refine g_up_of (by first | assumption | (simp only [g_new, g_up]; omega) | omega) ?_ | refine g_new_of (by first | assumption | (simp only [g_new, g_up]; omega) | omega) ?_))) 2 (by decide) q1433 rfl (by rfl) dX15_worth_4 ?_
  refine V_iload_n dX15_worth_7 rfl ?_
  refine V_iaload (by first | assumption | (repeat (first | exact g_up_at | exact g_new_at rfl | assumption | refine g_up_of (by first | assumption | (simp only [g_new, g_up]; omega) | omega) ?_ | refine g_new_of (by first | assumption | (simp only [g_new, g_up]; omega) | omega) ?_))) (by first | assumption | exact g_in (by decide)) q388 dX15_worth_8 ?_
  rw [nI_clamp (by omega), h4 k r hr]
  refine V_i2l dX15_worth_9 ?_
  refine V_lmul dX15_worth_10 ?_
  refine V_aload_n dX15_worth_11 rfl (Or.inl ⟨_, rfl⟩) ?_
  refine V_get ckX15 (by first | assumption | (repeat (first | exact g_up_at | exact g_new_at rfl | assumption | refine g_up_of (by first | assumption | (simp only [g_new, g_up]; omega) | omega) ?_ | refine g_new_of (by first | assumption | (simp only [g_new, g_up]; omega) | omega) ?_))) 3 (by decide) q1434 rfl (by rfl) dX15_worth_12 ?_
  refine V_aload_n dX15_worth_15 rfl (Or.inl ⟨_, rfl⟩) ?_
  refine V_get ckX15 (by first | assumption | (repeat (first | exact g_up_at | exact g_new_at rfl | assumption | refine g_up_of (by first | assumption | (simp only [g_new, g_up]; omega) | omega) ?_ | refine g_new_of (by first | assumption | (simp only [g_new, g_up]; omega) | omega) ?_))) 1 (by decide) q1432 rfl (by rfl) dX15_worth_16 ?_
  refine V_iload_n dX15_worth_19 rfl ?_
  refine V_imul dX15_worth_20 ?_
  refine V_iload_n dX15_worth_21 rfl ?_
  refine V_iadd dX15_worth_22 ?_
  rw [nI_mul, nI_add]
  refine V_iaload (by first | assumption | (repeat (first | exact g_up_at | exact g_new_at rfl | assumption | refine g_up_of (by first | assumption | (simp only [g_new, g_up]; omega) | omega) ?_ | refine g_new_of (by first | assumption | (simp only [g_new, g_up]; omega) | omega) ?_))) (by first | assumption | exact g_in (by decide)) q388 dX15_worth_23 ?_
  rw [nI_clamp (by omega), h5 k j r c hr hc, if_pos hf]
  refine V_i2l dX15_worth_24 ?_
  refine V_lsub dX15_worth_25 ?_
  refine V_lreturn dX15_worth_26 rfl ?_
  exact kk
theorem st_bestWith {a w k S : Nat} {x y : Int32} {o : Of} {r : Rw} {f T : Nat → Int64} (h : SetAt E G a o) (hC : o.1.length ≤ 10) (hR : o.2.1.length ≤ 6) (hD : DisOK o) (hx : x = nI k) (hy : y = nI S) (hr : o.2.1[k]? = some r) (hS : S < 2 ^ o.1.length) (hw : G.1 w = some (g_al E (2 ^ o.1.length) f)) (hf : ∀ q, S < q → q < 2 ^ o.1.length → f q = T q) (kk : P (.returned (some (.long (bWL o T r S 0 0 o.1)))) G) : g_Spc l E mX15_bestWith 1 [.ref a, .ref w, .int x, .int y] G P := by
  have h0 := h
  obtain ⟨ra, da, rf, df, h1, h2, h3, h4, h5⟩ := h
  have p10 := sb_p10 hC
  have hS10 : S < 1024 := Nat.lt_of_lt_of_le hS p10
  subst hx
  subst hy
  refine V_intro (plainFor_of_name plX15) (Nat.le_of_ble_eq_true rfl) ?_
  have loop : ∀ i, i ≤ o.1.length → ∀ b : Int64, P (.returned (some (.long (bWL o T r S i b (o.1.drop i))))) G → V l E mX15_bestWith 1 P 6 [(0, .ref a), (1, .ref w), (2, .int (nI k)), (3, .int (nI S)), (4, .long b), (6, .int (nI i))] [] G := by
    refine down _ ?_ ?_
    · intro b k9
      rw [List.drop_eq_nil_of_le (Nat.le_refl _)] at k9
      refine V_iload dX15_bestWith_6 rfl ?_
      refine V_aload_n dX15_bestWith_8 rfl (Or.inl ⟨_, rfl⟩) ?_
      refine V_get ckX15 (by first | assumption | (repeat (first | exact g_up_at | exact g_new_at rfl | assumption | refine g_up_of (by first | assumption | (simp only [g_new, g_up]; omega) | omega) ?_ | refine g_new_of (by first | assumption | (simp only [g_new, g_up]; omega) | omega) ?_))) 1 (by decide) q1432 rfl (by rfl) dX15_bestWith_9 ?_
      refine V_icmp_ge 63 dX15_bestWith_12 (by decide) (fun _ => ?_) (fun c12 => absurd (Int32.le_refl _) c12)
      refine V_lload dX15_bestWith_63 rfl ?_
      refine V_lreturn dX15_bestWith_65 rfl ?_
      exact k9
    · intro i hi ih b k9
      obtain ⟨c, hc, ed⟩ := drop_at hi
      rw [ed, bWL_c] at k9
      have next : ∀ b' : Int64, b' = (if S.testBit i = false ∧ fitO o r c = true then l_max b (gL o r c + T (S ||| 2 ^ i)) else b) → V l E mX15_bestWith 1 P 57 [(0, .ref a), (1, .ref w), (2, .int (nI k)), (3, .int (nI S)), (4, .long b'), (6, .int (nI i))] [] G := by
        intro b' hb'
        rw [← hb'] at k9
        refine V_iinc dX15_bestWith_57 rfl (by decide) ?_
        refine V_goto 6 dX15_bestWith_60 (by decide) ?_
        refine V_subk (ih b' k9) ⟨rfl, rfl, rfl, rfl, rfl, ?_, trivial⟩
        rw [← nI_1 i]; rfl
      refine V_iload dX15_bestWith_6 rfl ?_
      refine V_aload_n dX15_bestWith_8 rfl (Or.inl ⟨_, rfl⟩) ?_
      refine V_get ckX15 (by first | assumption | (repeat (first | exact g_up_at | exact g_new_at rfl | assumption | refine g_up_of (by first | assumption | (simp only [g_new, g_up]; omega) | omega) ?_ | refine g_new_of (by first | assumption | (simp only [g_new, g_up]; omega) | omega) ?_))) 1 (by decide) q1432 rfl (by rfl) dX15_bestWith_9 ?_
      refine V_icmp_ge 63 dX15_bestWith_12 (by decide) (fun c12 => absurd c12 (nI_ge hi (by omega))) (fun _ => ?_)
      refine V_iload_n dX15_bestWith_15 rfl ?_
      refine V_iload dX15_bestWith_16 rfl ?_
      refine V_ishr dX15_bestWith_18 ?_
      refine V_iconstv 1 dX15_bestWith_19 (by decide) ?_
      refine V_iand dX15_bestWith_20 ?_
      rw [sb_bit S hS10 i (by omega)]
      cases hbit : S.testBit i with
      | true =>
        refine V_if_ne 57 dX15_bestWith_21 (by decide) (fun _ => ?_) (fun c21 => absurd c21 (by decide))
        refine V_subk (next b ?_) ⟨rfl, rfl, rfl, rfl, rfl, rfl, trivial⟩
        rw [hbit, if_neg (by simp)]
      | false =>
        refine V_if_ne 57 dX15_bestWith_21 (by decide) (fun c21 => absurd c21 (fun q => q rfl)) (fun _ => ?_)
        refine V_aload_n dX15_bestWith_24 rfl (Or.inl ⟨_, rfl⟩) ?_
        refine V_iload_n dX15_bestWith_25 rfl ?_
        refine V_iload dX15_bestWith_26 rfl ?_
        refine V_callV (q := (RX15, TX15, 4)) kX15_fits q1460 q1462 qs17 (by first | assumption | (repeat (first | exact g_up_at | exact g_new_at rfl | assumption | refine g_up_of (by first | assumption | (simp only [g_new, g_up]; omega) | omega) ?_ | refine g_new_of (by first | assumption | (simp only [g_new, g_up]; omega) | omega) ?_))) rfl dX15_bestWith_28 ?_ (d' := 0) (as := [_, _]) (hst := rfl)
        refine (st_fits (k := k) (j := i) h0 hC hR hD rfl rfl hr hc ?_)
        cases hfit : fitO o r c with
        | false =>
          refine V_if_eq 57 dX15_bestWith_31 (by decide) (fun _ => ?_) (fun c31 => absurd rfl c31)
          refine V_subk (next b ?_) ⟨rfl, rfl, rfl, rfl, rfl, rfl, trivial⟩
          rw [hfit, if_neg (by simp)]
        | true =>
          have hq : S ||| 2 ^ i < 2 ^ o.1.length := sb_set hS hi
          have hq2 : S < S ||| 2 ^ i := sb_gt hbit
          have hin : vp_in (nI (S ||| 2 ^ i)) (2 ^ o.1.length) := vp_in_nI hq (by omega)
          refine V_if_eq 57 dX15_bestWith_31 (by decide) (fun c31 => absurd c31 (by decide)) (fun _ => ?_)
          refine V_lload dX15_bestWith_34 rfl ?_
          refine V_aload_n dX15_bestWith_36 rfl (Or.inl ⟨_, rfl⟩) ?_
          refine V_iload_n dX15_bestWith_37 rfl ?_
          refine V_iload dX15_bestWith_38 rfl ?_
          refine V_callV (q := (RX15, TX15, 4)) kX15_worth q1464 q1466 qs18 (by first | assumption | (repeat (first | exact g_up_at | exact g_new_at rfl | assumption | refine g_up_of (by first | assumption | (simp only [g_new, g_up]; omega) | omega) ?_ | refine g_new_of (by first | assumption | (simp only [g_new, g_up]; omega) | omega) ?_))) rfl dX15_bestWith_40 ?_ (d' := 0) (as := [_, _]) (hst := rfl)
          refine (st_worth (k := k) (j := i) h0 hC hR rfl rfl hr hc hfit ?_)
          refine V_aload_n dX15_bestWith_43 rfl (Or.inl ⟨_, rfl⟩) ?_
          refine V_iload_n dX15_bestWith_44 rfl ?_
          refine V_iconstv 1 dX15_bestWith_45 (by decide) ?_
          refine V_iload dX15_bestWith_46 rfl ?_
          refine V_ishl dX15_bestWith_48 ?_
          rw [sb_shl i (by omega)]
          refine V_ior dX15_bestWith_49 ?_
          rw [nx_or]
          refine V_laload (by first | assumption | (repeat (first | exact g_up_at | exact g_new_at rfl | assumption | refine g_up_of (by first | assumption | (simp only [g_new, g_up]; omega) | omega) ?_ | refine g_new_of (by first | assumption | (simp only [g_new, g_up]; omega) | omega) ?_))) (by first | assumption | exact g_in (by decide)) q1564 dX15_bestWith_50 ?_
          rw [nI_clamp (by omega), hf _ hq2 hq]
          refine V_ladd dX15_bestWith_51 ?_
          refine V_callS kJ17_max_2 q1469 q1470 dX15_bestWith_52 ?_ (d' := 0) (as := [_, _]) (hst := rfl)
          refine (math_maxL ?_)
          refine V_lstore dX15_bestWith_55 (by decide) ?_
          refine V_subk (next _ ?_) ⟨rfl, rfl, rfl, rfl, rfl, rfl, trivial⟩
          rw [if_pos ⟨hbit, hfit⟩]
  refine V_lconst dX15_bestWith_0 ?_
  refine V_lstore dX15_bestWith_1 (by decide) ?_
  refine V_iconstv 0 dX15_bestWith_3 (by decide) ?_
  refine V_istore dX15_bestWith_4 (by decide) ?_
  exact V_subk (loop 0 (Nat.zero_le _) 0 kk) ⟨rfl, rfl, rfl, rfl, rfl, rfl, trivial⟩
end SETL
