/-! MODULE Settlement: worths, trying, numbers -/
set_option maxRecDepth 100000
theorem nI_m1_lt {m : Nat} (h : m < 2 ^ 31) : nI m - 1 < nI m := by
  cases m with
  | zero => decide
  | succ k =>
    rw [nI_pred]
    exact nI_lt (Nat.lt_succ_self _) h
theorem nI_dec (m : Nat) : nI m + Int32.ofInt (-1) = nI m - 1 := by
  rw [Int32.sub_eq_add_neg]
  rfl
def rwL (w : Int64) : Int32 := ((w + 1000000 - 1) / 1000000).toInt32
def dfL (w : Int64) : Int32 := (1000000 * (rwL w).toInt64 - w).toInt32
section SETL2
variable {l : Launch} {E : g_E} {P : Outcome → g_G → Prop} {G : g_G}
theorem st_rewardOf {w : Int64} (kk : P (.returned (some (.int (rwL w)))) G) : g_Spc l E mX15_rewardOf 0 [.long w] G P := by
  refine V_intro (plainFor_of_name plX15) (Nat.le_of_ble_eq_true rfl) ?_
  refine V_lload_n dX15_rewardOf_0 rfl ?_
  refine V_ldc2 1000000 q1468 dX15_rewardOf_1 ?_
  refine V_ladd dX15_rewardOf_4 ?_
  refine V_lconst dX15_rewardOf_5 ?_
  refine V_lsub dX15_rewardOf_6 ?_
  refine V_ldc2 1000000 q1468 dX15_rewardOf_7 ?_
  refine V_ldiv dX15_rewardOf_10 (by decide) ?_
  refine V_l2i dX15_rewardOf_11 ?_
  refine V_ireturn dX15_rewardOf_12 rfl ?_
  exact kk
theorem st_differenceOf {w : Int64} (kk : P (.returned (some (.int (dfL w)))) G) : g_Spc l E mX15_differenceOf 1 [.long w] G P := by
  refine V_intro (plainFor_of_name plX15) (Nat.le_of_ble_eq_true rfl) ?_
  refine V_ldc2 1000000 q1468 dX15_differenceOf_0 ?_
  refine V_lload_n dX15_differenceOf_3 rfl ?_
  refine V_callS kX15_rewardOf q1618 q1600 dX15_differenceOf_4 ?_ (d' := 0) (as := [_]) (hst := rfl)
  refine (st_rewardOf ?_)
  refine V_i2l dX15_differenceOf_7 ?_
  refine V_lmul dX15_differenceOf_8 ?_
  refine V_lload_n dX15_differenceOf_9 rfl ?_
  refine V_lsub dX15_differenceOf_10 ?_
  refine V_l2i dX15_differenceOf_11 ?_
  refine V_ireturn dX15_differenceOf_12 rfl ?_
  exact kk
theorem st_worthsFrom {a first : Nat} {x : Int32} {o : Of} (h : SetAt E G a o) (hC : o.1.length ≤ 10) (hR : o.2.1.length ≤ 6) (hD : DisOK o) (hx : x = nI first) (hfr : first ≤ o.2.1.length) (hf : g_fit E G 1 1024) (kk : ∀ f, (∀ S, S < 2 ^ o.1.length → f S = bTL o (o.2.1.drop first) S) → P (.returned (some (.ref G.2.1))) (g_new G (g_al E (2 ^ o.1.length) f) (2 ^ o.1.length))) : g_Spc l E mX15_worthsFrom 2 [.ref a, .int x] G P := by
  obtain ⟨hf1, hf2⟩ := hf
  have p10 := sb_p10 hC
  subst hx
  refine V_intro (plainFor_of_name plX15) (Nat.le_of_ble_eq_true rfl) ?_
  refine V_wf (fun wf hBG => ?_)
  have hSet : ∀ f, SetAt E (g_new G (g_al E (2 ^ o.1.length) f) (2 ^ o.1.length)) a o := fun f => h.keep (g_ke.new wf _ _)
  obtain ⟨ra, da, rf, df, h1, -⟩ := h
  have h1n : ∀ f, (g_new G (g_al E (2 ^ o.1.length) f) (2 ^ o.1.length)).1 a = some (g_ob 13 [.int (nI o.2.1.length), .int (nI o.1.length), .ref ra, .ref da]) := fun f => g_new_of (wf.ne h1) h1
  have inner : ∀ m r, o.2.1[m]? = some r → ∀ S, S ≤ 2 ^ o.1.length → ∀ f : Nat → Int64, (∀ q, q < S → f q = bTL o (o.2.1.drop m) q) → (∀ q, S ≤ q → q < 2 ^ o.1.length → f q = bTL o (o.2.1.drop (m + 1)) q) →
      (∀ f' : Nat → Int64, (∀ q, q < 2 ^ o.1.length → f' q = bTL o (o.2.1.drop m) q) → V l E mX15_worthsFrom 2 P 56 [(0, .ref a), (1, .int (nI first)), (2, .ref G.2.1), (3, .int (nI m))] [] (g_new G (g_al E (2 ^ o.1.length) f') (2 ^ o.1.length))) →
      V l E mX15_worthsFrom 2 P 24 [(0, .ref a), (1, .int (nI first)), (2, .ref G.2.1), (3, .int (nI m)), (4, .int (nI S))] [] (g_new G (g_al E (2 ^ o.1.length) f) (2 ^ o.1.length)) := by
    intro m r hr
    have hml := lt_of_at hr
    have edr : o.2.1.drop m = r :: o.2.1.drop (m + 1) := by
      obtain ⟨r', h1', h2'⟩ := drop_at hml
      rw [hr] at h1'
      cases h1'
      exact h2'
    refine down _ ?_ ?_
    · intro f hlo _ k
      refine V_iload dX15_worthsFrom_24 rfl ?_
      refine V_aload_n dX15_worthsFrom_26 rfl (Or.inl ⟨_, rfl⟩) ?_
      refine V_alen_l (by first | assumption | (repeat (first | exact g_up_at | exact g_new_at rfl | assumption | refine g_up_of (by first | assumption | (simp only [g_new, g_up]; omega) | omega) ?_ | refine g_new_of (by first | assumption | (simp only [g_new, g_up]; omega) | omega) ?_))) q1564 dX15_worthsFrom_27 ?_
      refine V_icmp_ge 56 dX15_worthsFrom_28 (by decide) (fun _ => ?_) (fun c28 => absurd (Int32.le_refl _) c28)
      exact V_subk (k f hlo) ⟨rfl, rfl, rfl, rfl, trivial⟩
    · intro S hS ih f hlo hhi k
      have hin : vp_in (nI S) (2 ^ o.1.length) := vp_in_nI hS (by omega)
      refine V_iload dX15_worthsFrom_24 rfl ?_
      refine V_aload_n dX15_worthsFrom_26 rfl (Or.inl ⟨_, rfl⟩) ?_
      refine V_alen_l (by first | assumption | (repeat (first | exact g_up_at | exact g_new_at rfl | assumption | refine g_up_of (by first | assumption | (simp only [g_new, g_up]; omega) | omega) ?_ | refine g_new_of (by first | assumption | (simp only [g_new, g_up]; omega) | omega) ?_))) q1564 dX15_worthsFrom_27 ?_
      refine V_icmp_ge 56 dX15_worthsFrom_28 (by decide) (fun c28 => absurd c28 (nI_ge hS (by omega))) (fun _ => ?_)
      refine V_aload_n dX15_worthsFrom_31 rfl (Or.inl ⟨_, rfl⟩) ?_
      refine V_iload dX15_worthsFrom_32 rfl ?_
      refine V_aload_n dX15_worthsFrom_34 rfl (Or.inl ⟨_, rfl⟩) ?_
      refine V_iload dX15_worthsFrom_35 rfl ?_
      refine V_laload (by first | assumption | (repeat (first | exact g_up_at | exact g_new_at rfl | assumption | refine g_up_of (by first | assumption | (simp only [g_new, g_up]; omega) | omega) ?_ | refine g_new_of (by first | assumption | (simp only [g_new, g_up]; omega) | omega) ?_))) (by first | assumption | exact g_in (by decide)) q1564 dX15_worthsFrom_37 ?_
      refine V_aload_n dX15_worthsFrom_38 rfl (Or.inl ⟨_, rfl⟩) ?_
      refine V_aload_n dX15_worthsFrom_39 rfl (Or.inl ⟨_, rfl⟩) ?_
      refine V_iload_n dX15_worthsFrom_40 rfl ?_
      refine V_iload dX15_worthsFrom_41 rfl ?_
      refine V_callV (q := (RX15, TX15, 4)) kX15_bestWith q1456 q1458 qs16 (h1n f) rfl dX15_worthsFrom_43 ?_ (d' := 1) (as := [_, _, _]) (hst := rfl)
      refine (st_bestWith (k := m) (S := S) (T := bTL o (o.2.1.drop (m + 1))) (hSet f) hC hR hD rfl rfl hr hS (g_new_at rfl) (fun q hq hq2 => hhi q (by omega) hq2) ?_)
      rw [nI_clamp (by omega), hhi S (Nat.le_refl _) hS]
      refine V_callS kJ17_max_2 q1469 q1470 dX15_worthsFrom_46 ?_ (d' := 0) (as := [_, _]) (hst := rfl)
      refine (math_maxL ?_)
      rw [← bTL_c, ← edr]
      refine V_lastore (g_new_at rfl) (by first | assumption | omega | (simp only [g_new, g_up]; omega) | (simp only [g_new, g_up, g_B] at *; omega)) (by first | assumption | exact g_in (by decide)) q1564 dX15_worthsFrom_49 ?_
      refine V_iinc dX15_worthsFrom_50 rfl (by decide) ?_
      refine V_goto 24 dX15_worthsFrom_53 (by decide) ?_
      rw [nI_clamp (by omega), g_new_up rfl]
      refine V_subk (ih _ (fun q hq => ?_) (fun q hq hq2 => ?_) k) ⟨rfl, rfl, rfl, rfl, ?_, trivial⟩
      · by_cases e : q = S
        · subst e
          exact pk_uLs
        · rw [pk_uLn e]
          exact hlo q (by omega)
      · rw [pk_uLn (by omega)]
        exact hhi q (by omega) hq2
      · rw [← nI_1 S]; rfl
  have outer : ∀ d m, m = first + d → m ≤ o.2.1.length → ∀ f : Nat → Int64, (∀ S, S < 2 ^ o.1.length → f S = bTL o (o.2.1.drop m) S) → V l E mX15_worthsFrom 2 P 16 [(0, .ref a), (1, .int (nI first)), (2, .ref G.2.1), (3, .int (nI m - 1))] [] (g_new G (g_al E (2 ^ o.1.length) f) (2 ^ o.1.length)) := by
    intro d
    induction d with
    | zero =>
      intro m hm hmR f hfm
      have hm : m = first := hm
      subst hm
      refine V_iload_n dX15_worthsFrom_16 rfl ?_
      refine V_iload_n dX15_worthsFrom_17 rfl ?_
      refine V_icmp_lt 62 dX15_worthsFrom_18 (by decide) (fun _ => ?_) (fun c18 => absurd (nI_m1_lt (by omega)) c18)
      refine V_aload_n dX15_worthsFrom_62 rfl (Or.inl ⟨_, rfl⟩) ?_
      refine V_areturnA dX15_worthsFrom_63 rfl ?_
      exact kk f hfm
    | succ d ih =>
      intro m hm hmR f hfm
      obtain ⟨m', rfl⟩ : ∃ m', m = m' + 1 := ⟨m - 1, by omega⟩
      rw [nI_pred]
      obtain ⟨r, hr, -⟩ := drop_at (L := o.2.1) (i := m') (by omega)
      refine V_iload_n dX15_worthsFrom_16 rfl ?_
      refine V_iload_n dX15_worthsFrom_17 rfl ?_
      refine V_icmp_lt 62 dX15_worthsFrom_18 (by decide) (fun c18 => absurd c18 (nI_nlt (by omega) (by omega))) (fun _ => ?_)
      refine V_iconstv 0 dX15_worthsFrom_21 (by decide) ?_
      refine V_istore dX15_worthsFrom_22 (by decide) ?_
      refine V_subk (inner m' r hr 0 (Nat.zero_le _) f (fun q hq => absurd hq (Nat.not_lt_zero _)) (fun q _ hq => hfm q hq) (fun f' hf' => ?_)) ⟨rfl, rfl, rfl, rfl, rfl, trivial⟩
      refine V_iinc dX15_worthsFrom_56 rfl (by decide) ?_
      refine V_goto 16 dX15_worthsFrom_59 (by decide) ?_
      refine V_subk (ih m' (by omega) (by omega) f' hf') ⟨rfl, rfl, rfl, ?_, trivial⟩
      rw [← nI_dec]; rfl
  refine V_iconstv 1 dX15_worthsFrom_0 (by decide) ?_
  refine V_aload_n dX15_worthsFrom_1 rfl (Or.inl ⟨_, rfl⟩) ?_
  refine V_get ckX15 (by first | assumption | (repeat (first | exact g_up_at | exact g_new_at rfl | assumption | refine g_up_of (by first | assumption | (simp only [g_new, g_up]; omega) | omega) ?_ | refine g_new_of (by first | assumption | (simp only [g_new, g_up]; omega) | omega) ?_))) 1 (by decide) q1432 rfl (by rfl) dX15_worthsFrom_2 ?_
  refine V_ishl dX15_worthsFrom_5 ?_
  rw [sb_shl o.1.length (by omega)]
  refine V_newarray_long (2 ^ o.1.length) rfl (by omega) q1564 dX15_worthsFrom_6 (by first | omega | (simp only [g_new, g_up]; omega)) (by first | omega | (simp only [g_new, g_up]; omega)) ?_
  refine V_astore_n dX15_worthsFrom_8 (Or.inl ⟨_, rfl⟩) (by decide) ?_
  refine V_aload_n dX15_worthsFrom_9 rfl (Or.inl ⟨_, rfl⟩) ?_
  refine V_get ckX15 (h1n _) 0 (by decide) q1431 rfl (by rfl) dX15_worthsFrom_10 ?_
  refine V_iconstv 1 dX15_worthsFrom_13 (by decide) ?_
  refine V_isub dX15_worthsFrom_14 ?_
  refine V_istore_n dX15_worthsFrom_15 (by decide) ?_
  refine V_subk (outer (o.2.1.length - first) o.2.1.length (by omega) (Nat.le_refl _) (fun _ => 0) (fun S hS => ?_)) ⟨rfl, rfl, rfl, rfl, trivial⟩
  rw [List.drop_length]
  rfl
theorem st_best {a : Nat} {o : Of} (h : SetAt E G a o) (hC : o.1.length ≤ 10) (hR : o.2.1.length ≤ 6) (hD : DisOK o) (hf : g_fit E G 1 1024) (kk : ∀ G', g_mod g_all G G' 1 1024 → P (.returned (some (.long (bTL o o.2.1 0)))) G') : g_Spc l E mX15_best 3 [.ref a] G P := by
  have p10 := sb_p10 hC
  have p0 : 0 < 2 ^ o.1.length := Nat.pow_pos (by decide)
  have hin : vp_in 0 (2 ^ o.1.length) := vp_in_nI (n := 0) p0 (by omega)
  obtain ⟨ra, da, rf, df, h1, -⟩ := id h
  refine V_intro (plainFor_of_name plX15) (Nat.le_of_ble_eq_true rfl) ?_
  refine V_wf (fun wf hBG => ?_)
  refine V_aload_n dX15_best_0 rfl (Or.inl ⟨_, rfl⟩) ?_
  refine V_iconstv 0 dX15_best_1 (by decide) ?_
  refine V_callV (q := (RX15, TX15, 4)) kX15_worthsFrom q1452 q1454 qs15 (by first | assumption | (repeat (first | exact g_up_at | exact g_new_at rfl | assumption | refine g_up_of (by first | assumption | (simp only [g_new, g_up]; omega) | omega) ?_ | refine g_new_of (by first | assumption | (simp only [g_new, g_up]; omega) | omega) ?_))) rfl dX15_best_2 ?_ (d' := 2) (as := [_]) (hst := rfl)
  refine (st_worthsFrom (first := 0) h hC hR hD rfl (Nat.zero_le _) hf (fun f hfm => ?_))
  refine V_iconstv 0 dX15_best_5 (by decide) ?_
  refine V_laload (g_new_at rfl) (by first | assumption | exact g_in (by decide)) q1564 dX15_best_6 ?_
  rw [show Int32.toNatClampNeg 0 = 0 from by decide, hfm 0 p0, List.drop_zero]
  refine V_lreturn dX15_best_7 rfl ?_
  refine kk _ ⟨g_ke.new wf _ _, ?_, ?_, ?_, ?_⟩
  · simp only [g_new]; omega
  · simp only [g_new]; omega
  · simp only [g_new]; omega
  · simp only [g_new]; omega
theorem st_trying {a : Nat} {o : Of} (h : SetAt E G a o) (hC : o.1.length ≤ 10) (hR : o.2.1.length ≤ 6) (hD : DisOK o) : ∀ (m k S : Nat) (x y : Int32) (P : Outcome → g_G → Prop), k + m = o.2.1.length → x = nI k → y = nI S → S < 2 ^ o.1.length → P (.returned (some (.long (bYL o (o.2.1.drop k) S)))) G → g_Spc l E mX15_bestByTrying (m + 1) [.ref a, .int x, .int y] G P := by
  have h0 := h
  have p10 := sb_p10 hC
  obtain ⟨ra, da, rf, df, h1, -⟩ := h
  intro m
  induction m with
  | zero =>
    intro k S x y P hk hx hy hS kk
    subst hx
    subst hy
    have hk : k = o.2.1.length := hk
    subst hk
    rw [List.drop_length] at kk
    refine V_intro (plainFor_of_name plX15) (Nat.le_of_ble_eq_true rfl) ?_
    refine V_iload_n dX15_bestByTrying_0 rfl ?_
    refine V_aload_n dX15_bestByTrying_1 rfl (Or.inl ⟨_, rfl⟩) ?_
    refine V_get ckX15 (by first | assumption | (repeat (first | exact g_up_at | exact g_new_at rfl | assumption | refine g_up_of (by first | assumption | (simp only [g_new, g_up]; omega) | omega) ?_ | refine g_new_of (by first | assumption | (simp only [g_new, g_up]; omega) | omega) ?_))) 0 (by decide) q1431 rfl (by rfl) dX15_bestByTrying_2 ?_
    refine V_icmp_ne 10 dX15_bestByTrying_5 (by decide) (fun c5 => absurd c5 (fun q => q rfl)) (fun _ => ?_)
    refine V_lconst dX15_bestByTrying_8 ?_
    refine V_lreturn dX15_bestByTrying_9 rfl ?_
    exact kk
  | succ m ih =>
    intro k S x y P hk hx hy hS kk
    subst hx
    subst hy
    have hS10 : S < 1024 := Nat.lt_of_lt_of_le hS p10
    obtain ⟨r, hr, edr⟩ := drop_at (L := o.2.1) (i := k) (by omega)
    rw [edr, bYL_c] at kk
    refine V_intro (plainFor_of_name plX15) (Nat.le_of_ble_eq_true rfl) ?_
    have loop : ∀ i, i ≤ o.1.length → ∀ b : Int64, P (.returned (some (.long (bWL o (bYL o (o.2.1.drop (k + 1))) r S i b (o.1.drop i))))) G → V l E mX15_bestByTrying (m + 1 + 1) P 22 [(0, .ref a), (1, .int (nI k)), (2, .int (nI S)), (3, .long b), (5, .int (nI i))] [] G := by
      refine down _ ?_ ?_
      · intro b k9
        rw [List.drop_eq_nil_of_le (Nat.le_refl _)] at k9
        refine V_iload dX15_bestByTrying_22 rfl ?_
        refine V_aload_n dX15_bestByTrying_24 rfl (Or.inl ⟨_, rfl⟩) ?_
        refine V_get ckX15 (by first | assumption | (repeat (first | exact g_up_at | exact g_new_at rfl | assumption | refine g_up_of (by first | assumption | (simp only [g_new, g_up]; omega) | omega) ?_ | refine g_new_of (by first | assumption | (simp only [g_new, g_up]; omega) | omega) ?_))) 1 (by decide) q1432 rfl (by rfl) dX15_bestByTrying_25 ?_
        refine V_icmp_ge 82 dX15_bestByTrying_28 (by decide) (fun _ => ?_) (fun c28 => absurd (Int32.le_refl _) c28)
        refine V_lload_n dX15_bestByTrying_82 rfl ?_
        refine V_lreturn dX15_bestByTrying_83 rfl ?_
        exact k9
      · intro i hi ihh b k9
        obtain ⟨c, hc, ed⟩ := drop_at hi
        rw [ed, bWL_c] at k9
        have next : ∀ b' : Int64, b' = (if S.testBit i = false ∧ fitO o r c = true then l_max b (gL o r c + bYL o (o.2.1.drop (k + 1)) (S ||| 2 ^ i)) else b) → V l E mX15_bestByTrying (m + 1 + 1) P 76 [(0, .ref a), (1, .int (nI k)), (2, .int (nI S)), (3, .long b'), (5, .int (nI i))] [] G := by
          intro b' hb'
          rw [← hb'] at k9
          refine V_iinc dX15_bestByTrying_76 rfl (by decide) ?_
          refine V_goto 22 dX15_bestByTrying_79 (by decide) ?_
          refine V_subk (ihh b' k9) ⟨rfl, rfl, rfl, rfl, ?_, trivial⟩
          rw [← nI_1 i]; rfl
        refine V_iload dX15_bestByTrying_22 rfl ?_
        refine V_aload_n dX15_bestByTrying_24 rfl (Or.inl ⟨_, rfl⟩) ?_
        refine V_get ckX15 (by first | assumption | (repeat (first | exact g_up_at | exact g_new_at rfl | assumption | refine g_up_of (by first | assumption | (simp only [g_new, g_up]; omega) | omega) ?_ | refine g_new_of (by first | assumption | (simp only [g_new, g_up]; omega) | omega) ?_))) 1 (by decide) q1432 rfl (by rfl) dX15_bestByTrying_25 ?_
        refine V_icmp_ge 82 dX15_bestByTrying_28 (by decide) (fun c28 => absurd c28 (nI_ge hi (by omega))) (fun _ => ?_)
        refine V_iload_n dX15_bestByTrying_31 rfl ?_
        refine V_iload dX15_bestByTrying_32 rfl ?_
        refine V_ishr dX15_bestByTrying_34 ?_
        refine V_iconstv 1 dX15_bestByTrying_35 (by decide) ?_
        refine V_iand dX15_bestByTrying_36 ?_
        rw [sb_bit S hS10 i (by omega)]
        cases hbit : S.testBit i with
        | true =>
          refine V_if_ne 76 dX15_bestByTrying_37 (by decide) (fun _ => ?_) (fun c37 => absurd c37 (by decide))
          refine V_subk (next b ?_) ⟨rfl, rfl, rfl, rfl, rfl, trivial⟩
          rw [hbit, if_neg (by simp)]
        | false =>
          refine V_if_ne 76 dX15_bestByTrying_37 (by decide) (fun c37 => absurd c37 (fun q => q rfl)) (fun _ => ?_)
          refine V_aload_n dX15_bestByTrying_40 rfl (Or.inl ⟨_, rfl⟩) ?_
          refine V_iload_n dX15_bestByTrying_41 rfl ?_
          refine V_iload dX15_bestByTrying_42 rfl ?_
          refine V_callV (q := (RX15, TX15, 4)) kX15_fits q1460 q1462 qs17 (by first | assumption | (repeat (first | exact g_up_at | exact g_new_at rfl | assumption | refine g_up_of (by first | assumption | (simp only [g_new, g_up]; omega) | omega) ?_ | refine g_new_of (by first | assumption | (simp only [g_new, g_up]; omega) | omega) ?_))) rfl dX15_bestByTrying_44 ?_ (d' := 0) (as := [_, _]) (hst := rfl) (hdd := (by omega))
          refine (st_fits (k := k) (j := i) h0 hC hR hD rfl rfl hr hc ?_)
          cases hfit : fitO o r c with
          | false =>
            refine V_if_eq 76 dX15_bestByTrying_47 (by decide) (fun _ => ?_) (fun c47 => absurd rfl c47)
            refine V_subk (next b ?_) ⟨rfl, rfl, rfl, rfl, rfl, trivial⟩
            rw [hfit, if_neg (by simp)]
          | true =>
            have hq : S ||| 2 ^ i < 2 ^ o.1.length := sb_set hS hi
            refine V_if_eq 76 dX15_bestByTrying_47 (by decide) (fun c47 => absurd c47 (by decide)) (fun _ => ?_)
            refine V_lload_n dX15_bestByTrying_50 rfl ?_
            refine V_aload_n dX15_bestByTrying_51 rfl (Or.inl ⟨_, rfl⟩) ?_
            refine V_iload_n dX15_bestByTrying_52 rfl ?_
            refine V_iload dX15_bestByTrying_53 rfl ?_
            refine V_callV (q := (RX15, TX15, 4)) kX15_worth q1464 q1466 qs18 (by first | assumption | (repeat (first | exact g_up_at | exact g_new_at rfl | assumption | refine g_up_of (by first | assumption | (simp only [g_new, g_up]; omega) | omega) ?_ | refine g_new_of (by first | assumption | (simp only [g_new, g_up]; omega) | omega) ?_))) rfl dX15_bestByTrying_55 ?_ (d' := 0) (as := [_, _]) (hst := rfl) (hdd := (by omega))
            refine (st_worth (k := k) (j := i) h0 hC hR rfl rfl hr hc hfit ?_)
            refine V_aload_n dX15_bestByTrying_58 rfl (Or.inl ⟨_, rfl⟩) ?_
            refine V_iload_n dX15_bestByTrying_59 rfl ?_
            refine V_iconstv 1 dX15_bestByTrying_60 (by decide) ?_
            refine V_iadd dX15_bestByTrying_61 ?_
            rw [show nI k + 1 = nI (k + 1) from nI_1 k]
            refine V_iload_n dX15_bestByTrying_62 rfl ?_
            refine V_iconstv 1 dX15_bestByTrying_63 (by decide) ?_
            refine V_iload dX15_bestByTrying_64 rfl ?_
            refine V_ishl dX15_bestByTrying_66 ?_
            rw [sb_shl i (by omega)]
            refine V_ior dX15_bestByTrying_67 ?_
            rw [nx_or]
            refine V_callV (q := (RX15, TX15, 4)) kX15_bestByTrying q1610 q1607 q1608 (by first | assumption | (repeat (first | exact g_up_at | exact g_new_at rfl | assumption | refine g_up_of (by first | assumption | (simp only [g_new, g_up]; omega) | omega) ?_ | refine g_new_of (by first | assumption | (simp only [g_new, g_up]; omega) | omega) ?_))) rfl dX15_bestByTrying_68 ?_ (d' := (m + 1)) (as := [_, _]) (hst := rfl) (hdd := (by omega))
            refine (ih (k + 1) (S ||| 2 ^ i) _ _ _ (by omega) rfl rfl hq ?_)
            refine V_ladd dX15_bestByTrying_71 ?_
            refine V_callS kJ17_max_2 q1469 q1470 dX15_bestByTrying_72 ?_ (d' := 0) (as := [_, _]) (hst := rfl) (hdd := (by omega))
            refine (math_maxL ?_)
            refine V_lstore_n dX15_bestByTrying_75 (by decide) ?_
            refine V_subk (next _ ?_) ⟨rfl, rfl, rfl, rfl, rfl, trivial⟩
            rw [if_pos ⟨hbit, hfit⟩]
    refine V_iload_n dX15_bestByTrying_0 rfl ?_
    refine V_aload_n dX15_bestByTrying_1 rfl (Or.inl ⟨_, rfl⟩) ?_
    refine V_get ckX15 (by first | assumption | (repeat (first | exact g_up_at | exact g_new_at rfl | assumption | refine g_up_of (by first | assumption | (simp only [g_new, g_up]; omega) | omega) ?_ | refine g_new_of (by first | assumption | (simp only [g_new, g_up]; omega) | omega) ?_))) 0 (by decide) q1431 rfl (by rfl) dX15_bestByTrying_2 ?_
    refine V_icmp_ne 10 dX15_bestByTrying_5 (by decide) (fun _ => ?_) (fun c5 => absurd c5 (fun q => absurd ((nI_eqI (by omega) (by omega)).mp q) (by omega)))
    refine V_aload_n dX15_bestByTrying_10 rfl (Or.inl ⟨_, rfl⟩) ?_
    refine V_iload_n dX15_bestByTrying_11 rfl ?_
    refine V_iconstv 1 dX15_bestByTrying_12 (by decide) ?_
    refine V_iadd dX15_bestByTrying_13 ?_
    rw [show nI k + 1 = nI (k + 1) from nI_1 k]
    refine V_iload_n dX15_bestByTrying_14 rfl ?_
    refine V_callV (q := (RX15, TX15, 4)) kX15_bestByTrying q1610 q1607 q1608 (by first | assumption | (repeat (first | exact g_up_at | exact g_new_at rfl | assumption | refine g_up_of (by first | assumption | (simp only [g_new, g_up]; omega) | omega) ?_ | refine g_new_of (by first | assumption | (simp only [g_new, g_up]; omega) | omega) ?_))) rfl dX15_bestByTrying_15 ?_ (d' := (m + 1)) (as := [_, _]) (hst := rfl) (hdd := (by omega))
    refine (ih (k + 1) S _ _ _ (by omega) rfl rfl hS ?_)
    refine V_lstore_n dX15_bestByTrying_18 (by decide) ?_
    refine V_iconstv 0 dX15_bestByTrying_19 (by decide) ?_
    refine V_istore dX15_bestByTrying_20 (by decide) ?_
    exact V_subk (loop 0 (Nat.zero_le _) _ kk) ⟨rfl, rfl, rfl, rfl, rfl, trivial⟩
end SETL2
