/-! MODULE Palettes -/
set_option maxRecDepth 100000
def erSC (o : Of) (S : Nat) : Int32 → List Rw → Int32
  | a, [] => a
  | a, c :: t => erSC o S (a + erF o S c 0 1000000 o.1) t
def errC (o : Of) (S : Nat) : Int32 := erSC o S 0 o.1
def ownC (o : Of) (z : Int32) (S : Nat) : Int32 := if nI (popN S 10) = z then errC o S else 1000000
def bsF (o : Of) (z : Int32) : Nat → Nat → Nat → Int32 → Nat
  | 0, _, b, _ => b
  | q + 1, S, b, e => bsF o z q (S + 1) (if ownC o z S < e ∨ (ownC o z S = e ∧ ownC o z S < 1000000 ∧ hlB (nI S) (nI b) = true) then S else b) (i_min e (ownC o z S))
def bsC (o : Of) (z : Int32) : Nat := bsF o z (2 ^ o.1.length - 1) 1 0 1000000
def srF (o : Of) : Nat → Nat → Nat → Nat → Int32 → Int32
  | _, _, ch, 0, e => i_min e (errC o ch)
  | 0, _, _, _ + 1, e => e
  | f + 1, nx, ch, m + 1, e => if m + 1 ≤ f + 1 ∧ errC o (ch ||| (2 ^ o.1.length - 2 ^ nx)) < e then srF o f (nx + 1) ch (m + 1) (srF o f (nx + 1) (ch ||| 2 ^ nx) m e) else e
theorem erSC_c {o : Of} {S : Nat} {a : Int32} {c : Rw} {t : List Rw} : erSC o S a (c :: t) = erSC o S (a + erF o S c 0 1000000 o.1) t := rfl
theorem srF_0 {o : Of} {f nx ch : Nat} {e : Int32} : srF o f nx ch 0 e = i_min e (errC o ch) := by cases f <;> rfl
theorem V_getsN {l : Launch} {E : g_E} {M : g_M} {d : Nat} {P : Outcome → g_G → Prop} {pc : Nat} {L : List (Nat × Value)} {st : List Value} {G : g_G} {i : Nat} {C0 f0 d0 ref host : String} {v : Value} (hZ : va_Z C0 f0 d0 v (fun _ => False) E.1 E.1.heap) (hlink : Cond.fieldLinkNest M.1.cls i ref f0 d0 host ∈ lw_tbl) (href : ref = C0) (hd : decode M.2.1 pc = .ok (.getstatic i, 3)) (k : V l E M d P (pc + 3) L (v :: st) G) : V l E M d P pc L st G := by
  intro p e R s m args below meth c locs ls H C hR h1 h2 h3 hl
  obtain ⟨cf, kf, fi, f, a, cell, w1, w2, w3, w4, w5, w6, w7, -⟩ := va_Z.moved C.W.alike hZ
  exact va_WgetsN C.x C.b C.own (va_Nw.use (A := args) rfl (va_Nw.warmF C.W (va_Nw.of rfl (C.ok.2.1 _ hlink)))) (by rw [href]; exact w1) w2 w3 w4 (by rw [hR.2.2.2.2.2.1 a (Array.getElem?_eq_some_iff.mp w5).1]; exact w5) (fun e => by rw [e] at w6; cases w6) w7 rfl hd (k p e R s m args below meth c locs ls H C hR h1 h2 h3 hl)
section PAL
variable {l : Launch} {E : g_E} {P : Outcome → g_G → Prop} {G : g_G}
def PalAt (E : g_E) (G : g_G) (p : Nat) (o : Of) (e : Int32) : Prop := ∃ (da : Nat) (df : Nat → Int32), G.1 p = some (g_ob 15 [.int (nI o.1.length), .ref da, .int e]) ∧ G.1 da = some (g_ai E (o.1.length * o.1.length) df) ∧ ∀ (i j : Nat) (c x : Rw), o.1[i]? = some c → o.1[j]? = some x → df (o.1.length * i + j) = dO o c.2.1 x
theorem PalAt.keep {p : Nat} {o : Of} {e : Int32} {G' : g_G} (h : PalAt E G p o e) (hk : g_ke g_all G G') : PalAt E G' p o e := by
  obtain ⟨da, df, h1, h2, h3⟩ := h
  exact ⟨da, df, hk _ _ trivial h1, hk _ _ trivial h2, h3⟩
theorem pl_distanceTo {p i S : Nat} {x y e : Int32} {o : Of} {c : Rw} (h : PalAt E G p o e) (hC : o.1.length ≤ 10) (hx : x = nI S) (hS : S < 1024) (hy : y = nI i) (hc : o.1[i]? = some c) (kk : P (.returned (some (.int (erF o S c 0 1000000 o.1)))) G) : g_Spc l E mX17_distanceTo 1 [.ref p, .int x, .int y] G P := by
  obtain ⟨da, df, h1, h2, h3⟩ := h
  have hil := lt_of_at hc
  have hb : o.1.length * o.1.length ≤ 100 := Nat.mul_le_mul hC hC
  subst hx
  subst hy
  refine V_intro (plainFor_of_name plX17) (Nat.le_of_ble_eq_true rfl) ?_
  have loop : ∀ j, j ≤ o.1.length → ∀ b : Int32, P (.returned (some (.int (erF o S c j b (o.1.drop j))))) G → V l E mX17_distanceTo 1 P 6 [(0, .ref p), (1, .int (nI S)), (2, .int (nI i)), (3, .int b), (4, .int (nI j))] [] G := by
    refine down _ ?_ ?_
    · intro b k
      rw [List.drop_eq_nil_of_le (Nat.le_refl _)] at k
      refine V_iload dX17_distanceTo_6 rfl ?_
      refine V_aload_n dX17_distanceTo_8 rfl (Or.inl ⟨_, rfl⟩) ?_
      refine V_get ckX17 (by first | assumption | (repeat (first | exact g_up_at | exact g_new_at rfl | assumption | refine g_up_of (by first | assumption | (simp only [g_new, g_up]; omega) | omega) ?_ | refine g_new_of (by first | assumption | (simp only [g_new, g_up]; omega) | omega) ?_))) 0 (by decide) q1678 rfl (by rfl) dX17_distanceTo_9 ?_
      refine V_icmp_ge 54 dX17_distanceTo_12 (by decide) (fun _ => ?_) (fun c12 => absurd (Int32.le_refl _) c12)
      refine V_iload_n dX17_distanceTo_54 rfl ?_
      refine V_ireturn dX17_distanceTo_55 rfl ?_
      exact k
    · intro j hj ih b k
      obtain ⟨x, hx, ed⟩ := drop_at hj
      rw [ed, erF_c] at k
      have hlt := pl_lt hil hj
      have hin : vp_in (nI (o.1.length * i + j)) (o.1.length * o.1.length) := vp_in_nI hlt (by omega)
      refine V_iload dX17_distanceTo_6 rfl ?_
      refine V_aload_n dX17_distanceTo_8 rfl (Or.inl ⟨_, rfl⟩) ?_
      refine V_get ckX17 (by first | assumption | (repeat (first | exact g_up_at | exact g_new_at rfl | assumption | refine g_up_of (by first | assumption | (simp only [g_new, g_up]; omega) | omega) ?_ | refine g_new_of (by first | assumption | (simp only [g_new, g_up]; omega) | omega) ?_))) 0 (by decide) q1678 rfl (by rfl) dX17_distanceTo_9 ?_
      refine V_icmp_ge 54 dX17_distanceTo_12 (by decide) (fun c12 => absurd c12 (nI_ge hj (by omega))) (fun _ => ?_)
      refine V_iload_n dX17_distanceTo_15 rfl ?_
      refine V_iload dX17_distanceTo_16 rfl ?_
      refine V_ishr dX17_distanceTo_18 ?_
      refine V_iconstv 1 dX17_distanceTo_19 (by decide) ?_
      refine V_iand dX17_distanceTo_20 ?_
      refine V_iconstv 1 dX17_distanceTo_21 (by decide) ?_
      rw [sb_bit S hS j (by omega)]
      cases hbit : S.testBit j with
      | false =>
        rw [hbit, if_neg (by decide)] at k
        refine V_icmp_ne 46 dX17_distanceTo_22 (by decide) (fun _ => ?_) (fun c22 => absurd c22 (by decide))
        refine V_iload_n dX17_distanceTo_46 rfl ?_
        refine V_istore_n dX17_distanceTo_47 (by decide) ?_
        refine V_iinc dX17_distanceTo_48 rfl (by decide) ?_
        refine V_goto 6 dX17_distanceTo_51 (by decide) ?_
        refine V_subk (ih b k) ⟨rfl, rfl, rfl, rfl, ?_, trivial⟩
        rw [← nI_1 j]; rfl
      | true =>
        rw [hbit, if_pos rfl] at k
        refine V_icmp_ne 46 dX17_distanceTo_22 (by decide) (fun c22 => absurd c22 (fun q => q rfl)) (fun _ => ?_)
        refine V_iload_n dX17_distanceTo_25 rfl ?_
        refine V_aload_n dX17_distanceTo_26 rfl (Or.inl ⟨_, rfl⟩) ?_
        refine V_get ckX17 (by first | assumption | (repeat (first | exact g_up_at | exact g_new_at rfl | assumption | refine g_up_of (by first | assumption | (simp only [g_new, g_up]; omega) | omega) ?_ | refine g_new_of (by first | assumption | (simp only [g_new, g_up]; omega) | omega) ?_))) 1 (by decide) q1679 rfl (by rfl) dX17_distanceTo_27 ?_
        refine V_aload_n dX17_distanceTo_30 rfl (Or.inl ⟨_, rfl⟩) ?_
        refine V_get ckX17 (by first | assumption | (repeat (first | exact g_up_at | exact g_new_at rfl | assumption | refine g_up_of (by first | assumption | (simp only [g_new, g_up]; omega) | omega) ?_ | refine g_new_of (by first | assumption | (simp only [g_new, g_up]; omega) | omega) ?_))) 0 (by decide) q1678 rfl (by rfl) dX17_distanceTo_31 ?_
        refine V_iload_n dX17_distanceTo_34 rfl ?_
        refine V_imul dX17_distanceTo_35 ?_
        refine V_iload dX17_distanceTo_36 rfl ?_
        refine V_iadd dX17_distanceTo_38 ?_
        rw [nI_mul, nI_add]
        refine V_iaload (by first | assumption | (repeat (first | exact g_up_at | exact g_new_at rfl | assumption | refine g_up_of (by first | assumption | (simp only [g_new, g_up]; omega) | omega) ?_ | refine g_new_of (by first | assumption | (simp only [g_new, g_up]; omega) | omega) ?_))) (by first | assumption | exact g_in (by decide)) q388 dX17_distanceTo_39 ?_
        rw [nI_clamp (by omega), h3 i j c x hc hx]
        refine V_callS kJ17_min q1703 q630 dX17_distanceTo_40 ?_ (d' := 0) (as := [_, _]) (hst := rfl)
        refine (math_min ?_)
        refine V_goto 47 dX17_distanceTo_43 (by decide) ?_
        refine V_istore_n dX17_distanceTo_47 (by decide) ?_
        refine V_iinc dX17_distanceTo_48 rfl (by decide) ?_
        refine V_goto 6 dX17_distanceTo_51 (by decide) ?_
        refine V_subk (ih (i_min b (dO o c.2.1 x)) k) ⟨rfl, rfl, rfl, rfl, ?_, trivial⟩
        rw [← nI_1 j]; rfl
  refine V_ldc 1000000 q1692 dX17_distanceTo_0 ?_
  refine V_istore_n dX17_distanceTo_2 (by decide) ?_
  refine V_iconstv 0 dX17_distanceTo_3 (by decide) ?_
  refine V_istore dX17_distanceTo_4 (by decide) ?_
  exact V_subk (loop 0 (Nat.zero_le _) _ kk) ⟨rfl, rfl, rfl, rfl, rfl, trivial⟩
theorem pl_error {p S : Nat} {x e : Int32} {o : Of} (h : PalAt E G p o e) (hC : o.1.length ≤ 10) (hx : x = nI S) (hS : S < 1024) (kk : P (.returned (some (.int (errC o S)))) G) : g_Spc l E mX17_error 2 [.ref p, .int x] G P := by
  have h0 := h
  obtain ⟨da, df, h1, h2, h3⟩ := h
  subst hx
  refine V_intro (plainFor_of_name plX17) (Nat.le_of_ble_eq_true rfl) ?_
  have loop : ∀ i, i ≤ o.1.length → ∀ b : Int32, P (.returned (some (.int (erSC o S b (o.1.drop i))))) G → V l E mX17_error 2 P 4 [(0, .ref p), (1, .int (nI S)), (2, .int b), (3, .int (nI i))] [] G := by
    refine down _ ?_ ?_
    · intro b k
      rw [List.drop_eq_nil_of_le (Nat.le_refl _)] at k
      refine V_iload_n dX17_error_4 rfl ?_
      refine V_aload_n dX17_error_5 rfl (Or.inl ⟨_, rfl⟩) ?_
      refine V_get ckX17 (by first | assumption | (repeat (first | exact g_up_at | exact g_new_at rfl | assumption | refine g_up_of (by first | assumption | (simp only [g_new, g_up]; omega) | omega) ?_ | refine g_new_of (by first | assumption | (simp only [g_new, g_up]; omega) | omega) ?_))) 0 (by decide) q1678 rfl (by rfl) dX17_error_6 ?_
      refine V_icmp_ge 27 dX17_error_9 (by decide) (fun _ => ?_) (fun c9 => absurd (Int32.le_refl _) c9)
      refine V_iload_n dX17_error_27 rfl ?_
      refine V_ireturn dX17_error_28 rfl ?_
      exact k
    · intro i hi ih b k
      obtain ⟨c, hc, ed⟩ := drop_at hi
      rw [ed, erSC_c] at k
      refine V_iload_n dX17_error_4 rfl ?_
      refine V_aload_n dX17_error_5 rfl (Or.inl ⟨_, rfl⟩) ?_
      refine V_get ckX17 (by first | assumption | (repeat (first | exact g_up_at | exact g_new_at rfl | assumption | refine g_up_of (by first | assumption | (simp only [g_new, g_up]; omega) | omega) ?_ | refine g_new_of (by first | assumption | (simp only [g_new, g_up]; omega) | omega) ?_))) 0 (by decide) q1678 rfl (by rfl) dX17_error_6 ?_
      refine V_icmp_ge 27 dX17_error_9 (by decide) (fun c9 => absurd c9 (nI_ge hi (by omega))) (fun _ => ?_)
      refine V_iload_n dX17_error_12 rfl ?_
      refine V_aload_n dX17_error_13 rfl (Or.inl ⟨_, rfl⟩) ?_
      refine V_iload_n dX17_error_14 rfl ?_
      refine V_iload_n dX17_error_15 rfl ?_
      refine V_callV (q := (RX17, TX17, 3)) kX17_distanceTo q1699 q1701 qs23 (by first | assumption | (repeat (first | exact g_up_at | exact g_new_at rfl | assumption | refine g_up_of (by first | assumption | (simp only [g_new, g_up]; omega) | omega) ?_ | refine g_new_of (by first | assumption | (simp only [g_new, g_up]; omega) | omega) ?_))) rfl dX17_error_16 ?_ (d' := 1) (as := [_, _]) (hst := rfl)
      refine (pl_distanceTo (i := i) h0 hC rfl hS rfl hc ?_)
      refine V_iadd dX17_error_19 ?_
      refine V_istore_n dX17_error_20 (by decide) ?_
      refine V_iinc dX17_error_21 rfl (by decide) ?_
      refine V_goto 4 dX17_error_24 (by decide) ?_
      refine V_subk (ih _ k) ⟨rfl, rfl, rfl, ?_, trivial⟩
      rw [← nI_1 i]; rfl
  refine V_iconstv 0 dX17_error_0 (by decide) ?_
  refine V_istore_n dX17_error_1 (by decide) ?_
  refine V_iconstv 0 dX17_error_2 (by decide) ?_
  refine V_istore_n dX17_error_3 (by decide) ?_
  exact V_subk (loop 0 (Nat.zero_le _) 0 kk) ⟨rfl, rfl, rfl, rfl, trivial⟩
theorem pl_hasLowest {x y : Int32} (kk : P (.returned (some (.int (b2i (hlB x y))))) G) : g_Spc l E mX17_hasLowest 0 [.int x, .int y] G P := by
  refine V_intro (plainFor_of_name plX17) (Nat.le_of_ble_eq_true rfl) ?_
  refine V_iload_n dX17_hasLowest_0 rfl ?_
  refine V_iload_n dX17_hasLowest_1 rfl ?_
  refine V_ixor dX17_hasLowest_2 ?_
  refine V_istore_n dX17_hasLowest_3 (by decide) ?_
  refine V_iload_n dX17_hasLowest_4 rfl ?_
  refine V_iload_n dX17_hasLowest_5 rfl ?_
  refine V_iand dX17_hasLowest_6 ?_
  refine V_iload_n dX17_hasLowest_7 rfl ?_
  refine V_ineg dX17_hasLowest_8 ?_
  refine V_iand dX17_hasLowest_9 ?_
  refine V_if_eq 17 dX17_hasLowest_10 (by decide) (fun c10 => ?_) (fun c10 => ?_)
  · refine V_iconstv 0 dX17_hasLowest_17 (by decide) ?_
    refine V_zreturn dX17_hasLowest_18 rfl rfl ?_
    rw [show hlB x y = false from decide_eq_false (fun q => q c10)] at kk
    exact kk
  · refine V_iconstv 1 dX17_hasLowest_13 (by decide) ?_
    refine V_goto 18 dX17_hasLowest_14 (by decide) ?_
    refine V_zreturn dX17_hasLowest_18 rfl rfl ?_
    rw [show hlB x y = true from decide_eq_true c10] at kk
    exact kk
theorem pl_best {p : Nat} {z e : Int32} {o : Of} (h : PalAt E G p o e) (hC : o.1.length ≤ 10) (kk : P (.returned (some (.int (nI (bsC o z))))) G) : g_Spc l E mX17_best 3 [.ref p, .int z] G P := by
  have h0 := h
  obtain ⟨da, df, h1, h2, h3⟩ := h
  have p10 := sb_p10 hC
  have p0 : 0 < 2 ^ o.1.length := Nat.pow_pos (by decide)
  refine V_intro (plainFor_of_name plX17) (Nat.le_of_ble_eq_true rfl) ?_
  have loop : ∀ q S : Nat, S + q = 2 ^ o.1.length → ∀ (b : Nat) (er : Int32), P (.returned (some (.int (nI (bsF o z q S b er))))) G → V l E mX17_best 3 P 8 [(0, .ref p), (1, .int z), (2, .int (nI b)), (3, .int er), (4, .int (nI S))] [] G := by
    intro q
    induction q with
    | zero =>
      intro S hS b er k
      have hS : S = 2 ^ o.1.length := hS
      refine V_iload dX17_best_8 rfl ?_
      refine V_iconstv 1 dX17_best_10 (by decide) ?_
      refine V_aload_n dX17_best_11 rfl (Or.inl ⟨_, rfl⟩) ?_
      refine V_get ckX17 (by first | assumption | (repeat (first | exact g_up_at | exact g_new_at rfl | assumption | refine g_up_of (by first | assumption | (simp only [g_new, g_up]; omega) | omega) ?_ | refine g_new_of (by first | assumption | (simp only [g_new, g_up]; omega) | omega) ?_))) 0 (by decide) q1678 rfl (by rfl) dX17_best_12 ?_
      refine V_ishl dX17_best_15 ?_
      rw [sb_shl o.1.length (by omega)]
      refine V_icmp_ge 102 dX17_best_16 (by decide) (fun _ => ?_) (fun c16 => absurd (by rw [hS]; exact Int32.le_refl _) c16)
      refine V_iload_n dX17_best_102 rfl ?_
      refine V_ireturn dX17_best_103 rfl ?_
      exact k
    | succ q ih =>
      intro S hS b er k
      have k : P (.returned (some (.int (nI (bsF o z q (S + 1) (if ownC o z S < er ∨ (ownC o z S = er ∧ ownC o z S < 1000000 ∧ hlB (nI S) (nI b) = true) then S else b) (i_min er (ownC o z S))))))) G := k
      have hin : vp_in (nI S) 1024 := vp_in_nI (by omega) (by decide)
      generalize hown : ownC o z S = own at k
      have end_ : ∀ bb : Bool, bb = decide (own < er ∨ (own = er ∧ own < 1000000 ∧ hlB (nI S) (nI b) = true)) → V l E mX17_best 3 P 75 [(0, .ref p), (1, .int z), (2, .int (nI b)), (3, .int er), (4, .int (nI S)), (5, .int own)] [.int (b2i bb)] G := by
        intro bb hbb
        cases bb with
        | true =>
          rw [if_pos (of_decide_eq_true hbb.symm)] at k
          refine V_istore dX17_best_75 (by decide) ?_
          refine V_iload dX17_best_77 rfl ?_
          refine V_if_eq 87 dX17_best_79 (by decide) (fun c79 => absurd c79 (by decide)) (fun _ => ?_)
          refine V_iload dX17_best_82 rfl ?_
          refine V_goto 88 dX17_best_84 (by decide) ?_
          refine V_istore_n dX17_best_88 (by decide) ?_
          refine V_iload_n dX17_best_89 rfl ?_
          refine V_iload dX17_best_90 rfl ?_
          refine V_callS kJ17_min q1703 q630 dX17_best_92 ?_ (d' := 0) (as := [_, _]) (hst := rfl)
          refine (math_min ?_)
          refine V_istore_n dX17_best_95 (by decide) ?_
          refine V_iinc dX17_best_96 rfl (by decide) ?_
          refine V_goto 8 dX17_best_99 (by decide) ?_
          refine V_subk (ih (S + 1) (by omega) _ _ k) ⟨rfl, rfl, rfl, rfl, ?_, trivial⟩
          rw [← nI_1 S]; rfl
        | false =>
          rw [if_neg (of_decide_eq_false hbb.symm)] at k
          refine V_istore dX17_best_75 (by decide) ?_
          refine V_iload dX17_best_77 rfl ?_
          refine V_if_eq 87 dX17_best_79 (by decide) (fun _ => ?_) (fun c79 => absurd rfl c79)
          refine V_iload_n dX17_best_87 rfl ?_
          refine V_istore_n dX17_best_88 (by decide) ?_
          refine V_iload_n dX17_best_89 rfl ?_
          refine V_iload dX17_best_90 rfl ?_
          refine V_callS kJ17_min q1703 q630 dX17_best_92 ?_ (d' := 0) (as := [_, _]) (hst := rfl)
          refine (math_min ?_)
          refine V_istore_n dX17_best_95 (by decide) ?_
          refine V_iinc dX17_best_96 rfl (by decide) ?_
          refine V_goto 8 dX17_best_99 (by decide) ?_
          refine V_subk (ih (S + 1) (by omega) _ _ k) ⟨rfl, rfl, rfl, rfl, ?_, trivial⟩
          rw [← nI_1 S]; rfl
      have mid : V l E mX17_best 3 P 40 [(0, .ref p), (1, .int z), (2, .int (nI b)), (3, .int er), (4, .int (nI S))] [.int own] G := by
        refine V_istore dX17_best_40 (by decide) ?_
        refine V_iload dX17_best_42 rfl ?_
        refine V_iload_n dX17_best_44 rfl ?_
        refine V_icmp_lt 70 dX17_best_45 (by decide) (fun c45 => ?_) (fun c45 => ?_)
        · refine V_iconstv 1 dX17_best_70 (by decide) ?_
          refine V_goto 75 dX17_best_71 (by decide) ?_
          exact V_subk (end_ true (decide_eq_true (Or.inl c45)).symm) ⟨rfl, rfl, rfl, rfl, rfl, rfl, trivial⟩
        · refine V_iload dX17_best_48 rfl ?_
          refine V_iload_n dX17_best_50 rfl ?_
          refine V_icmp_ne 74 dX17_best_51 (by decide) (fun c51 => ?_) (fun c51 => ?_)
          · refine V_iconstv 0 dX17_best_74 (by decide) ?_
            exact V_subk (end_ false (decide_eq_false (fun hq => hq.elim c45 (fun hq => c51 hq.1))).symm) ⟨rfl, rfl, rfl, rfl, rfl, rfl, trivial⟩
          · refine V_iload dX17_best_54 rfl ?_
            refine V_ldc 1000000 q1692 dX17_best_56 ?_
            refine V_icmp_ge 74 dX17_best_58 (by decide) (fun c58 => ?_) (fun c58 => ?_)
            · refine V_iconstv 0 dX17_best_74 (by decide) ?_
              exact V_subk (end_ false (decide_eq_false (fun hq => hq.elim c45 (fun hq => absurd hq.2.1 (Int32.not_lt.mpr c58)))).symm) ⟨rfl, rfl, rfl, rfl, rfl, rfl, trivial⟩
            · refine V_iload dX17_best_61 rfl ?_
              refine V_iload_n dX17_best_63 rfl ?_
              refine V_callS kX17_hasLowest q1704 q1705 dX17_best_64 ?_ (d' := 0) (as := [_, _]) (hst := rfl)
              refine (pl_hasLowest ?_)
              refine V_if_eq 74 dX17_best_67 (by decide) (fun c67 => ?_) (fun c67 => ?_)
              · refine V_iconstv 0 dX17_best_74 (by decide) ?_
                exact V_subk (end_ false (decide_eq_false (fun hq => hq.elim c45 (fun hq => by rw [b2i_f c67] at hq; cases hq.2.2))).symm) ⟨rfl, rfl, rfl, rfl, rfl, rfl, trivial⟩
              · refine V_iconstv 1 dX17_best_70 (by decide) ?_
                refine V_goto 75 dX17_best_71 (by decide) ?_
                exact V_subk (end_ true (decide_eq_true (Or.inr ⟨c51, Int32.not_le.mp c58, b2i_t c67⟩)).symm) ⟨rfl, rfl, rfl, rfl, rfl, rfl, trivial⟩
      refine V_iload dX17_best_8 rfl ?_
      refine V_iconstv 1 dX17_best_10 (by decide) ?_
      refine V_aload_n dX17_best_11 rfl (Or.inl ⟨_, rfl⟩) ?_
      refine V_get ckX17 (by first | assumption | (repeat (first | exact g_up_at | exact g_new_at rfl | assumption | refine g_up_of (by first | assumption | (simp only [g_new, g_up]; omega) | omega) ?_ | refine g_new_of (by first | assumption | (simp only [g_new, g_up]; omega) | omega) ?_))) 0 (by decide) q1678 rfl (by rfl) dX17_best_12 ?_
      refine V_ishl dX17_best_15 ?_
      rw [sb_shl o.1.length (by omega)]
      refine V_icmp_ge 102 dX17_best_16 (by decide) (fun c16 => absurd c16 (nI_ge (by omega) (by omega))) (fun _ => ?_)
      refine V_okk fun ok => V_getsN (sz_Z ok) q1693 rfl dX17_best_19 ?_
      refine V_iload dX17_best_22 rfl ?_
      refine V_ialoadR (Or.inr (sz_ev ok).2) hin q388 dX17_best_24 ?_
      rw [nI_clamp (by omega)]
      refine V_iload_n dX17_best_25 rfl ?_
      refine V_icmp_ne 38 dX17_best_26 (by decide) (fun c26 => ?_) (fun c26 => ?_)
      · rw [ownC, if_neg c26] at hown
        subst hown
        refine V_ldc 1000000 q1692 dX17_best_38 ?_
        exact V_subk mid ⟨rfl, rfl, rfl, rfl, rfl, trivial⟩
      · rw [ownC, if_pos c26] at hown
        subst hown
        refine V_aload_n dX17_best_29 rfl (Or.inl ⟨_, rfl⟩) ?_
        refine V_iload dX17_best_30 rfl ?_
        refine V_callV (q := (RX17, TX17, 3)) kX17_error q1695 q1696 q1697 (by first | assumption | (repeat (first | exact g_up_at | exact g_new_at rfl | assumption | refine g_up_of (by first | assumption | (simp only [g_new, g_up]; omega) | omega) ?_ | refine g_new_of (by first | assumption | (simp only [g_new, g_up]; omega) | omega) ?_))) rfl dX17_best_32 ?_ (d' := 2) (as := [_]) (hst := rfl)
        refine (pl_error h0 hC rfl (by omega) ?_)
        refine V_goto 40 dX17_best_35 (by decide) ?_
        exact V_subk mid ⟨rfl, rfl, rfl, rfl, rfl, trivial⟩
  refine V_iconstv 0 dX17_best_0 (by decide) ?_
  refine V_istore_n dX17_best_1 (by decide) ?_
  refine V_ldc 1000000 q1692 dX17_best_2 ?_
  refine V_istore_n dX17_best_4 (by decide) ?_
  refine V_iconstv 1 dX17_best_5 (by decide) ?_
  refine V_istore dX17_best_6 (by decide) ?_
  exact V_subk (loop (2 ^ o.1.length - 1) 1 (by omega) 0 1000000 kk) ⟨rfl, rfl, rfl, rfl, rfl, trivial⟩
end PAL
