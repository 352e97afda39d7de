/-! REFERENCE 10: output -/
set_option maxRecDepth 100000
/-- digits: k of them, the first one first; how many; all of a number -/
def wrF : Nat → Nat → List Int32
  | 0, _ => []
  | k + 1, n => nI (48 + n / 10 ^ k % 10) :: wrF k n
def ndF : Nat → Nat → Nat
  | 0, _ => 1
  | f + 1, n => if n ≤ 9 then 1 else ndF f (n / 10) + 1
def dgs (x : Int32) : List Int32 := wrF (ndF 9 x.toNatClampNeg) x.toNatClampNeg
def tnS (t : Tn) : List Int32 := dgs t.1 ++ [47] ++ dgs t.2.1 ++ [47] ++ dgs t.2.2
def rnC (o : Of) (c : Rw) : List Int32 := dgs c.1 ++ [35] ++ tnS c.2.1 ++ [102] ++ dgs c.2.2.1 ++ [100] ++ dgs (o.2.2 4 - c.2.2.2) ++ (if isG c then [103] else [])
def rnR (c : Rw) : List Int32 := dgs c.1 ++ [63] ++ tnS c.2.1 ++ [126] ++ dgs c.2.2.1 ++ [43] ++ dgs c.2.2.2
def mRenC (S : St) (id : Int32) : Int32 × Int32 × St := match plc id S.1.1 with
  | none => (1, 0, S)
  | some k => (0, nI (rnC S.1 (rwAt S.1.1 k)).length, sOut S (rnC S.1 (rwAt S.1.1 k)))
def mRenR (S : St) (id : Int32) : Int32 × Int32 × St := match plc id S.1.2.1 with
  | none => (1, 0, S)
  | some k => (0, nI (rnR (rwAt S.1.2.1 k)).length, sOut S (rnR (rwAt S.1.2.1 k)))
/-- numbers that are not below nought -/
def RwP (r : Rw) : Prop := ∀ j, j < 6 → ¬ rw_at r j < 0
theorem wrF_len {k n : Nat} : (wrF k n).length = k := by
  induction k with
  | zero => rfl
  | succ k ih => show (wrF k n).length + 1 = k + 1; rw [ih]
theorem ndF_le {f n : Nat} : ndF f n ≤ f + 1 := by
  induction f generalizing n with
  | zero => exact Nat.le_refl _
  | succ f ih =>
    unfold ndF
    by_cases h : n ≤ 9
    · rw [if_pos h]; omega
    · rw [if_neg h]; have := ih (n := n / 10); omega
theorem dgs_len {x : Int32} : (dgs x).length ≤ 10 := by
  unfold dgs
  rw [wrF_len]
  exact ndF_le
section TW11
variable {l : Launch} {E : g_E} {P : Outcome → g_G → Prop} {G : g_G} {m : Nat} {T : Tw} {S : St}
theorem tw_write {c : Int32} {Z : List Int32} (hm : g_B E ≤ m) (h : TwS T (sOut S Z)) (hl : Z.length < 80) (kk : ∀ T', TwS T' (sOut S (Z ++ [c])) → T'.2 5 = T.2 5 → P (.returned none) (g_tG E G m T')) : g_Spc l E mX5_write 0 [.ref m, .int c] (g_tG E G m T) P := by
  obtain ⟨hO, ⟨a1, a2, a3⟩, hV, hN, hT8, hT9⟩ := id h
  refine V_intro (plainFor_of_name plX5) (Nat.le_of_ble_eq_true rfl) ?_
  refine V_aload_n dX5_write_0 rfl (Or.inl ⟨_, rfl⟩) ?_
  refine V_get ckX5 tw0 13 (by decide) q2712 rfl rfl dX5_write_1 ?_
  refine V_aload_n dX5_write_4 rfl (Or.inl ⟨_, rfl⟩) ?_
  refine V_get ckX5 tw0 14 (by decide) q2713 rfl rfl dX5_write_5 ?_
  rw [show T.2 14 = nI Z.length from hT8.1]
  refine V_iload_n dX5_write_8 rfl ?_
  refine tw_st 8 (Z.length) hm (by decide) (by decide) rfl (show _ < 80 from by omega) (by decide) dX5_write_9 ?_
  refine V_aload_n dX5_write_10 rfl (Or.inl ⟨_, rfl⟩) ?_
  refine V_dup dX5_write_11 rfl ?_
  refine V_get ckX5 tw0 14 (by decide) q2713 rfl rfl dX5_write_12 ?_
  rw [show (twA T 8 (upd (T.1 8) Z.length c)).2 14 = nI Z.length from hT8.1]
  refine V_iconstv 1 dX5_write_15 (by decide) ?_
  refine V_iadd dX5_write_16 ?_
  rw [show nI Z.length + 1 = nI (Z.length + 1) from nI_1 _]
  refine tw_putI 14 hm (by decide) q2713 rfl rfl rfl rfl rfl dX5_write_17 ?_
  refine V_return dX5_write_20 rfl ?_
  refine kk _ ⟨hO, ⟨⟨a1, a2, a3⟩, TwV.keep (T := T) hV rfl rfl, ?_, hT8.push hl, hT9⟩⟩ rfl
  intro j x y
  rcases (show j = 7 ∨ j = 8 ∨ j = 9 by omega) with z | z | z
  · subst z; exact hN 7 (by decide) (by decide)
  · subst z; exact hN 8 (by decide) (by decide)
  · subst z; exact hN 9 (by decide) (by decide)
theorem tw_writeNumber {x : Int32} {Z : List Int32} (hm : g_B E ≤ m) (h : TwS T (sOut S Z)) (hx : ¬ x < 0) (hl : Z.length + 10 ≤ 80) (kk : ∀ T', TwS T' (sOut S (Z ++ dgs x)) → T'.2 5 = T.2 5 → P (.returned none) (g_tG E G m T')) : g_Spc l E mX5_writeNumber 1 [.ref m, .int x] (g_tG E G m T) P := by
  obtain ⟨n, hn, rfl⟩ := nI_of hx
  unfold dgs at kk
  rw [nI_clamp hn] at kk
  have p9 : ∀ k, k ≤ 9 → 10 ^ k ≤ 10 ^ 9 := fun k hk => Nat.pow_le_pow_right (by decide) hk
  have p0 : ∀ k, 0 < 10 ^ k := fun k => Nat.pow_pos (by decide)
  have e9 : (10 : Nat) ^ 9 = 1000000000 := by decide
  refine V_intro (plainFor_of_name plX5) (Nat.le_of_ble_eq_true rfl) ?_
  have loop2 : ∀ k, k ≤ 10 → ∀ (pw : Nat) (T1 : Tw) (Y : List Int32), pw = (if k = 0 then 0 else 10 ^ (k - 1)) → TwS T1 (sOut S Y) → Y.length + k ≤ 80 → (∀ T', TwS T' (sOut S (Y ++ wrF k n)) → T'.2 5 = T1.2 5 → P (.returned none) (g_tG E G m T')) → V l E mX5_writeNumber 1 P 18 [(0, .ref m), (1, .int (nI n)), (2, .int (nI pw))] [] (g_tG E G m T1) := by
    intro k
    induction k with
    | zero =>
      intro _ pw T1 Y hp hS hlen kk'
      rw [if_pos rfl] at hp
      subst hp
      refine V_iload_n dX5_writeNumber_18 rfl ?_
      refine V_if_le 43 dX5_writeNumber_19 (by decide) (fun _ => ?_) (fun c19 => absurd (Int32.le_refl _) c19)
      refine V_return dX5_writeNumber_43 rfl ?_
      refine kk' T1 ?_ rfl
      show TwS T1 (sOut S (Y ++ []))
      rw [List.append_nil]
      exact hS
    | succ k ih =>
      intro hk pw T1 Y hp hS hlen kk'
      rw [if_neg (by omega), Nat.add_sub_cancel] at hp
      have hp1 := p9 k (by omega)
      have hp2 := p0 k
      have hq : 10 ^ k < 2 ^ 31 := by omega
      refine V_iload_n dX5_writeNumber_18 rfl ?_
      refine V_if_le 43 dX5_writeNumber_19 (by decide) (fun c19 => absurd c19 (nI_nle (by omega) (by omega))) (fun _ => ?_)
      refine V_aload_n dX5_writeNumber_22 rfl (Or.inl ⟨_, rfl⟩) ?_
      refine V_bipushv 48 dX5_writeNumber_23 (by decide) ?_
      refine V_iload_n dX5_writeNumber_25 rfl ?_
      refine V_iload_n dX5_writeNumber_26 rfl ?_
      refine V_idiv dX5_writeNumber_27 (nI_ne0 (by omega) (by omega)) ?_
      rw [hp, pk_div hn hp2 hq]
      refine V_bipushv 10 dX5_writeNumber_28 (by decide) ?_
      refine V_irem dX5_writeNumber_30 (by decide) ?_
      rw [show (10 : Int32) = nI 10 from rfl, pk_rem (a := n / 10 ^ k) (d := 10) (by have := Nat.div_le_self n (10 ^ k); omega) (by decide) (by decide)]
      refine V_iadd dX5_writeNumber_31 ?_
      rw [show (48 : Int32) + nI (n / 10 ^ k % 10) = nI (48 + n / 10 ^ k % 10) from nI_add 48 _]
      refine V_callV (q := (RX5, TX5, 23)) kX5_write q3185 q3187 qs96 tw0 rfl dX5_writeNumber_32 ?_ (d' := 0) (as := [_]) (hst := rfl)
      refine (tw_write hm hS (by omega) (fun T' h1 h2 => ?_))
      refine V_iload_n dX5_writeNumber_35 rfl ?_
      refine V_bipushv 10 dX5_writeNumber_36 (by decide) ?_
      refine V_idiv dX5_writeNumber_38 (by decide) ?_
      rw [show (10 : Int32) = nI 10 from rfl, pk_div hq (by decide) (by decide)]
      refine V_istore_n dX5_writeNumber_39 (by decide) ?_
      refine V_goto 18 dX5_writeNumber_40 (by decide) ?_
      refine V_sub (L' := [(0, .ref m), (1, .int (nI n)), (2, .int (nI (10 ^ k / 10)))]) ⟨rfl, rfl, rfl, trivial⟩ ?_
      refine ih (by omega) _ T' _ ?_ h1 ?_ (fun T2 h3 h4 => kk' T2 ?_ (h4.trans h2))
      · cases k with
        | zero => rfl
        | succ k => rw [if_neg (by omega), Nat.add_sub_cancel, Nat.pow_succ, Nat.mul_div_cancel _ (by decide)]
      · rw [List.length_append, List.length_singleton]
        omega
      · rw [show Y ++ wrF (k + 1) n = (Y ++ [nI (48 + n / 10 ^ k % 10)]) ++ wrF k n by rw [List.append_assoc]; rfl]
        exact h3
  have loop1 : ∀ f k : Nat, k + f = 9 → n / 10 ^ k < 10 ^ (f + 1) → (∀ T', TwS T' (sOut S (Z ++ wrF (k + ndF f (n / 10 ^ k)) n)) → T'.2 5 = T.2 5 → P (.returned none) (g_tG E G m T')) → V l E mX5_writeNumber 1 P 2 [(0, .ref m), (1, .int (nI n)), (2, .int (nI (10 ^ k)))] [] (g_tG E G m T) := by
    intro f
    induction f with
    | zero =>
      intro k hk hlt kk'
      have hp1 := p9 k (by omega)
      have hp2 := p0 k
      have hd : n / 10 ^ k ≤ 9 := by rw [Nat.pow_one] at hlt; omega
      refine V_iload_n dX5_writeNumber_2 rfl ?_
      refine V_iload_n dX5_writeNumber_3 rfl ?_
      refine V_idiv dX5_writeNumber_4 (nI_ne0 hp2 (by omega)) ?_
      rw [pk_div hn hp2 (by omega)]
      refine V_bipushv 9 dX5_writeNumber_5 (by decide) ?_
      refine V_icmp_le 18 dX5_writeNumber_7 (by decide) (fun _ => ?_) (fun c7 => absurd (nI_le (b := 9) hd (by decide)) c7)
      exact loop2 (k + 1) (by omega) _ T Z (by rw [if_neg (by omega), Nat.add_sub_cancel]) h (by omega) kk'
    | succ f ih =>
      intro k hk hlt kk'
      have hp1 := p9 k (by omega)
      have hp2 := p0 k
      have hdn := Nat.div_le_self n (10 ^ k)
      refine V_iload_n dX5_writeNumber_2 rfl ?_
      refine V_iload_n dX5_writeNumber_3 rfl ?_
      refine V_idiv dX5_writeNumber_4 (nI_ne0 hp2 (by omega)) ?_
      rw [pk_div hn hp2 (by omega)]
      unfold ndF at kk'
      by_cases hd : n / 10 ^ k ≤ 9
      · rw [if_pos hd] at kk'
        refine V_bipushv 9 dX5_writeNumber_5 (by decide) ?_
        refine V_icmp_le 18 dX5_writeNumber_7 (by decide) (fun _ => ?_) (fun c7 => absurd (nI_le (b := 9) hd (by decide)) c7)
        exact loop2 (k + 1) (by omega) _ T Z (by rw [if_neg (by omega), Nat.add_sub_cancel]) h (by omega) kk'
      · rw [if_neg hd] at kk'
        refine V_bipushv 9 dX5_writeNumber_5 (by decide) ?_
        refine V_icmp_le 18 dX5_writeNumber_7 (by decide) (fun c7 => absurd c7 (fun q => hd ((nI_leI (b := 9) (by omega) (by decide)).mp q))) (fun _ => ?_)
        refine V_iload_n dX5_writeNumber_10 rfl ?_
        refine V_bipushv 10 dX5_writeNumber_11 (by decide) ?_
        refine V_imul dX5_writeNumber_13 ?_
        rw [show nI (10 ^ k) * 10 = nI (10 ^ (k + 1)) by rw [Nat.pow_succ, ← nI_mul]; rfl]
        refine V_istore_n dX5_writeNumber_14 (by decide) ?_
        refine V_goto 2 dX5_writeNumber_15 (by decide) ?_
        refine V_sub (L' := [(0, .ref m), (1, .int (nI n)), (2, .int (nI (10 ^ (k + 1))))]) ⟨rfl, rfl, rfl, trivial⟩ ?_
        have e1 : n / 10 ^ (k + 1) = n / 10 ^ k / 10 := by rw [Nat.pow_succ, Nat.div_div_eq_div_mul]
        refine ih (k + 1) (by omega) ?_ ?_
        · rw [e1, Nat.div_lt_iff_lt_mul (by decide), ← Nat.pow_succ]
          exact hlt
        · rw [e1, show k + 1 + ndF f (n / 10 ^ k / 10) = k + (ndF f (n / 10 ^ k / 10) + 1) by omega]
          exact kk'
  refine V_iconstv 1 dX5_writeNumber_0 (by decide) ?_
  refine V_istore_n dX5_writeNumber_1 (by decide) ?_
  refine V_sub (L' := [(0, .ref m), (1, .int (nI n)), (2, .int (nI (10 ^ 0)))]) ⟨rfl, rfl, rfl, trivial⟩ ?_
  refine loop1 9 0 rfl ?_ ?_
  · rw [Nat.pow_zero, Nat.div_one]
    have : (10 : Nat) ^ (9 + 1) = 10000000000 := by decide
    omega
  · rw [Nat.pow_zero, Nat.div_one, Nat.zero_add]
    exact kk
theorem tn_at3 {t : Tn} {F : Nat → Int32} {a j : Nat} (h : tnA F a = t) (h0 : 0 < j) (h4 : j < 4) : F (a + j) = tn_at t (j - 1) := by
  subst h
  match j, h0, h4 with
  | 1, _, _ => rfl
  | 2, _, _ => rfl
  | 3, _, _ => rfl
theorem tw_writeParts {x : Int32} {a : Nat} {t : Tn} {Z : List Int32} (hm : g_B E ≤ m) (h : TwS T (sOut S Z)) (hx : x = nI a) (ha : a + 8 ≤ 136) (ht : ∀ F, TwO F S.1 → tnA F a = t) (hp : ∀ k, k < 3 → ¬ tn_at t k < 0) (hl : Z.length + 32 ≤ 80) (kk : ∀ T', TwS T' (sOut S (Z ++ tnS t)) → T'.2 5 = T.2 5 → P (.returned none) (g_tG E G m T')) : g_Spc l E mX5_writeParts 2 [.ref m, .int x] (g_tG E G m T) P := by
  subst hx
  refine V_intro (plainFor_of_name plX5) (Nat.le_of_ble_eq_true rfl) ?_
  have num : ∀ (j : Nat) (T1 : Tw) (Y : List Int32), TwS T1 (sOut S Y) → 0 < j → j < 4 → Y.length + 10 ≤ 80 → (∀ T2, TwS T2 (sOut S (Y ++ dgs (tn_at t (j - 1)))) → T2.2 5 = T1.2 5 → V l E mX5_writeParts 2 P 2 [(0, .ref m), (1, .int (nI a)), (2, .int (nI (j + 1)))] [] (g_tG E G m T2)) → V l E mX5_writeParts 2 P 18 [(0, .ref m), (1, .int (nI a)), (2, .int (nI j))] [] (g_tG E G m T1) := by
    intro j T1 Y h1 h0 h4 hlen nx
    refine V_aload_n dX5_writeParts_18 rfl (Or.inl ⟨_, rfl⟩) ?_
    refine V_aload_n dX5_writeParts_19 rfl (Or.inl ⟨_, rfl⟩) ?_
    refine V_get ckX5 tw0 0 (by decide) q2699 rfl rfl dX5_writeParts_20 ?_
    refine V_iload_n dX5_writeParts_23 rfl ?_
    refine V_iload_n dX5_writeParts_24 rfl ?_
    refine V_iadd dX5_writeParts_25 ?_
    refine tw_ld 1 (a + j) (by decide) (by decide) (nI_add a j) (show _ < 136 from by omega) (by decide) dX5_writeParts_26 ?_
    rw [tn_at3 (F := T1.1 1) (ht _ h1.1) h0 h4]
    refine V_callV (q := (RX5, TX5, 23)) kX5_writeNumber q3181 q3183 qs95 tw0 rfl dX5_writeParts_27 ?_ (d' := 1) (as := [_]) (hst := rfl)
    refine (tw_writeNumber hm h1 (hp _ (by omega)) hlen (fun T2 h2 h3 => ?_))
    refine V_iinc dX5_writeParts_30 rfl (by decide) ?_
    refine V_goto 2 dX5_writeParts_33 (by decide) ?_
    refine V_sub (L' := [(0, .ref m), (1, .int (nI a)), (2, .int (nI j + Int32.ofInt 1))]) ⟨rfl, rfl, rfl, trivial⟩ ?_
    rw [show nI j + Int32.ofInt 1 = nI (j + 1) from nI_1 j]
    exact nx T2 h2 h3
  have d1 := dgs_len (x := t.1)
  have d2 := dgs_len (x := t.2.1)
  have d3 := dgs_len (x := t.2.2)
  refine V_iconstv 1 dX5_writeParts_0 (by decide) ?_
  refine V_istore_n dX5_writeParts_1 (by decide) ?_
  refine V_iload_n dX5_writeParts_2 rfl ?_
  refine V_iconstv 3 dX5_writeParts_3 (by decide) ?_
  refine V_icmp_gt 36 dX5_writeParts_4 (by decide) (fun c4 => absurd c4 (by decide)) (fun _ => ?_)
  refine V_iload_n dX5_writeParts_7 rfl ?_
  refine V_iconstv 1 dX5_writeParts_8 (by decide) ?_
  refine V_icmp_le 18 dX5_writeParts_9 (by decide) (fun _ => ?_) (fun c9 => absurd (Int32.le_refl _) c9)
  refine V_sub (L' := [(0, .ref m), (1, .int (nI a)), (2, .int (nI 1))]) ⟨rfl, rfl, rfl, trivial⟩ ?_
  refine num 1 T Z h (by decide) (by decide) (by omega) (fun T1 h1 e1 => ?_)
  have l1 : (Z ++ dgs (tn_at t (1 - 1))).length ≤ Z.length + 10 := by
    show (Z ++ dgs t.1).length ≤ _
    rw [List.length_append]; omega
  refine V_iload_n dX5_writeParts_2 rfl ?_
  refine V_iconstv 3 dX5_writeParts_3 (by decide) ?_
  refine V_icmp_gt 36 dX5_writeParts_4 (by decide) (fun c4 => absurd c4 (by decide)) (fun _ => ?_)
  refine V_iload_n dX5_writeParts_7 rfl ?_
  refine V_iconstv 1 dX5_writeParts_8 (by decide) ?_
  refine V_icmp_le 18 dX5_writeParts_9 (by decide) (fun c9 => absurd c9 (by decide)) (fun _ => ?_)
  refine V_aload_n dX5_writeParts_12 rfl (Or.inl ⟨_, rfl⟩) ?_
  refine V_bipushv 47 dX5_writeParts_13 (by decide) ?_
  refine V_callV (q := (RX5, TX5, 23)) kX5_write q3185 q3187 qs96 tw0 rfl dX5_writeParts_15 ?_ (d' := 0) (as := [_]) (hst := rfl)
  refine (tw_write hm h1 (by omega) (fun T2 h2 e2 => ?_))
  refine num 2 T2 _ h2 (by decide) (by decide) ?_ (fun T3 h3 e3 => ?_)
  · show ((Z ++ dgs t.1) ++ [47]).length + 10 ≤ 80
    simp only [List.length_append, List.length_singleton]; omega
  refine V_iload_n dX5_writeParts_2 rfl ?_
  refine V_iconstv 3 dX5_writeParts_3 (by decide) ?_
  refine V_icmp_gt 36 dX5_writeParts_4 (by decide) (fun c4 => absurd c4 (by decide)) (fun _ => ?_)
  refine V_iload_n dX5_writeParts_7 rfl ?_
  refine V_iconstv 1 dX5_writeParts_8 (by decide) ?_
  refine V_icmp_le 18 dX5_writeParts_9 (by decide) (fun c9 => absurd c9 (by decide)) (fun _ => ?_)
  refine V_aload_n dX5_writeParts_12 rfl (Or.inl ⟨_, rfl⟩) ?_
  refine V_bipushv 47 dX5_writeParts_13 (by decide) ?_
  refine V_callV (q := (RX5, TX5, 23)) kX5_write q3185 q3187 qs96 tw0 rfl dX5_writeParts_15 ?_ (d' := 0) (as := [_]) (hst := rfl)
  refine (tw_write hm h3 ?_ (fun T4 h4 e4 => ?_))
  · show (((Z ++ dgs t.1) ++ [47]) ++ dgs t.2.1).length < 80
    simp only [List.length_append, List.length_singleton]; omega
  refine num 3 T4 _ h4 (by decide) (by decide) ?_ (fun T5 h5 e5 => ?_)
  · show ((((Z ++ dgs t.1) ++ [47]) ++ dgs t.2.1) ++ [47]).length + 10 ≤ 80
    simp only [List.length_append, List.length_singleton]; omega
  refine V_iload_n dX5_writeParts_2 rfl ?_
  refine V_iconstv 3 dX5_writeParts_3 (by decide) ?_
  refine V_icmp_gt 36 dX5_writeParts_4 (by decide) (fun _ => ?_) (fun c4 => absurd (by decide) c4)
  refine V_return dX5_writeParts_36 rfl ?_
  refine kk T5 ?_ (e5.trans (e4.trans (e3.trans (e2.trans e1))))
  have : sOut S (Z ++ tnS t) = sOut S (((((Z ++ dgs t.1) ++ [47]) ++ dgs t.2.1) ++ [47]) ++ dgs t.2.2) := by
    unfold tnS
    simp only [List.append_assoc]
  rw [this]
  exact h5
theorem rwP_tn {r : Rw} (h : RwP r) : ∀ k, k < 3 → ¬ tn_at r.2.1 k < 0 := by
  intro k hk
  match k, hk with
  | 0, _ => exact h 1 (by decide)
  | 1, _ => exact h 2 (by decide)
  | 2, _ => exact h 3 (by decide)
theorem tnS_len {t : Tn} : (tnS t).length ≤ 32 := by
  have d1 := dgs_len (x := t.1)
  have d2 := dgs_len (x := t.2.1)
  have d3 := dgs_len (x := t.2.2)
  unfold tnS
  simp only [List.length_append, List.length_singleton]; omega
theorem tw_renderColour {id : Int32} (hm : g_B E ≤ m) (h : TwS T S) (hp : ∀ c ∈ S.1.1, RwP c ∧ ¬ S.1.2.2 4 - c.2.2.2 < 0) (kk : ∀ T', TwS T' (mRenC S id).2.2 → T'.2 5 = (mRenC S id).1 → P (.returned (some (.int (mRenC S id).2.1))) (g_tG E G m T')) : g_Spc l E mX5_renderColour 3 [.ref m, .int id] (g_tG E G m T) P := by
  have hl := h.1.1
  have h1 : ∀ c, TwO ((twI T 5 c).1 1) S.1 := fun _ => h.1
  unfold mRenC at kk
  refine V_intro (plainFor_of_name plX5) (Nat.le_of_ble_eq_true rfl) ?_
  refine V_aload_n dX5_renderColour_0 rfl (Or.inl ⟨_, rfl⟩) ?_
  refine V_aload_n dX5_renderColour_1 rfl (Or.inl ⟨_, rfl⟩) ?_
  refine V_iload_n dX5_renderColour_2 rfl ?_
  refine V_callV (q := (RX5, TX5, 23)) kX5_colour q2856 q2858 qs60 tw0 rfl dX5_renderColour_3 ?_ (d' := 2) (as := [_]) (hst := rfl)
  refine (tw_colour h.1 ?_)
  cases hk : plc id S.1.1 with
  | none =>
    rw [hk] at kk
    refine V_if_lt 13 dX5_renderColour_6 (by decide) (fun _ => ?_) (fun c6 => absurd (show plI none < 0 by decide) c6)
    refine V_iconstv 0 dX5_renderColour_13 (by decide) ?_
    refine V_callV (q := (RX5, TX5, 23)) kX5_checked q2986 q2988 qs83 tw0 rfl dX5_renderColour_14 ?_ (d' := 0) (as := [_]) (hst := rfl)
    refine (tw_checked (b := false) hm ?_)
    refine V_if_le 22 dX5_renderColour_17 (by decide) (fun c17 => absurd c17 (by decide)) (fun _ => ?_)
    refine V_iconstv 0 dX5_renderColour_20 (by decide) ?_
    refine V_ireturn dX5_renderColour_21 rfl ?_
    exact kk _ (h.q _) rfl
  | some k =>
    have hk1 := plc_lt hk
    obtain ⟨hr, hid⟩ := plc_id hk
    rw [hk] at kk
    dsimp only at kk
    generalize rwAt S.1.1 k = c at hr hid kk
    subst hid
    obtain ⟨hP, hA⟩ := hp c (List.mem_of_getElem? hr)
    have d0 := dgs_len (x := c.1)
    have d1 := tnS_len (t := c.2.1)
    have d2 := dgs_len (x := c.2.2.1)
    have d3 := dgs_len (x := S.1.2.2 4 - c.2.2.2)
    refine V_if_lt 13 dX5_renderColour_6 (by decide) (fun c6 => absurd c6 (nI_pos (show k < 2 ^ 31 by omega))) (fun _ => ?_)
    refine V_iconstv 1 dX5_renderColour_9 (by decide) ?_
    refine V_goto 14 dX5_renderColour_10 (by decide) ?_
    refine V_callV (q := (RX5, TX5, 23)) kX5_checked q2986 q2988 qs83 tw0 rfl dX5_renderColour_14 ?_ (d' := 0) (as := [_]) (hst := rfl)
    refine (tw_checked (b := true) hm ?_)
    refine V_if_le 22 dX5_renderColour_17 (by decide) (fun _ => ?_) (fun c17 => absurd (by decide) c17)
    refine V_aload_n dX5_renderColour_22 rfl (Or.inl ⟨_, rfl⟩) ?_
    refine V_iload_n dX5_renderColour_23 rfl ?_
    refine V_callV (q := (RX5, TX5, 23)) kX5_colour q2856 q2858 qs60 tw0 rfl dX5_renderColour_24 ?_ (d' := 2) (as := [_]) (hst := rfl)
    refine (tw_colour (h1 _) ?_)
    rw [hk]
    have s0 : TwS (twI (twI T 5 (b2i (!true))) 14 0) (sOut S []) := by
      obtain ⟨hO, ⟨a1, a2, a3⟩, hV, hN, hT8, hT9⟩ := h
      refine ⟨hO, ⟨⟨a1, a2, a3⟩, TwV.keep (T := T) hV rfl rfl, ?_, ⟨rfl, Nat.zero_le _, fun k c hk => by cases (show ([] : List Int32)[k]? = some c from hk)⟩, hT9⟩⟩
      intro j x y
      rcases (show j = 7 ∨ j = 8 ∨ j = 9 by omega) with z | z | z
      · subst z; exact hN 7 (by decide) (by decide)
      · subst z; exact hN 8 (by decide) (by decide)
      · subst z; exact hN 9 (by decide) (by decide)
    refine V_istore_n dX5_renderColour_27 (by decide) ?_
    refine V_aload_n dX5_renderColour_28 rfl (Or.inl ⟨_, rfl⟩) ?_
    refine V_iconstv 0 dX5_renderColour_29 (by decide) ?_
    refine tw_putI 14 hm (by decide) q2713 rfl rfl rfl rfl rfl dX5_renderColour_30 ?_
    refine V_aload_n dX5_renderColour_33 rfl (Or.inl ⟨_, rfl⟩) ?_
    refine V_iload_n dX5_renderColour_34 rfl ?_
    refine V_callV (q := (RX5, TX5, 23)) kX5_writeNumber q3181 q3183 qs95 tw0 rfl dX5_renderColour_35 ?_ (d' := 1) (as := [_]) (hst := rfl)
    refine (tw_writeNumber (Z := []) hm s0 (hP 0 (by decide)) (by show 0 + 10 ≤ 80; decide) (fun T1 h1 e1 => ?_))
    refine V_aload_n dX5_renderColour_38 rfl (Or.inl ⟨_, rfl⟩) ?_
    refine V_bipushv 35 dX5_renderColour_39 (by decide) ?_
    refine V_callV (q := (RX5, TX5, 23)) kX5_write q3185 q3187 qs96 tw0 rfl dX5_renderColour_41 ?_ (d' := 0) (as := [_]) (hst := rfl)
    refine (tw_write hm h1 (by rw [List.nil_append]; exact Nat.lt_of_le_of_lt d0 (by decide)) (fun T2 h2 e2 => ?_))
    refine V_aload_n dX5_renderColour_44 rfl (Or.inl ⟨_, rfl⟩) ?_
    refine V_iload_n dX5_renderColour_45 rfl ?_
    refine V_callS kX5_colourRow q2802 q2803 dX5_renderColour_46 ?_ (d' := 0) (as := [_]) (hst := rfl)
    refine (tw_colourRow (k := k) rfl ?_)
    refine V_callV (q := (RX5, TX5, 23)) kX5_writeParts q3189 q3191 qs97 tw0 rfl dX5_renderColour_49 ?_ (d' := 2) (as := [_]) (hst := rfl)
    refine (tw_writeParts (a := 8 + 8 * k) (t := c.2.1) hm h2 rfl (by omega) (fun F hF => hF.tnC hr) (rwP_tn hP) (by show (([] ++ dgs c.1) ++ [35]).length + 32 ≤ 80; simp only [List.nil_append, List.length_append, List.length_singleton]; omega) (fun T3 h3 e3 => ?_))
    refine V_aload_n dX5_renderColour_52 rfl (Or.inl ⟨_, rfl⟩) ?_
    refine V_bipushv 102 dX5_renderColour_53 (by decide) ?_
    refine V_callV (q := (RX5, TX5, 23)) kX5_write q3185 q3187 qs96 tw0 rfl dX5_renderColour_55 ?_ (d' := 0) (as := [_]) (hst := rfl)
    refine (tw_write hm h3 (by show ((([] ++ dgs c.1) ++ [35]) ++ tnS c.2.1).length < 80; simp only [List.nil_append, List.length_append, List.length_singleton]; omega) (fun T4 h4 e4 => ?_))
    refine V_aload_n dX5_renderColour_58 rfl (Or.inl ⟨_, rfl⟩) ?_
    refine V_aload_n dX5_renderColour_59 rfl (Or.inl ⟨_, rfl⟩) ?_
    refine V_iload_n dX5_renderColour_60 rfl ?_
    refine V_iconstv 4 dX5_renderColour_61 (by decide) ?_
    refine V_callV (q := (RX5, TX5, 23)) kX5_c q2860 q2862 qs61 tw0 rfl dX5_renderColour_62 ?_ (d' := 1) (as := [_, _]) (hst := rfl)
    refine (tw_c (k := k) (j := 4) h4.1 rfl rfl hr (by decide) ?_)
    refine V_callV (q := (RX5, TX5, 23)) kX5_writeNumber q3181 q3183 qs95 tw0 rfl dX5_renderColour_65 ?_ (d' := 1) (as := [_]) (hst := rfl)
    refine (tw_writeNumber hm h4 (hP 4 (by decide)) (by show (((([] ++ dgs c.1) ++ [35]) ++ tnS c.2.1) ++ [102]).length + 10 ≤ 80; simp only [List.nil_append, List.length_append, List.length_singleton]; omega) (fun T5 h5 e5 => ?_))
    refine V_aload_n dX5_renderColour_68 rfl (Or.inl ⟨_, rfl⟩) ?_
    refine V_bipushv 100 dX5_renderColour_69 (by decide) ?_
    refine V_callV (q := (RX5, TX5, 23)) kX5_write q3185 q3187 qs96 tw0 rfl dX5_renderColour_71 ?_ (d' := 0) (as := [_]) (hst := rfl)
    refine (tw_write hm h5 (by show ((((([] ++ dgs c.1) ++ [35]) ++ tnS c.2.1) ++ [102]) ++ dgs c.2.2.1).length < 80; simp only [List.nil_append, List.length_append, List.length_singleton]; omega) (fun T6 h6 e6 => ?_))
    refine V_aload_n dX5_renderColour_74 rfl (Or.inl ⟨_, rfl⟩) ?_
    refine V_aload_n dX5_renderColour_75 rfl (Or.inl ⟨_, rfl⟩) ?_
    refine V_iload_n dX5_renderColour_76 rfl ?_
    refine V_callV (q := (RX5, TX5, 23)) kX5_ageAt q2959 q2961 qs79 tw0 rfl dX5_renderColour_77 ?_ (d' := 2) (as := [_]) (hst := rfl)
    refine (tw_ageAt (k := k) h6.1 rfl hr ?_)
    refine V_callV (q := (RX5, TX5, 23)) kX5_writeNumber q3181 q3183 qs95 tw0 rfl dX5_renderColour_80 ?_ (d' := 1) (as := [_]) (hst := rfl)
    refine (tw_writeNumber hm h6 hA (by show (((((([] ++ dgs c.1) ++ [35]) ++ tnS c.2.1) ++ [102]) ++ dgs c.2.2.1) ++ [100]).length + 10 ≤ 80; simp only [List.nil_append, List.length_append, List.length_singleton]; omega) (fun T7 h7 e7 => ?_))
    refine V_aload_n dX5_renderColour_83 rfl (Or.inl ⟨_, rfl⟩) ?_
    refine V_iload_n dX5_renderColour_84 rfl ?_
    refine V_callV (q := (RX5, TX5, 23)) kX5_fadesLeft q2970 q2972 qs81 tw0 rfl dX5_renderColour_85 ?_ (d' := 2) (as := [_]) (hst := rfl)
    refine (tw_fadesLeft (k := k) h7.1 rfl hr ?_)
    have fin : ∀ (T8 : Tw) (L : List Int32), TwS T8 (sOut S L) → L = rnC S.1 c → T8.2 5 = T7.2 5 → V l E mX5_renderColour 3 P 97 [(0, .ref m)] [] (g_tG E G m T8) := by
      intro T8 L h8 hL e8
      subst hL
      refine V_aload_n dX5_renderColour_97 rfl (Or.inl ⟨_, rfl⟩) ?_
      refine V_get ckX5 tw0 14 (by decide) q2713 rfl rfl dX5_renderColour_98 ?_
      rw [show T8.2 14 = nI (rnC S.1 c).length from h8.2.2.2.2.1.1]
      refine V_ireturn dX5_renderColour_101 rfl ?_
      exact kk T8 h8 (e8.trans (e7.trans (e6.trans (e5.trans (e4.trans (e3.trans (e2.trans e1)))))))
    refine V_if_ne 97 dX5_renderColour_88 (by decide) (fun c88 => ?_) (fun c88 => ?_)
    · have eg : isG c = false := decide_eq_false c88
      refine V_subk (fin T7 _ h7 ?_ rfl) ⟨rfl, trivial⟩
      unfold rnC
      rw [eg]
      simp [rw_at]
      rfl
    · have eg : isG c = true := decide_eq_true c88
      refine V_aload_n dX5_renderColour_91 rfl (Or.inl ⟨_, rfl⟩) ?_
      refine V_bipushv 103 dX5_renderColour_92 (by decide) ?_
      refine V_callV (q := (RX5, TX5, 23)) kX5_write q3185 q3187 qs96 tw0 rfl dX5_renderColour_94 ?_ (d' := 0) (as := [_]) (hst := rfl)
      refine (tw_write hm h7 (by show ((((((([] ++ dgs c.1) ++ [35]) ++ tnS c.2.1) ++ [102]) ++ dgs c.2.2.1) ++ [100]) ++ dgs (S.1.2.2 4 - c.2.2.2)).length < 80; simp only [List.nil_append, List.length_append, List.length_singleton]; omega) (fun T8 h8 e8 => ?_))
      refine V_subk (fin T8 _ h8 ?_ e8) ⟨rfl, trivial⟩
      unfold rnC
      rw [eg]
      simp [rw_at]
      rfl
theorem tw_renderReport {id : Int32} (hm : g_B E ≤ m) (h : TwS T S) (hp : ∀ c ∈ S.1.2.1, RwP c) (kk : ∀ T', TwS T' (mRenR S id).2.2 → T'.2 5 = (mRenR S id).1 → P (.returned (some (.int (mRenR S id).2.1))) (g_tG E G m T')) : g_Spc l E mX5_renderReport 3 [.ref m, .int id] (g_tG E G m T) P := by
  have hl := h.1.2.1
  have h1 : ∀ c, TwO ((twI T 5 c).1 1) S.1 := fun _ => h.1
  unfold mRenR at kk
  refine V_intro (plainFor_of_name plX5) (Nat.le_of_ble_eq_true rfl) ?_
  refine V_aload_n dX5_renderReport_0 rfl (Or.inl ⟨_, rfl⟩) ?_
  refine V_aload_n dX5_renderReport_1 rfl (Or.inl ⟨_, rfl⟩) ?_
  refine V_iload_n dX5_renderReport_2 rfl ?_
  refine V_callV (q := (RX5, TX5, 23)) kX5_openReport q2832 q2834 qs55 tw0 rfl dX5_renderReport_3 ?_ (d' := 2) (as := [_]) (hst := rfl)
  refine (tw_openReport h.1 ?_)
  cases hk : plc id S.1.2.1 with
  | none =>
    rw [hk] at kk
    refine V_if_lt 13 dX5_renderReport_6 (by decide) (fun _ => ?_) (fun c6 => absurd (show plI none < 0 by decide) c6)
    refine V_iconstv 0 dX5_renderReport_13 (by decide) ?_
    refine V_callV (q := (RX5, TX5, 23)) kX5_checked q2986 q2988 qs83 tw0 rfl dX5_renderReport_14 ?_ (d' := 0) (as := [_]) (hst := rfl)
    refine (tw_checked (b := false) hm ?_)
    refine V_if_le 22 dX5_renderReport_17 (by decide) (fun c17 => absurd c17 (by decide)) (fun _ => ?_)
    refine V_iconstv 0 dX5_renderReport_20 (by decide) ?_
    refine V_ireturn dX5_renderReport_21 rfl ?_
    exact kk _ (h.q _) rfl
  | some k =>
    have hk1 := plc_lt hk
    obtain ⟨hr, hid⟩ := plc_id hk
    rw [hk] at kk
    dsimp only at kk
    generalize rwAt S.1.2.1 k = c at hr hid kk
    subst hid
    have hP := hp c (List.mem_of_getElem? hr)
    have d0 := dgs_len (x := c.1)
    have d1 := tnS_len (t := c.2.1)
    have d2 := dgs_len (x := c.2.2.1)
    have d3 := dgs_len (x := c.2.2.2)
    refine V_if_lt 13 dX5_renderReport_6 (by decide) (fun c6 => absurd c6 (nI_pos (show k < 2 ^ 31 by omega))) (fun _ => ?_)
    refine V_iconstv 1 dX5_renderReport_9 (by decide) ?_
    refine V_goto 14 dX5_renderReport_10 (by decide) ?_
    refine V_callV (q := (RX5, TX5, 23)) kX5_checked q2986 q2988 qs83 tw0 rfl dX5_renderReport_14 ?_ (d' := 0) (as := [_]) (hst := rfl)
    refine (tw_checked (b := true) hm ?_)
    refine V_if_le 22 dX5_renderReport_17 (by decide) (fun _ => ?_) (fun c17 => absurd (by decide) c17)
    refine V_aload_n dX5_renderReport_22 rfl (Or.inl ⟨_, rfl⟩) ?_
    refine V_iload_n dX5_renderReport_23 rfl ?_
    refine V_callV (q := (RX5, TX5, 23)) kX5_openReport q2832 q2834 qs55 tw0 rfl dX5_renderReport_24 ?_ (d' := 2) (as := [_]) (hst := rfl)
    refine (tw_openReport (h1 _) ?_)
    rw [hk]
    have s0 : TwS (twI (twI T 5 (b2i (!true))) 14 0) (sOut S []) := by
      obtain ⟨hO, ⟨a1, a2, a3⟩, hV, hN, hT8, hT9⟩ := h
      refine ⟨hO, ⟨⟨a1, a2, a3⟩, TwV.keep (T := T) hV rfl rfl, ?_, ⟨rfl, Nat.zero_le _, fun k c hk => by cases (show ([] : List Int32)[k]? = some c from hk)⟩, hT9⟩⟩
      intro j x y
      rcases (show j = 7 ∨ j = 8 ∨ j = 9 by omega) with z | z | z
      · subst z; exact hN 7 (by decide) (by decide)
      · subst z; exact hN 8 (by decide) (by decide)
      · subst z; exact hN 9 (by decide) (by decide)
    refine V_istore_n dX5_renderReport_27 (by decide) ?_
    refine V_aload_n dX5_renderReport_28 rfl (Or.inl ⟨_, rfl⟩) ?_
    refine V_iconstv 0 dX5_renderReport_29 (by decide) ?_
    refine tw_putI 14 hm (by decide) q2713 rfl rfl rfl rfl rfl dX5_renderReport_30 ?_
    refine V_aload_n dX5_renderReport_33 rfl (Or.inl ⟨_, rfl⟩) ?_
    refine V_iload_n dX5_renderReport_34 rfl ?_
    refine V_callV (q := (RX5, TX5, 23)) kX5_writeNumber q3181 q3183 qs95 tw0 rfl dX5_renderReport_35 ?_ (d' := 1) (as := [_]) (hst := rfl)
    refine (tw_writeNumber (Z := []) hm s0 (hP 0 (by decide)) (by show 0 + 10 ≤ 80; decide) (fun T1 h1 e1 => ?_))
    refine V_aload_n dX5_renderReport_38 rfl (Or.inl ⟨_, rfl⟩) ?_
    refine V_bipushv 63 dX5_renderReport_39 (by decide) ?_
    refine V_callV (q := (RX5, TX5, 23)) kX5_write q3185 q3187 qs96 tw0 rfl dX5_renderReport_41 ?_ (d' := 0) (as := [_]) (hst := rfl)
    refine (tw_write hm h1 (by rw [List.nil_append]; exact Nat.lt_of_le_of_lt d0 (by decide)) (fun T2 h2 e2 => ?_))
    refine V_aload_n dX5_renderReport_44 rfl (Or.inl ⟨_, rfl⟩) ?_
    refine V_iload_n dX5_renderReport_45 rfl ?_
    refine V_callS kX5_reportRow q2825 q2826 dX5_renderReport_46 ?_ (d' := 0) (as := [_]) (hst := rfl)
    refine (tw_reportRow (k := k) rfl ?_)
    refine V_callV (q := (RX5, TX5, 23)) kX5_writeParts q3189 q3191 qs97 tw0 rfl dX5_renderReport_49 ?_ (d' := 2) (as := [_]) (hst := rfl)
    refine (tw_writeParts (a := 88 + 8 * k) (t := c.2.1) hm h2 rfl (by omega) (fun F hF => hF.tnR hr) (rwP_tn hP) (by show (([] ++ dgs c.1) ++ [63]).length + 32 ≤ 80; simp only [List.nil_append, List.length_append, List.length_singleton]; omega) (fun T3 h3 e3 => ?_))
    refine V_aload_n dX5_renderReport_52 rfl (Or.inl ⟨_, rfl⟩) ?_
    refine V_bipushv 126 dX5_renderReport_53 (by decide) ?_
    refine V_callV (q := (RX5, TX5, 23)) kX5_write q3185 q3187 qs96 tw0 rfl dX5_renderReport_55 ?_ (d' := 0) (as := [_]) (hst := rfl)
    refine (tw_write hm h3 (by show ((([] ++ dgs c.1) ++ [63]) ++ tnS c.2.1).length < 80; simp only [List.nil_append, List.length_append, List.length_singleton]; omega) (fun T4 h4 e4 => ?_))
    refine V_aload_n dX5_renderReport_58 rfl (Or.inl ⟨_, rfl⟩) ?_
    refine V_aload_n dX5_renderReport_59 rfl (Or.inl ⟨_, rfl⟩) ?_
    refine V_iload_n dX5_renderReport_60 rfl ?_
    refine V_iconstv 4 dX5_renderReport_61 (by decide) ?_
    refine V_callV (q := (RX5, TX5, 23)) kX5_r q2836 q2838 qs56 tw0 rfl dX5_renderReport_62 ?_ (d' := 1) (as := [_, _]) (hst := rfl)
    refine (tw_r (k := k) (j := 4) h4.1 rfl rfl hr (by decide) ?_)
    refine V_callV (q := (RX5, TX5, 23)) kX5_writeNumber q3181 q3183 qs95 tw0 rfl dX5_renderReport_65 ?_ (d' := 1) (as := [_]) (hst := rfl)
    refine (tw_writeNumber hm h4 (hP 4 (by decide)) (by show (((([] ++ dgs c.1) ++ [63]) ++ tnS c.2.1) ++ [126]).length + 10 ≤ 80; simp only [List.nil_append, List.length_append, List.length_singleton]; omega) (fun T5 h5 e5 => ?_))
    refine V_aload_n dX5_renderReport_68 rfl (Or.inl ⟨_, rfl⟩) ?_
    refine V_bipushv 43 dX5_renderReport_69 (by decide) ?_
    refine V_callV (q := (RX5, TX5, 23)) kX5_write q3185 q3187 qs96 tw0 rfl dX5_renderReport_71 ?_ (d' := 0) (as := [_]) (hst := rfl)
    refine (tw_write hm h5 (by show ((((([] ++ dgs c.1) ++ [63]) ++ tnS c.2.1) ++ [126]) ++ dgs c.2.2.1).length < 80; simp only [List.nil_append, List.length_append, List.length_singleton]; omega) (fun T6 h6 e6 => ?_))
    refine V_aload_n dX5_renderReport_74 rfl (Or.inl ⟨_, rfl⟩) ?_
    refine V_aload_n dX5_renderReport_75 rfl (Or.inl ⟨_, rfl⟩) ?_
    refine V_iload_n dX5_renderReport_76 rfl ?_
    refine V_iconstv 5 dX5_renderReport_77 (by decide) ?_
    refine V_callV (q := (RX5, TX5, 23)) kX5_r q2836 q2838 qs56 tw0 rfl dX5_renderReport_78 ?_ (d' := 1) (as := [_, _]) (hst := rfl)
    refine (tw_r (k := k) (j := 5) h6.1 rfl rfl hr (by decide) ?_)
    refine V_callV (q := (RX5, TX5, 23)) kX5_writeNumber q3181 q3183 qs95 tw0 rfl dX5_renderReport_81 ?_ (d' := 1) (as := [_]) (hst := rfl)
    refine (tw_writeNumber hm h6 (hP 5 (by decide)) (by show (((((([] ++ dgs c.1) ++ [63]) ++ tnS c.2.1) ++ [126]) ++ dgs c.2.2.1) ++ [43]).length + 10 ≤ 80; simp only [List.nil_append, List.length_append, List.length_singleton]; omega) (fun T7 h7 e7 => ?_))
    have eL : rnR c = [] ++ dgs c.1 ++ [63] ++ tnS c.2.1 ++ [126] ++ dgs c.2.2.1 ++ [43] ++ dgs c.2.2.2 := by
      unfold rnR
      rw [List.nil_append]
    rw [eL] at kk
    refine V_aload_n dX5_renderReport_84 rfl (Or.inl ⟨_, rfl⟩) ?_
    refine V_get ckX5 tw0 14 (by decide) q2713 rfl rfl dX5_renderReport_85 ?_
    rw [show T7.2 14 = nI ([] ++ dgs c.1 ++ [63] ++ tnS c.2.1 ++ [126] ++ dgs c.2.2.1 ++ [43] ++ dgs c.2.2.2).length from h7.2.2.2.2.1.1]
    refine V_ireturn dX5_renderReport_88 rfl ?_
    exact kk T7 h7 (e7.trans (e6.trans (e5.trans (e4.trans (e3.trans (e2.trans e1))))))
end TW11
