/-! REFERENCE 14: palettes -/
set_option maxRecDepth 100000
/-- how many of the first places are in the set -/
def popN (S : Nat) : Nat → Nat
  | 0 => 0
  | i + 1 => popN S i + (S.testBit i).toNat
def erF (o : Of) (S : Nat) (c : Rw) : Nat → Int32 → List Rw → Int32
  | _, b, [] => b
  | p, b, x :: t => erF o S c (p + 1) (if S.testBit p = true then (if dO o c.2.1 x < b then dO o c.2.1 x else b) else b) t
theorem erF_c {o : Of} {S : Nat} {c : Rw} {p : Nat} {b : Int32} {x : Rw} {t : List Rw} : erF o S c p b (x :: t) = erF o S c (p + 1) (if S.testBit p = true then (if dO o c.2.1 x < b then dO o c.2.1 x else b) else b) t := rfl
def erS (o : Of) (S : Nat) : Int32 → List Rw → Int32
  | a, [] => a
  | a, c :: t => erS o S (a + erF o S c 0 1000000000 o.1) t
def err (o : Of) (S : Nat) : Int32 := erS o S 0 o.1
def hlB (x y : Int32) : Bool := decide (¬ (x &&& (x ^^^ y) &&& -(x ^^^ y)) = 0)
def plG (o : Of) (z : Int32) (S f : Nat) : Nat := if nI (popN S 10) = z ∧ (f = 0 ∨ err o S < err o f ∨ (err o S = err o f ∧ hlB (nI S) (nI f) = true)) then S else f
def palF (o : Of) (z : Int32) : Nat → Nat → Nat → Nat
  | 0, _, f => f
  | q + 1, S, f => palF o z q (S + 1) (plG o z S f)
def plt (o : Of) (z : Int32) : Nat := palF o z (2 ^ o.1.length - 1) 1 0
def qPe (S : St) (x : Int32) : Int32 × Int32 := if isb x 1 (nI S.1.1.length) = true then (0, err S.1 (plt S.1 x)) else (1, 0)
def kth (S k : Nat) : Nat := ((List.range 10).find? (fun p => S.testBit p && popN S p == k)).getD 0
def qPc (S : St) (x y : Int32) : Int32 × Int32 := if isb x 1 (nI S.1.1.length) = true then (if isb y 0 (x - 1) = true then (0, (rwAt S.1.1 (kth (plt S.1 x) y.toNatClampNeg)).1) else (2, 0)) else (1, 0)
theorem popN_le {S a b : Nat} (h : a ≤ b) : popN S a ≤ popN S b := by
  obtain ⟨d, rfl⟩ : ∃ d, b = a + d := ⟨b - a, by omega⟩
  clear h
  induction d with
  | zero => exact Nat.le_refl _
  | succ d ih => exact Nat.le_trans ih (Nat.le_add_right _ _)
theorem popN_s {S a : Nat} (h : S.testBit a = true) : popN S (a + 1) = popN S a + 1 := by
  show popN S a + (S.testBit a).toNat = _
  rw [h]; rfl
theorem popN_z {S a : Nat} (h : S.testBit a = false) : popN S (a + 1) = popN S a := by
  show popN S a + (S.testBit a).toNat = _
  rw [h]; rfl
theorem kth_of {S k p : Nat} (hp : p < 10) (h : S.testBit p = true) (hk : popN S p = k) : kth S k = p := by
  unfold kth
  cases hf : (List.range 10).find? (fun p => S.testBit p && popN S p == k) with
  | none =>
    have := List.find?_eq_none.mp hf p (List.mem_range.mpr hp)
    simp [h, hk] at this
  | some q =>
    have h1 := List.find?_some hf
    simp only [Bool.and_eq_true, beq_iff_eq] at h1
    obtain ⟨h2, h3⟩ := h1
    show q = p
    rcases Nat.lt_trichotomy q p with h4 | h4 | h4
    · have := popN_le (S := S) (show q + 1 ≤ p from h4)
      rw [popN_s h2] at this
      omega
    · exact h4
    · have := popN_le (S := S) (show p + 1 ≤ q from h4)
      rw [popN_s h] at this
      omega
theorem plG_lt {o : Of} {z : Int32} {S f n : Nat} (h : S < n) (h2 : f < n) : plG o z S f < n := by
  unfold plG
  split
  · exact h
  · exact h2
theorem palF_lt {o : Of} {z : Int32} {q S f n : Nat} (h : S + q ≤ n) (h2 : f < n) : palF o z q S f < n := by
  induction q generalizing S f with
  | zero => exact h2
  | succ q ih => exact ih (by omega) (plG_lt (by omega) h2)
theorem plt_lt {o : Of} {z : Int32} : plt o z < 2 ^ o.1.length := by
  have : 0 < 2 ^ o.1.length := Nat.pow_pos (by decide)
  exact palF_lt (by omega) this
/-- found has the size, and is found where one is -/
theorem palF_pop {o : Of} {z : Int32} {q S f : Nat} (hS : 0 < S) (hf : f = 0 ∨ nI (popN f 10) = z) (hx : f ≠ 0 ∨ ∃ x, S ≤ x ∧ x < S + q ∧ nI (popN x 10) = z) : nI (popN (palF o z q S f) 10) = z := by
  induction q generalizing S f with
  | zero =>
    rcases hx with h | ⟨x, h1, h2, -⟩
    · exact hf.resolve_left h
    · omega
  | succ q ih =>
    refine ih (by omega) ?_ ?_
    · unfold plG
      split
      · rename_i h; exact Or.inr h.1
      · exact hf
    · by_cases h0 : f = 0
      · rcases hx with h | ⟨x, h1, h2, h3⟩
        · exact absurd h0 h
        · by_cases e : x = S
          · subst e
            left
            unfold plG
            rw [if_pos ⟨h3, Or.inl h0⟩]
            omega
          · exact Or.inr ⟨x, by omega, by omega, h3⟩
      · left
        unfold plG
        split
        · omega
        · exact h0
theorem pop_ones : ∀ s, s ≤ 10 → popN (2 ^ s - 1) 10 = s := by decide +kernel
theorem pop_le (S : Nat) (i : Nat) : popN S i ≤ i := by
  induction i with
  | zero => exact Nat.le_refl _
  | succ i ih =>
    show popN S i + (S.testBit i).toNat ≤ _
    cases S.testBit i <;> simp <;> omega
theorem plt_pop {o : Of} {s : Nat} (hn : o.1.length ≤ 10) (h1 : 1 ≤ s) (h2 : s ≤ o.1.length) : popN (plt o (nI s)) 10 = s := by
  have hp := Nat.pow_le_pow_right (show 0 < 2 by decide) h2
  have hp1 := Nat.pow_le_pow_right (show 0 < 2 by decide) h1
  have e := palF_pop (o := o) (z := nI s) (q := 2 ^ o.1.length - 1) (S := 1) (f := 0) (by decide) (Or.inl rfl) (Or.inr ⟨2 ^ s - 1, by omega, by omega, by rw [pop_ones s (by omega)]⟩)
  have := pop_le (plt o (nI s)) 10
  exact (nI_eq (by show popN (plt o (nI s)) 10 < _; omega) (by omega)).mp e
theorem pop_hi {S n : Nat} (h : S < 2 ^ n) {d : Nat} : popN S (n + d) = popN S n := by
  induction d with
  | zero => rfl
  | succ d ih =>
    rw [← ih]
    exact popN_z (Nat.testBit_lt_two_pow (Nat.lt_of_lt_of_le h (Nat.pow_le_pow_right (by decide) (Nat.le_add_right n d))))
section TW15
variable {l : Launch} {E : g_E} {P : Outcome → g_G → Prop} {G : g_G} {m : Nat} {T : Tw} {o : Of} {S : St}
theorem tw_many {x : Int32} {s : Nat} (hx : x = nI s) (hs : s < 1024) (kk : P (.returned (some (.int (nI (popN s 10))))) G) : g_Spc l E mX5_many 0 [.int x] G P := by
  subst hx
  refine V_intro (plainFor_of_name plX5) (Nat.le_of_ble_eq_true rfl) ?_
  have loop : ∀ i, i ≤ 10 → V l E mX5_many 0 P 4 [(0, .int (nI s)), (1, .int (nI (popN s i))), (2, .int (nI i))] [] G := by
    refine down 10 ?_ ?_
    · refine V_iload_n dX5_many_4 rfl ?_
      refine V_bipushv 10 dX5_many_5 (by decide) ?_
      refine V_icmp_ge 24 dX5_many_7 (by decide) (fun _ => ?_) (fun c7 => absurd (Int32.le_refl _) c7)
      refine V_iload_n dX5_many_24 rfl ?_
      refine V_ireturn dX5_many_25 rfl ?_
      exact kk
    · intro i hi ih
      refine V_iload_n dX5_many_4 rfl ?_
      refine V_bipushv 10 dX5_many_5 (by decide) ?_
      refine V_icmp_ge 24 dX5_many_7 (by decide) (fun c7 => absurd c7 (nI_ge hi (by decide))) (fun _ => ?_)
      refine V_iload_n dX5_many_10 rfl ?_
      refine V_iload_n dX5_many_11 rfl ?_
      refine V_iload_n dX5_many_12 rfl ?_
      refine V_ishr dX5_many_13 ?_
      refine V_iconstv 1 dX5_many_14 (by decide) ?_
      refine V_iand dX5_many_15 ?_
      rw [sb_bit s hs i hi, show cond (s.testBit i) (1 : Int32) 0 = nI (s.testBit i).toNat from by cases s.testBit i <;> rfl]
      refine V_iadd dX5_many_16 ?_
      rw [nI_add]
      refine V_istore_n dX5_many_17 (by decide) ?_
      refine V_iinc dX5_many_18 rfl (by decide) ?_
      refine V_goto 4 dX5_many_21 (by decide) ?_
      refine V_sub (L' := [(0, .int (nI s)), (1, .int (nI (popN s (i + 1)))), (2, .int (nI i + Int32.ofInt 1))]) ⟨rfl, rfl, rfl, trivial⟩ ?_
      rw [show nI i + Int32.ofInt 1 = nI (i + 1) from nI_1 i]
      exact ih
  refine V_iconstv 0 dX5_many_0 (by decide) ?_
  refine V_istore_n dX5_many_1 (by decide) ?_
  refine V_iconstv 0 dX5_many_2 (by decide) ?_
  refine V_istore_n dX5_many_3 (by decide) ?_
  refine V_sub (L' := [(0, .int (nI s)), (1, .int (nI (popN s 0))), (2, .int (nI 0))]) ⟨rfl, rfl, rfl, trivial⟩ ?_
  exact loop 0 (by decide)
theorem tw_error {x : Int32} {s : Nat} (h : TwO (T.1 1) o) (hx : x = nI s) (hs : s < 1024) (kk : P (.returned (some (.int (err o s)))) (g_tG E G m T)) : g_Spc l E mX5_error 2 [.ref m, .int x] (g_tG E G m T) P := by
  subst hx
  have b1 := h.1
  have e0 : T.1 1 0 = nI o.1.length := h.2.2.1
  have e5 : T.1 1 5 = o.2.2 5 := h.2.2.2.2.1 5 (by decide) (by decide)
  refine V_intro (plainFor_of_name plX5) (Nat.le_of_ble_eq_true rfl) ?_
  have outer : ∀ k, k ≤ o.1.length → ∀ a, P (.returned (some (.int (erS o s a (o.1.drop k))))) (g_tG E G m T) → V l E mX5_error 2 P 4 [(0, .ref m), (1, .int (nI s)), (2, .int a), (3, .int (nI k))] [] (g_tG E G m T) := by
    refine down o.1.length ?_ ?_
    · intro a kk
      rw [List.drop_length] at kk
      refine V_iload_n dX5_error_4 rfl ?_
      refine V_aload_n dX5_error_5 rfl (Or.inl ⟨_, rfl⟩) ?_
      refine V_get ckX5 tw0 0 (by decide) q2699 rfl rfl dX5_error_6 ?_
      refine V_iconstv 0 dX5_error_9 (by decide) ?_
      refine tw_ld 1 (0) (by decide) (by decide) rfl (show _ < 136 from by omega) (by decide) dX5_error_10 ?_
      rw [e0]
      refine V_icmp_ge 92 dX5_error_11 (by decide) (fun _ => ?_) (fun c11 => absurd (Int32.le_refl _) c11)
      refine V_iload_n dX5_error_92 rfl ?_
      refine V_ireturn dX5_error_93 rfl ?_
      exact kk
    · intro k hk ih a kk
      obtain ⟨c, hc, hd⟩ := drop_at hk
      rw [hd] at kk
      have inner : ∀ p, p ≤ o.1.length → ∀ b, erF o s c p b (o.1.drop p) = erF o s c 0 1000000000 o.1 → V l E mX5_error 2 P 21 [(0, .ref m), (1, .int (nI s)), (2, .int a), (3, .int (nI k)), (4, .int b), (5, .int (nI p))] [] (g_tG E G m T) := by
        refine down o.1.length ?_ ?_
        · intro b hb
          rw [List.drop_length] at hb
          have hb : b = erF o s c 0 1000000000 o.1 := hb
          subst hb
          refine V_iload dX5_error_21 rfl ?_
          refine V_aload_n dX5_error_23 rfl (Or.inl ⟨_, rfl⟩) ?_
          refine V_get ckX5 tw0 0 (by decide) q2699 rfl rfl dX5_error_24 ?_
          refine V_iconstv 0 dX5_error_27 (by decide) ?_
          refine tw_ld 1 (0) (by decide) (by decide) rfl (show _ < 136 from by omega) (by decide) dX5_error_28 ?_
          rw [e0]
          refine V_icmp_ge 81 dX5_error_29 (by decide) (fun _ => ?_) (fun c29 => absurd (Int32.le_refl _) c29)
          refine V_iload_n dX5_error_81 rfl ?_
          refine V_iload dX5_error_82 rfl ?_
          refine V_iadd dX5_error_84 ?_
          refine V_istore_n dX5_error_85 (by decide) ?_
          refine V_iinc dX5_error_86 rfl (by decide) ?_
          refine V_goto 4 dX5_error_89 (by decide) ?_
          refine V_sub (L' := [(0, .ref m), (1, .int (nI s)), (2, .int (a + erF o s c 0 1000000000 o.1)), (3, .int (nI k + Int32.ofInt 1))]) ⟨rfl, rfl, rfl, rfl, trivial⟩ ?_
          rw [show nI k + Int32.ofInt 1 = nI (k + 1) from nI_1 k]
          exact ih _ kk
        · intro p hp ihp b hb
          obtain ⟨d, hdp, hd2⟩ := drop_at hp
          rw [hd2] at hb
          rw [erF_c] at hb
          have next : ∀ b', erF o s c (p + 1) b' (o.1.drop (p + 1)) = erF o s c 0 1000000000 o.1 → V l E mX5_error 2 P 75 [(0, .ref m), (1, .int (nI s)), (2, .int a), (3, .int (nI k)), (4, .int b'), (5, .int (nI p))] [] (g_tG E G m T) := by
            intro b' hb'
            refine V_iinc dX5_error_75 rfl (by decide) ?_
            refine V_goto 21 dX5_error_78 (by decide) ?_
            refine V_sub (L' := [(0, .ref m), (1, .int (nI s)), (2, .int a), (3, .int (nI k)), (4, .int b'), (5, .int (nI p + Int32.ofInt 1))]) ⟨rfl, rfl, rfl, rfl, rfl, rfl, trivial⟩ ?_
            rw [show nI p + Int32.ofInt 1 = nI (p + 1) from nI_1 p]
            exact ihp b' hb'
          refine V_iload dX5_error_21 rfl ?_
          refine V_aload_n dX5_error_23 rfl (Or.inl ⟨_, rfl⟩) ?_
          refine V_get ckX5 tw0 0 (by decide) q2699 rfl rfl dX5_error_24 ?_
          refine V_iconstv 0 dX5_error_27 (by decide) ?_
          refine tw_ld 1 (0) (by decide) (by decide) rfl (show _ < 136 from by omega) (by decide) dX5_error_28 ?_
          rw [e0]
          refine V_icmp_ge 81 dX5_error_29 (by decide) (fun c29 => absurd c29 (nI_ge hp (by omega))) (fun _ => ?_)
          refine V_iload_n dX5_error_32 rfl ?_
          refine V_iload dX5_error_33 rfl ?_
          refine V_ishr dX5_error_35 ?_
          refine V_iconstv 1 dX5_error_36 (by decide) ?_
          refine V_iand dX5_error_37 ?_
          rw [sb_bit s hs p (by omega)]
          cases hbit : s.testBit p with
          | false =>
            rw [if_neg (by rw [hbit]; decide)] at hb
            refine V_if_ne 44 dX5_error_38 (by decide) (fun c38 => absurd c38 (show ¬ ¬ (0 : Int32) = 0 by decide)) (fun _ => ?_)
            refine V_goto 75 dX5_error_41 (by decide) ?_
            exact next b hb
          | true =>
            rw [if_pos hbit] at hb
            refine V_if_ne 44 dX5_error_38 (by decide) (fun _ => ?_) (fun c38 => absurd c38 (show ¬ (1 : Int32) = 0 by decide))
            refine V_aload_n dX5_error_44 rfl (Or.inl ⟨_, rfl⟩) ?_
            refine V_iload_n dX5_error_45 rfl ?_
            refine V_callS kX5_colourRow q2802 q2803 dX5_error_46 ?_ (d' := 0) (as := [_]) (hst := rfl)
            refine (tw_colourRow (k := k) rfl ?_)
            refine V_iload dX5_error_49 rfl ?_
            refine V_callS kX5_colourRow q2802 q2803 dX5_error_51 ?_ (d' := 0) (as := [_]) (hst := rfl)
            refine (tw_colourRow (k := p) rfl ?_)
            refine V_callV (q := (RX5, TX5, 23)) kX5_apart q2895 q2897 qs67 tw0 rfl dX5_error_54 ?_ (d' := 1) (as := [_, _]) (hst := rfl)
            refine (tw_apart rfl rfl (by omega) (by omega) ?_)
            rw [h.tnC hc, h.tnC hdp, e5]
            refine V_istore dX5_error_57 (by decide) ?_
            refine V_iload dX5_error_59 rfl ?_
            refine V_iload dX5_error_61 rfl ?_
            refine V_icmp_ge 71 dX5_error_63 (by decide) (fun c63 => ?_) (fun c63 => ?_)
            · rw [if_neg (show ¬ dO o c.2.1 d < b from Int32.not_lt.mpr c63)] at hb
              refine V_iload dX5_error_71 rfl ?_
              refine V_istore dX5_error_73 (by decide) ?_
              exact V_subk (next b hb) ⟨rfl, rfl, rfl, rfl, rfl, rfl, trivial⟩
            · rw [if_pos (show dO o c.2.1 d < b from Int32.not_le.mp c63)] at hb
              refine V_iload dX5_error_66 rfl ?_
              refine V_goto 73 dX5_error_68 (by decide) ?_
              refine V_istore dX5_error_73 (by decide) ?_
              exact V_subk (next (dO o c.2.1 d) hb) ⟨rfl, rfl, rfl, rfl, rfl, rfl, trivial⟩
      refine V_iload_n dX5_error_4 rfl ?_
      refine V_aload_n dX5_error_5 rfl (Or.inl ⟨_, rfl⟩) ?_
      refine V_get ckX5 tw0 0 (by decide) q2699 rfl rfl dX5_error_6 ?_
      refine V_iconstv 0 dX5_error_9 (by decide) ?_
      refine tw_ld 1 (0) (by decide) (by decide) rfl (show _ < 136 from by omega) (by decide) dX5_error_10 ?_
      rw [e0]
      refine V_icmp_ge 92 dX5_error_11 (by decide) (fun c11 => absurd c11 (nI_ge hk (by omega))) (fun _ => ?_)
      refine V_ldc 1000000000 q3074 dX5_error_14 ?_
      refine V_istore dX5_error_16 (by decide) ?_
      refine V_iconstv 0 dX5_error_18 (by decide) ?_
      refine V_istore dX5_error_19 (by decide) ?_
      refine V_sub (L' := [(0, .ref m), (1, .int (nI s)), (2, .int a), (3, .int (nI k)), (4, .int 1000000000), (5, .int (nI 0))]) ⟨rfl, rfl, rfl, rfl, rfl, rfl, trivial⟩ ?_
      exact inner 0 (Nat.zero_le _) _ (by rw [List.drop_zero])
  refine V_iconstv 0 dX5_error_0 (by decide) ?_
  refine V_istore_n dX5_error_1 (by decide) ?_
  refine V_iconstv 0 dX5_error_2 (by decide) ?_
  refine V_istore_n dX5_error_3 (by decide) ?_
  refine V_sub (L' := [(0, .ref m), (1, .int (nI s)), (2, .int 0), (3, .int (nI 0))]) ⟨rfl, rfl, rfl, rfl, trivial⟩ ?_
  exact outer 0 (Nat.zero_le _) 0 kk
theorem tw_hasLowest {x y : Int32} (kk : P (.returned (some (.int (b2i (hlB x y))))) G) : g_Spc l E mX5_hasLowest 0 [.int x, .int y] G P := by
  refine V_intro (plainFor_of_name plX5) (Nat.le_of_ble_eq_true rfl) ?_
  refine V_iload_n dX5_hasLowest_0 rfl ?_
  refine V_iload_n dX5_hasLowest_1 rfl ?_
  refine V_ixor dX5_hasLowest_2 ?_
  refine V_istore_n dX5_hasLowest_3 (by decide) ?_
  refine V_iload_n dX5_hasLowest_4 rfl ?_
  refine V_iload_n dX5_hasLowest_5 rfl ?_
  refine V_iand dX5_hasLowest_6 ?_
  refine V_iload_n dX5_hasLowest_7 rfl ?_
  refine V_ineg dX5_hasLowest_8 ?_
  refine V_iand dX5_hasLowest_9 ?_
  refine V_if_eq 17 dX5_hasLowest_10 (by decide) (fun c10 => ?_) (fun c10 => ?_)
  · refine V_iconstv 0 dX5_hasLowest_17 (by decide) ?_
    refine V_zreturn dX5_hasLowest_18 rfl rfl ?_
    rw [show hlB x y = false from decide_eq_false (fun q => q c10)] at kk
    exact kk
  · refine V_iconstv 1 dX5_hasLowest_13 (by decide) ?_
    refine V_goto 18 dX5_hasLowest_14 (by decide) ?_
    refine V_zreturn dX5_hasLowest_18 rfl rfl ?_
    rw [show hlB x y = true from decide_eq_true c10] at kk
    exact kk
theorem tw_palette {x : Int32} (h : TwO (T.1 1) o) (kk : P (.returned (some (.int (nI (plt o x))))) (g_tG E G m T)) : g_Spc l E mX5_palette 3 [.ref m, .int x] (g_tG E G m T) P := by
  have b1 := h.1
  have e0 : T.1 1 0 = nI o.1.length := h.2.2.1
  have p10 := sb_p10 b1
  have pp : 0 < 2 ^ o.1.length := Nat.pow_pos (by decide)
  refine V_intro (plainFor_of_name plX5) (Nat.le_of_ble_eq_true rfl) ?_
  have loop : ∀ s, s ≤ 2 ^ o.1.length → 0 < s → ∀ f, f < 2 ^ o.1.length → palF o x (2 ^ o.1.length - s) s f = plt o x → V l E mX5_palette 3 P 4 [(0, .ref m), (1, .int x), (2, .int (nI f)), (3, .int (nI s))] [] (g_tG E G m T) := by
    refine down (2 ^ o.1.length) ?_ ?_
    · intro _ f hf hp
      rw [Nat.sub_self] at hp
      have hp : f = plt o x := hp
      subst hp
      refine V_iload_n dX5_palette_4 rfl ?_
      refine V_iconstv 1 dX5_palette_5 (by decide) ?_
      refine V_aload_n dX5_palette_6 rfl (Or.inl ⟨_, rfl⟩) ?_
      refine V_get ckX5 tw0 0 (by decide) q2699 rfl rfl dX5_palette_7 ?_
      refine V_iconstv 0 dX5_palette_10 (by decide) ?_
      refine tw_ld 1 (0) (by decide) (by decide) rfl (show _ < 136 from by omega) (by decide) dX5_palette_11 ?_
      rw [e0]
      refine V_ishl dX5_palette_12 ?_
      rw [sb_shl _ (by omega)]
      refine V_icmp_ge 73 dX5_palette_13 (by decide) (fun _ => ?_) (fun c13 => absurd (Int32.le_refl _) c13)
      refine V_iload_n dX5_palette_73 rfl ?_
      refine V_ireturn dX5_palette_74 rfl ?_
      exact kk
    · intro s hs ih h0 f hf hp
      rw [show 2 ^ o.1.length - s = (2 ^ o.1.length - (s + 1)) + 1 by omega] at hp
      have hp : palF o x (2 ^ o.1.length - (s + 1)) (s + 1) (plG o x s f) = plt o x := hp
      have next : ∀ g, g = plG o x s f → V l E mX5_palette 3 P 67 [(0, .ref m), (1, .int x), (2, .int (nI g)), (3, .int (nI s))] [] (g_tG E G m T) := by
        intro g hg
        subst hg
        refine V_iinc dX5_palette_67 rfl (by decide) ?_
        refine V_goto 4 dX5_palette_70 (by decide) ?_
        refine V_sub (L' := [(0, .ref m), (1, .int x), (2, .int (nI (plG o x s f))), (3, .int (nI s + Int32.ofInt 1))]) ⟨rfl, rfl, rfl, rfl, trivial⟩ ?_
        rw [show nI s + Int32.ofInt 1 = nI (s + 1) from nI_1 s]
        exact ih (by omega) _ (plG_lt hs hf) hp
      have take : plG o x s f = s → V l E mX5_palette 3 P 65 [(0, .ref m), (1, .int x), (2, .int (nI f)), (3, .int (nI s))] [] (g_tG E G m T) := by
        intro hg
        refine V_iload_n dX5_palette_65 rfl ?_
        refine V_istore_n dX5_palette_66 (by decide) ?_
        exact V_subk (next s hg.symm) ⟨rfl, rfl, rfl, rfl, trivial⟩
      refine V_iload_n dX5_palette_4 rfl ?_
      refine V_iconstv 1 dX5_palette_5 (by decide) ?_
      refine V_aload_n dX5_palette_6 rfl (Or.inl ⟨_, rfl⟩) ?_
      refine V_get ckX5 tw0 0 (by decide) q2699 rfl rfl dX5_palette_7 ?_
      refine V_iconstv 0 dX5_palette_10 (by decide) ?_
      refine tw_ld 1 (0) (by decide) (by decide) rfl (show _ < 136 from by omega) (by decide) dX5_palette_11 ?_
      rw [e0]
      refine V_ishl dX5_palette_12 ?_
      rw [sb_shl _ (by omega)]
      refine V_icmp_ge 73 dX5_palette_13 (by decide) (fun c13 => absurd c13 (nI_ge hs (by omega))) (fun _ => ?_)
      refine V_iload_n dX5_palette_16 rfl ?_
      refine V_callS kX5_many q3127 q3128 dX5_palette_17 ?_ (d' := 0) (as := [_]) (hst := rfl)
      refine (tw_many (s := s) rfl (by omega) ?_)
      refine V_iload_n dX5_palette_20 rfl ?_
      refine V_icmp_eq 27 dX5_palette_21 (by decide) (fun c21 => ?_) (fun c21 => ?_)
      · refine V_iload_n dX5_palette_27 rfl ?_
        by_cases hf0 : f = 0
        · subst hf0
          refine V_if_eq 65 dX5_palette_28 (by decide) (fun _ => ?_) (fun c28 => absurd rfl c28)
          refine take ?_
          unfold plG
          rw [if_pos ⟨c21, Or.inl rfl⟩]
        · refine V_if_eq 65 dX5_palette_28 (by decide) (fun c28 => absurd c28 (nI_ne0 (by omega) (by omega))) (fun _ => ?_)
          refine V_aload_n dX5_palette_31 rfl (Or.inl ⟨_, rfl⟩) ?_
          refine V_iload_n dX5_palette_32 rfl ?_
          refine V_callV (q := (RX5, TX5, 23)) kX5_error q3130 q3132 qs94 tw0 rfl dX5_palette_33 ?_ (d' := 2) (as := [_]) (hst := rfl)
          refine (tw_error (s := s) h rfl (by omega) ?_)
          refine V_aload_n dX5_palette_36 rfl (Or.inl ⟨_, rfl⟩) ?_
          refine V_iload_n dX5_palette_37 rfl ?_
          refine V_callV (q := (RX5, TX5, 23)) kX5_error q3130 q3132 qs94 tw0 rfl dX5_palette_38 ?_ (d' := 2) (as := [_]) (hst := rfl)
          refine (tw_error (s := f) h rfl (by omega) ?_)
          refine V_icmp_lt 65 dX5_palette_41 (by decide) (fun c41 => ?_) (fun c41 => ?_)
          · refine take ?_
            unfold plG
            rw [if_pos ⟨c21, Or.inr (Or.inl c41)⟩]
          · refine V_aload_n dX5_palette_44 rfl (Or.inl ⟨_, rfl⟩) ?_
            refine V_iload_n dX5_palette_45 rfl ?_
            refine V_callV (q := (RX5, TX5, 23)) kX5_error q3130 q3132 qs94 tw0 rfl dX5_palette_46 ?_ (d' := 2) (as := [_]) (hst := rfl)
            refine (tw_error (s := s) h rfl (by omega) ?_)
            refine V_aload_n dX5_palette_49 rfl (Or.inl ⟨_, rfl⟩) ?_
            refine V_iload_n dX5_palette_50 rfl ?_
            refine V_callV (q := (RX5, TX5, 23)) kX5_error q3130 q3132 qs94 tw0 rfl dX5_palette_51 ?_ (d' := 2) (as := [_]) (hst := rfl)
            refine (tw_error (s := f) h rfl (by omega) ?_)
            refine V_icmp_ne 67 dX5_palette_54 (by decide) (fun c54 => ?_) (fun c54 => ?_)
            · refine next f ?_
              unfold plG
              rw [if_neg (fun q => q.2.elim hf0 (fun q => q.elim c41 (fun q => c54 q.1)))]
            · refine V_iload_n dX5_palette_57 rfl ?_
              refine V_iload_n dX5_palette_58 rfl ?_
              refine V_callS kX5_hasLowest q3134 q3135 dX5_palette_59 ?_ (d' := 0) (as := [_, _]) (hst := rfl)
              refine (tw_hasLowest ?_)
              refine V_if_eq 67 dX5_palette_62 (by decide) (fun c62 => ?_) (fun c62 => ?_)
              · refine next f ?_
                unfold plG
                rw [if_neg (fun q => q.2.elim hf0 (fun q => q.elim c41 (fun q => by rw [b2i_f c62] at q; cases q.2)))]
              · refine take ?_
                unfold plG
                rw [if_pos ⟨c21, Or.inr (Or.inr ⟨c54, b2i_t c62⟩)⟩]
      · refine V_goto 67 dX5_palette_24 (by decide) ?_
        refine next f ?_
        unfold plG
        rw [if_neg (fun q => c21 q.1)]
  refine V_iconstv 0 dX5_palette_0 (by decide) ?_
  refine V_istore_n dX5_palette_1 (by decide) ?_
  refine V_iconstv 1 dX5_palette_2 (by decide) ?_
  refine V_istore_n dX5_palette_3 (by decide) ?_
  refine V_sub (L' := [(0, .ref m), (1, .int x), (2, .int (nI 0)), (3, .int (nI 1))]) ⟨rfl, rfl, rfl, rfl, trivial⟩ ?_
  exact loop 1 pp (by decide) 0 pp rfl
theorem tw_errorOf {x : Int32} (hm : g_B E ≤ m) (h : TwS T S) (kk : ∀ T', TwS T' S → T'.2 5 = (qPe S x).1 → P (.returned (some (.int (qPe S x).2))) (g_tG E G m T')) : g_Spc l E mX5_errorOf 4 [.ref m, .int x] (g_tG E G m T) P := by
  have b1 := h.1.1
  have e0 : T.1 1 0 = nI S.1.1.length := h.1.2.2.1
  have p10 := sb_p10 b1
  have hp := plt_lt (o := S.1) (z := x)
  have h1 : ∀ c, TwO ((twI T 5 c).1 1) S.1 := fun _ => h.1
  unfold qPe at kk
  refine V_intro (plainFor_of_name plX5) (Nat.le_of_ble_eq_true rfl) ?_
  refine V_aload_n dX5_errorOf_0 rfl (Or.inl ⟨_, rfl⟩) ?_
  refine V_iload_n dX5_errorOf_1 rfl ?_
  refine V_iconstv 1 dX5_errorOf_2 (by decide) ?_
  refine V_aload_n dX5_errorOf_3 rfl (Or.inl ⟨_, rfl⟩) ?_
  refine V_get ckX5 tw0 0 (by decide) q2699 rfl rfl dX5_errorOf_4 ?_
  refine V_iconstv 0 dX5_errorOf_7 (by decide) ?_
  refine tw_ld 1 (0) (by decide) (by decide) rfl (show _ < 136 from by omega) (by decide) dX5_errorOf_8 ?_
  rw [e0]
  refine V_callS kX5_in q2791 q2792 dX5_errorOf_9 ?_ (d' := 0) (as := [_, _, _]) (hst := rfl)
  refine (tw_in ?_)
  refine V_callV (q := (RX5, TX5, 23)) kX5_checked q2986 q2988 qs83 tw0 rfl dX5_errorOf_12 ?_ (d' := 0) (as := [_]) (hst := rfl)
  refine (tw_checked hm ?_)
  cases hb : isb x 1 (nI S.1.1.length) with
  | false =>
    rw [if_neg (by rw [hb]; decide)] at kk
    refine V_if_le 22 dX5_errorOf_15 (by decide) (fun c15 => absurd c15 (by decide)) (fun _ => ?_)
    refine V_iconstv 0 dX5_errorOf_18 (by decide) ?_
    refine V_goto 31 dX5_errorOf_19 (by decide) ?_
    refine V_ireturn dX5_errorOf_31 rfl ?_
    exact kk _ (h.q _) rfl
  | true =>
    rw [if_pos hb] at kk
    refine V_if_le 22 dX5_errorOf_15 (by decide) (fun _ => ?_) (fun c15 => absurd (by decide) c15)
    refine V_aload_n dX5_errorOf_22 rfl (Or.inl ⟨_, rfl⟩) ?_
    refine V_aload_n dX5_errorOf_23 rfl (Or.inl ⟨_, rfl⟩) ?_
    refine V_iload_n dX5_errorOf_24 rfl ?_
    refine V_callV (q := (RX5, TX5, 23)) kX5_palette q3123 q3125 qs93 tw0 rfl dX5_errorOf_25 ?_ (d' := 3) (as := [_]) (hst := rfl)
    refine (tw_palette (h1 _) ?_)
    refine V_callV (q := (RX5, TX5, 23)) kX5_error q3130 q3132 qs94 tw0 rfl dX5_errorOf_28 ?_ (d' := 2) (as := [_]) (hst := rfl)
    refine (tw_error (s := plt S.1 x) (h1 _) rfl (by omega) ?_)
    refine V_ireturn dX5_errorOf_31 rfl ?_
    exact kk _ (h.q _) rfl
theorem tw_paletteError {x : Int32} (hm : g_B E ≤ m) (h : TwS T S) (kk : ∀ T', TwS T' S → T'.2 5 = (qPe S x).1 → P (.returned (some (.int (qPe S x).2))) (g_tG E G m T')) : g_Spc l E mX5_paletteError 5 [.ref m, .int x] (g_tG E G m T) P := by
  refine V_intro (plainFor_of_name plX5) (Nat.le_of_ble_eq_true rfl) ?_
  refine V_aload_n dX5_paletteError_0 rfl (Or.inl ⟨_, rfl⟩) ?_
  refine V_iload_n dX5_paletteError_1 rfl ?_
  refine V_callV (q := (RX5, TX5, 23)) kX5_errorOf q3119 q3121 qs92 tw0 rfl dX5_paletteError_2 ?_ (d' := 4) (as := [_]) (hst := rfl)
  refine (tw_errorOf hm h (fun T' h1 h2 => ?_))
  refine V_ireturn dX5_paletteError_5 rfl ?_
  exact kk T' h1 h2
theorem tw_paletteErrorBySearch {x : Int32} (hm : g_B E ≤ m) (h : TwS T S) (kk : ∀ T', TwS T' S → T'.2 5 = (qPe S x).1 → P (.returned (some (.int (qPe S x).2))) (g_tG E G m T')) : g_Spc l E mX5_paletteErrorBySearch 5 [.ref m, .int x] (g_tG E G m T) P := by
  refine V_intro (plainFor_of_name plX5) (Nat.le_of_ble_eq_true rfl) ?_
  refine V_aload_n dX5_paletteErrorBySearch_0 rfl (Or.inl ⟨_, rfl⟩) ?_
  refine V_iload_n dX5_paletteErrorBySearch_1 rfl ?_
  refine V_callV (q := (RX5, TX5, 23)) kX5_errorOf q3119 q3121 qs92 tw0 rfl dX5_paletteErrorBySearch_2 ?_ (d' := 4) (as := [_]) (hst := rfl)
  refine (tw_errorOf hm h (fun T' h1 h2 => ?_))
  refine V_ireturn dX5_paletteErrorBySearch_5 rfl ?_
  exact kk T' h1 h2
end TW15
