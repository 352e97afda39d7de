/-! REFERENCE 17: reading numbers of a script -/
set_option maxRecDepth 100000
/-- the reference while it reads: place i, wrong w, n commands, kinds K, arguments A -/
def pT (T : Tw) (i : Nat) (w : Bool) (n : Nat) (K A : Nat → Int32) : Tw := (fun a => if a = 10 then K else if a = 11 then A else T.1 a, fun j => if j = 20 then nI i else if j = 21 then nI n else if j = 22 then b2i w else T.2 j)
theorem pT_pos {T : Tw} {i j n : Nat} {w : Bool} {K A : Nat → Int32} {v : Int32} (h : v = nI j) : twI (pT T i w n K A) 20 v = pT T j w n K A := by
  subst h
  refine Prod.ext rfl (funext fun b => ?_)
  show (if b = 20 then nI j else if b = 20 then nI i else _) = (if b = 20 then nI j else _)
  by_cases e : b = 20
  · rw [if_pos e, if_pos e]
  · rw [if_neg e, if_neg e, if_neg e]
theorem pT_wr {T : Tw} {i n : Nat} {w w' : Bool} {K A : Nat → Int32} {v : Int32} (h : v = b2i w') : twI (pT T i w n K A) 22 v = pT T i w' n K A := by
  subst h
  refine Prod.ext rfl (funext fun b => ?_)
  show (if b = 22 then b2i w' else if b = 20 then nI i else if b = 21 then nI n else if b = 22 then b2i w else T.2 b) = (if b = 20 then nI i else if b = 21 then nI n else if b = 22 then b2i w' else T.2 b)
  by_cases e : b = 22
  · subst e; rfl
  · rw [if_neg e, if_neg e, if_neg e]
theorem pT_cm {T : Tw} {i n n' : Nat} {w : Bool} {K A : Nat → Int32} {v : Int32} (h : v = nI n') : twI (pT T i w n K A) 21 v = pT T i w n' K A := by
  subst h
  refine Prod.ext rfl (funext fun b => ?_)
  show (if b = 21 then nI n' else if b = 20 then nI i else if b = 21 then nI n else if b = 22 then b2i w else T.2 b) = (if b = 20 then nI i else if b = 21 then nI n' else if b = 22 then b2i w else T.2 b)
  by_cases e : b = 21
  · subst e; rfl
  · rw [if_neg e, if_neg e, if_neg e]
theorem pT_A {T : Tw} {i n : Nat} {w : Bool} {K A X : Nat → Int32} : twA (pT T i w n K A) 11 X = pT T i w n K X := by
  refine Prod.ext (funext fun b => ?_) rfl
  show (if b = 11 then X else if b = 10 then K else if b = 11 then A else T.1 b) = (if b = 10 then K else if b = 11 then X else T.1 b)
  by_cases e : b = 11
  · subst e; rfl
  · rw [if_neg e, if_neg e, if_neg e]
theorem pT_K {T : Tw} {i n : Nat} {w : Bool} {K A X : Nat → Int32} : twA (pT T i w n K A) 10 X = pT T i w n X A := by
  refine Prod.ext (funext fun b => ?_) rfl
  show (if b = 10 then X else if b = 10 then K else if b = 11 then A else T.1 b) = (if b = 10 then X else if b = 11 then A else T.1 b)
  by_cases e : b = 10
  · rw [if_pos e, if_pos e]
  · rw [if_neg e, if_neg e, if_neg e]
/-- the script's text -/
def TxT (T : Tw) (L : List Int32) : Prop := T.2 19 = nI L.length ∧ L.length ≤ 60 ∧ ∀ k c, L[k]? = some c → T.1 9 k = c
/-- the character at a place, or -1 -/
def mkC (L : List Int32) (i : Nat) : Int32 := (L[i]?).getD (-1)
def mkW (w : Bool) (L : List Int32) (i : Nat) : Int32 := if w = true then -1 else mkC L i
def isD (x : Int32) : Bool := isb x 48 57
def numG (L : List Int32) : Nat → Nat → Int32 → Int32 × Nat
  | 0, i, v => (v, i)
  | f + 1, i, v => if isD (mkC L i) = true then numG L f (i + 1) (10 * v + mkC L i - 48) else (v, i)
/-- number, place, wrong -/
def nmR (w : Bool) (L : List Int32) (i : Nat) : Int32 × Nat × Bool := if (w || !isD (mkW w L i)) = true then (0, i, true) else ((numG L 4 i 0).1, (numG L 4 i 0).2, false)
def rdW (w : Bool) (L : List Int32) (i : Nat) (c : Int32) : Bool := w || !decide (mkW w L i = c)
def rdR (w : Bool) (L : List Int32) (i : Nat) (c : Int32) : Int32 × Nat × Bool := nmR (rdW w L i c) L (if rdW w L i c = true then i else i + 1)
theorem mkC_in {L : List Int32} {i : Nat} {c : Int32} (h : mkC L i = c) (hc : c ≠ -1) : i < L.length := by
  unfold mkC at h
  cases hL : L[i]? with
  | none => rw [hL] at h; exact absurd h.symm hc
  | some x => exact lt_of_at hL
theorem mkC_D {L : List Int32} {i : Nat} (h : isD (mkC L i) = true) : i < L.length := by
  refine mkC_in rfl (fun q => ?_)
  rw [q] at h
  exact absurd h (by decide)
theorem numG_le {L : List Int32} {f i : Nat} {v : Int32} (h : i ≤ L.length) : i ≤ (numG L f i v).2 ∧ (numG L f i v).2 ≤ L.length := by
  induction f generalizing i v with
  | zero => exact ⟨Nat.le_refl _, h⟩
  | succ f ih =>
    unfold numG
    by_cases hd : isD (mkC L i) = true
    · rw [if_pos hd]
      have := ih (i := i + 1) (v := 10 * v + mkC L i - 48) (mkC_D hd)
      exact ⟨by omega, this.2⟩
    · rw [if_neg hd]; exact ⟨Nat.le_refl _, h⟩
theorem nmR_le {w : Bool} {L : List Int32} {i : Nat} (h : i ≤ L.length) : i ≤ (nmR w L i).2.1 ∧ (nmR w L i).2.1 ≤ L.length := by
  unfold nmR
  split
  · exact ⟨Nat.le_refl _, h⟩
  · exact numG_le h
theorem rdW_in {w : Bool} {L : List Int32} {i : Nat} {c : Int32} (hc : c ≠ -1) (h : rdW w L i c = false) : i < L.length := by
  unfold rdW at h
  rw [Bool.or_eq_false_iff] at h
  obtain ⟨h1, h2⟩ := h
  subst h1
  have h3 : mkW false L i = c := by simpa using h2
  exact mkC_in h3 hc
theorem rdR_le {w : Bool} {L : List Int32} {i : Nat} {c : Int32} (hc : c ≠ -1) (h : i ≤ L.length) : i ≤ (rdR w L i c).2.1 ∧ (rdR w L i c).2.1 ≤ L.length := by
  unfold rdR
  cases hw : rdW w L i c with
  | true => exact nmR_le h
  | false =>
    have := rdW_in hc hw
    have h2 := nmR_le (w := false) (L := L) (i := i + 1) this
    exact ⟨Nat.le_trans (Nat.le_succ i) h2.1, h2.2⟩
theorem b2i_fit (b : Bool) : fits .boolean (.int (b2i b)) = true := by cases b <;> rfl
theorem b2i_or (a b : Bool) : b2i a ||| b2i b = b2i (a || b) := by cases a <;> cases b <;> rfl
section TW18
variable {l : Launch} {E : g_E} {P : Outcome → g_G → Prop} {G : g_G} {m : Nat} {T : Tw} {L : List Int32} {i n : Nat} {w : Bool} {K A : Nat → Int32}
theorem tw_mark (hL : TxT T L) (hi : i ≤ L.length) (kk : P (.returned (some (.int (mkW w L i)))) (g_tG E G m (pT T i w n K A))) : g_Spc l E mX5_mark 0 [.ref m] (g_tG E G m (pT T i w n K A)) P := by
  obtain ⟨h1, h2, h3⟩ := hL
  refine V_intro (plainFor_of_name plX5) (Nat.le_of_ble_eq_true rfl) ?_
  refine V_aload_n dX5_mark_0 rfl (Or.inl ⟨_, rfl⟩) ?_
  refine V_get ckX5 tw0 22 (by decide) q2721 rfl rfl dX5_mark_1 ?_
  rw [show (pT T i w n K A).2 22 = b2i w from rfl]
  cases w with
  | true =>
    refine V_if_ne 30 dX5_mark_4 (by decide) (fun _ => ?_) (fun c4 => absurd c4 (show ¬ b2i true = 0 by decide))
    refine V_iconstv (-1) dX5_mark_30 (by decide) ?_
    refine V_ireturn dX5_mark_31 rfl ?_
    exact kk
  | false =>
    refine V_if_ne 30 dX5_mark_4 (by decide) (fun c4 => absurd c4 (show ¬ ¬ b2i false = 0 by decide)) (fun _ => ?_)
    refine V_aload_n dX5_mark_7 rfl (Or.inl ⟨_, rfl⟩) ?_
    refine V_get ckX5 tw0 20 (by decide) q2719 rfl rfl dX5_mark_8 ?_
    refine V_aload_n dX5_mark_11 rfl (Or.inl ⟨_, rfl⟩) ?_
    refine V_get ckX5 tw0 19 (by decide) q2718 rfl rfl dX5_mark_12 ?_
    rw [show (pT T i false n K A).2 20 = nI i from rfl, show (pT T i false n K A).2 19 = nI L.length from h1]
    by_cases hlt : i < L.length
    · have hc := List.getElem?_eq_getElem hlt
      refine V_icmp_ge 30 dX5_mark_15 (by decide) (fun c15 => absurd c15 (nI_ge hlt (by omega))) (fun _ => ?_)
      refine V_aload_n dX5_mark_18 rfl (Or.inl ⟨_, rfl⟩) ?_
      refine V_get ckX5 tw0 15 (by decide) q2714 rfl rfl dX5_mark_19 ?_
      refine V_aload_n dX5_mark_22 rfl (Or.inl ⟨_, rfl⟩) ?_
      refine V_get ckX5 tw0 20 (by decide) q2719 rfl rfl dX5_mark_23 ?_
      rw [show (pT T i false n K A).2 20 = nI i from rfl]
      refine tw_ld 9 (i) (by decide) (by decide) rfl (show _ < 60 from by omega) (by decide) dX5_mark_26 ?_
      rw [show (pT T i false n K A).1 9 i = L[i] from h3 i _ hc]
      refine V_goto 31 dX5_mark_27 (by decide) ?_
      refine V_ireturn dX5_mark_31 rfl ?_
      unfold mkW mkC at kk
      rw [if_neg (by decide), hc] at kk
      exact kk
    · refine V_icmp_ge 30 dX5_mark_15 (by decide) (fun _ => ?_) (fun c15 => absurd (nI_le (by omega) (by omega)) c15)
      refine V_iconstv (-1) dX5_mark_30 (by decide) ?_
      refine V_ireturn dX5_mark_31 rfl ?_
      unfold mkW mkC at kk
      rw [if_neg (by decide), List.getElem?_eq_none (by omega)] at kk
      exact kk
theorem tw_number (hm : g_B E ≤ m) (hL : TxT T L) (hi : i ≤ L.length) (kk : P (.returned (some (.int (nmR w L i).1))) (g_tG E G m (pT T (nmR w L i).2.1 (nmR w L i).2.2 n K A))) : g_Spc l E mX5_number 1 [.ref m] (g_tG E G m (pT T i w n K A)) P := by
  have hLl := hL.2.1
  refine V_intro (plainFor_of_name plX5) (Nat.le_of_ble_eq_true rfl) ?_
  refine V_aload_n dX5_number_0 rfl (Or.inl ⟨_, rfl⟩) ?_
  refine V_dup dX5_number_1 rfl ?_
  refine V_get ckX5 tw0 22 (by decide) q2721 rfl rfl dX5_number_2 ?_
  refine V_aload_n dX5_number_5 rfl (Or.inl ⟨_, rfl⟩) ?_
  refine V_callV (q := (RX5, TX5, 23)) kX5_mark q3239 q3241 qs104 tw0 rfl dX5_number_6 ?_ (d' := 0) (as := []) (hst := rfl)
  refine (tw_mark hL hi ?_)
  refine V_bipushv 48 dX5_number_9 (by decide) ?_
  refine V_bipushv 57 dX5_number_11 (by decide) ?_
  refine V_callS kX5_in q2791 q2792 dX5_number_13 ?_ (d' := 0) (as := [_, _, _]) (hst := rfl)
  refine (tw_in ?_)
  rw [show (pT T i w n K A).2 22 = b2i w from rfl]
  have fin : ∀ b : Bool, b = !isD (mkW w L i) → V l E mX5_number 1 P 24 [(0, .ref m)] [.int (b2i b), .int (b2i w), .ref m] (g_tG E G m (pT T i w n K A)) := by
    intro b hb
    refine V_ior dX5_number_24 ?_
    rw [b2i_or]
    refine tw_putI 22 hm (by decide) q2721 rfl rfl (b2i_nar _) (b2i_fit _) rfl dX5_number_25 ?_
    rw [pT_wr rfl, hb]
    unfold nmR at kk
    cases hw : (w || !isD (mkW w L i)) with
    | true =>
      rw [if_pos hw] at kk
      refine V_iconstv 0 dX5_number_28 (by decide) ?_
      refine V_istore_n dX5_number_29 (by decide) ?_
      refine V_iconstv 0 dX5_number_30 (by decide) ?_
      refine V_istore_n dX5_number_31 (by decide) ?_
      refine V_iload_n dX5_number_32 rfl ?_
      refine V_iconstv 4 dX5_number_33 (by decide) ?_
      refine V_icmp_ge 85 dX5_number_34 (by decide) (fun c34 => absurd c34 (by decide)) (fun _ => ?_)
      refine V_aload_n dX5_number_37 rfl (Or.inl ⟨_, rfl⟩) ?_
      refine V_callV (q := (RX5, TX5, 23)) kX5_mark q3239 q3241 qs104 tw0 rfl dX5_number_38 ?_ (d' := 0) (as := []) (hst := rfl)
      refine (tw_mark hL hi ?_)
      refine V_bipushv 48 dX5_number_41 (by decide) ?_
      refine V_bipushv 57 dX5_number_43 (by decide) ?_
      refine V_callS kX5_in q2791 q2792 dX5_number_45 ?_ (d' := 0) (as := [_, _, _]) (hst := rfl)
      refine (tw_in ?_)
      refine V_if_eq 85 dX5_number_48 (by decide) (fun _ => ?_) (fun c48 => absurd (show b2i (isb (-1) 48 57) = 0 by decide) c48)
      refine V_iload_n dX5_number_85 rfl ?_
      refine V_ireturn dX5_number_86 rfl ?_
      exact kk
    | false =>
      rw [if_neg (by rw [hw]; decide)] at kk
      have loop : ∀ f k, k + f = 4 → ∀ (j : Nat) (v : Int32), j ≤ L.length → numG L f j v = numG L 4 i 0 → V l E mX5_number 1 P 32 [(0, .ref m), (1, .int v), (2, .int (nI k))] [] (g_tG E G m (pT T j false n K A)) := by
        intro f
        induction f with
        | zero =>
          intro k hk j v hj he
          have he : (v, j) = numG L 4 i 0 := he
          rw [← he] at kk
          have : k = 4 := by omega
          subst this
          refine V_iload_n dX5_number_32 rfl ?_
          refine V_iconstv 4 dX5_number_33 (by decide) ?_
          refine V_icmp_ge 85 dX5_number_34 (by decide) (fun _ => ?_) (fun c34 => absurd (by decide) c34)
          refine V_iload_n dX5_number_85 rfl ?_
          refine V_ireturn dX5_number_86 rfl ?_
          exact kk
        | succ f ih =>
          intro k hk j v hj he
          have he : (if isD (mkC L j) = true then numG L f (j + 1) (10 * v + mkC L j - 48) else (v, j)) = numG L 4 i 0 := he
          refine V_iload_n dX5_number_32 rfl ?_
          refine V_iconstv 4 dX5_number_33 (by decide) ?_
          refine V_icmp_ge 85 dX5_number_34 (by decide) (fun c34 => absurd c34 (fun z => absurd ((nI_leI (a := 4) (by decide) (by omega)).mp z) (by omega))) (fun _ => ?_)
          refine V_aload_n dX5_number_37 rfl (Or.inl ⟨_, rfl⟩) ?_
          refine V_callV (q := (RX5, TX5, 23)) kX5_mark q3239 q3241 qs104 tw0 rfl dX5_number_38 ?_ (d' := 0) (as := []) (hst := rfl)
          refine (tw_mark hL hj ?_)
          refine V_bipushv 48 dX5_number_41 (by decide) ?_
          refine V_bipushv 57 dX5_number_43 (by decide) ?_
          refine V_callS kX5_in q2791 q2792 dX5_number_45 ?_ (d' := 0) (as := [_, _, _]) (hst := rfl)
          refine (tw_in ?_)
          cases hd : isD (mkC L j) with
          | false =>
            rw [if_neg (by rw [hd]; decide)] at he
            rw [← he] at kk
            refine V_if_eq 85 dX5_number_48 (by decide) (fun _ => ?_) (fun c48 => absurd (show b2i (isb (mkW false L j) 48 57) = 0 from b2i_z hd) c48)
            refine V_iload_n dX5_number_85 rfl ?_
            refine V_ireturn dX5_number_86 rfl ?_
            exact kk
          | true =>
            rw [if_pos hd] at he
            have hj2 := mkC_D hd
            have hc := List.getElem?_eq_getElem hj2
            have em : mkC L j = L[j] := by unfold mkC; rw [hc]; rfl
            refine V_if_eq 85 dX5_number_48 (by decide) (fun c48 => absurd c48 (show ¬ b2i (isb (mkW false L j) 48 57) = 0 from b2i_ne hd)) (fun _ => ?_)
            refine V_bipushv 10 dX5_number_51 (by decide) ?_
            refine V_iload_n dX5_number_53 rfl ?_
            refine V_imul dX5_number_54 ?_
            refine V_aload_n dX5_number_55 rfl (Or.inl ⟨_, rfl⟩) ?_
            refine V_get ckX5 tw0 15 (by decide) q2714 rfl rfl dX5_number_56 ?_
            refine V_aload_n dX5_number_59 rfl (Or.inl ⟨_, rfl⟩) ?_
            refine V_get ckX5 tw0 20 (by decide) q2719 rfl rfl dX5_number_60 ?_
            rw [show (pT T j false n K A).2 20 = nI j from rfl]
            refine tw_ld 9 (j) (by decide) (by decide) rfl (show _ < 60 from by omega) (by decide) dX5_number_63 ?_
            rw [show (pT T j false n K A).1 9 j = mkC L j from (hL.2.2 j _ hc).trans em.symm]
            refine V_iadd dX5_number_64 ?_
            refine V_bipushv 48 dX5_number_65 (by decide) ?_
            refine V_isub dX5_number_67 ?_
            refine V_istore_n dX5_number_68 (by decide) ?_
            refine V_aload_n dX5_number_69 rfl (Or.inl ⟨_, rfl⟩) ?_
            refine V_dup dX5_number_70 rfl ?_
            refine V_get ckX5 tw0 20 (by decide) q2719 rfl rfl dX5_number_71 ?_
            refine V_iconstv 1 dX5_number_74 (by decide) ?_
            rw [show (pT T j false n K A).2 20 = nI j from rfl]
            refine V_iadd dX5_number_75 ?_
            refine tw_putI 20 hm (by decide) q2719 rfl rfl rfl rfl rfl dX5_number_76 ?_
            rw [pT_pos (show nI j + 1 = nI (j + 1) from nI_1 j)]
            refine V_iinc dX5_number_79 rfl (by decide) ?_
            refine V_goto 32 dX5_number_82 (by decide) ?_
            refine V_sub (L' := [(0, .ref m), (1, .int (10 * v + mkC L j - 48)), (2, .int (nI k + Int32.ofInt 1))]) ⟨rfl, rfl, rfl, trivial⟩ ?_
            rw [show nI k + Int32.ofInt 1 = nI (k + 1) from nI_1 k]
            exact ih (k + 1) (by omega) (j + 1) _ hj2 he
      refine V_iconstv 0 dX5_number_28 (by decide) ?_
      refine V_istore_n dX5_number_29 (by decide) ?_
      refine V_iconstv 0 dX5_number_30 (by decide) ?_
      refine V_istore_n dX5_number_31 (by decide) ?_
      refine V_sub (L' := [(0, .ref m), (1, .int 0), (2, .int (nI 0))]) ⟨rfl, rfl, rfl, trivial⟩ ?_
      exact loop 4 0 rfl i 0 hi rfl
  cases hd : isD (mkW w L i) with
  | true =>
    refine V_if_ne 23 dX5_number_16 (by decide) (fun _ => ?_) (fun c16 => absurd c16 (b2i_ne hd))
    refine V_iconstv 0 dX5_number_23 (by decide) ?_
    exact V_subk (fin false (by rw [hd]; rfl)) ⟨rfl, trivial⟩
  | false =>
    refine V_if_ne 23 dX5_number_16 (by decide) (fun c16 => absurd c16 (fun q => q (b2i_z hd))) (fun _ => ?_)
    refine V_iconstv 1 dX5_number_19 (by decide) ?_
    refine V_goto 24 dX5_number_20 (by decide) ?_
    exact V_subk (fin true (by rw [hd]; rfl)) ⟨rfl, trivial⟩
theorem tw_reads {c x : Int32} {o : Nat} (hm : g_B E ≤ m) (hL : TxT T L) (hi : i ≤ L.length) (hc : c ≠ -1) (hx : x = nI o) (ho : o < 8) (hn : n < 32) (kk : P (.returned none) (g_tG E G m (pT T (rdR w L i c).2.1 (rdR w L i c).2.2 n K (upd A (8 * n + o) (rdR w L i c).1)))) : g_Spc l E mX5_reads 2 [.ref m, .int c, .int x] (g_tG E G m (pT T i w n K A)) P := by
  subst hx
  have hLl := hL.2.1
  refine V_intro (plainFor_of_name plX5) (Nat.le_of_ble_eq_true rfl) ?_
  refine V_aload_n dX5_reads_0 rfl (Or.inl ⟨_, rfl⟩) ?_
  refine V_dup dX5_reads_1 rfl ?_
  refine V_get ckX5 tw0 22 (by decide) q2721 rfl rfl dX5_reads_2 ?_
  refine V_aload_n dX5_reads_5 rfl (Or.inl ⟨_, rfl⟩) ?_
  refine V_callV (q := (RX5, TX5, 23)) kX5_mark q3239 q3241 qs104 tw0 rfl dX5_reads_6 ?_ (d' := 0) (as := []) (hst := rfl)
  refine (tw_mark hL hi ?_)
  refine V_iload_n dX5_reads_9 rfl ?_
  rw [show (pT T i w n K A).2 22 = b2i w from rfl]
  have fin : ∀ b : Bool, b = !decide (mkW w L i = c) → V l E mX5_reads 2 P 18 [(0, .ref m), (1, .int c), (2, .int (nI o))] [.int (b2i b), .int (b2i w), .ref m] (g_tG E G m (pT T i w n K A)) := by
    intro b hb
    refine V_ior dX5_reads_18 ?_
    rw [b2i_or]
    refine tw_putI 22 hm (by decide) q2721 rfl rfl (b2i_nar _) (b2i_fit _) rfl dX5_reads_19 ?_
    rw [pT_wr rfl, hb]
    rw [show (w || !decide (mkW w L i = c)) = rdW w L i c from rfl]
    have go : ∀ j, j = (if rdW w L i c = true then i else i + 1) → j ≤ L.length → V l E mX5_reads 2 P 43 [(0, .ref m), (1, .int c), (2, .int (nI o))] [] (g_tG E G m (pT T j (rdW w L i c) n K A)) := by
      intro j hj hjl
      refine V_aload_n dX5_reads_43 rfl (Or.inl ⟨_, rfl⟩) ?_
      refine V_get ckX5 tw0 17 (by decide) q2716 rfl rfl dX5_reads_44 ?_
      refine V_bipushv 8 dX5_reads_47 (by decide) ?_
      refine V_aload_n dX5_reads_49 rfl (Or.inl ⟨_, rfl⟩) ?_
      refine V_get ckX5 tw0 21 (by decide) q2720 rfl rfl dX5_reads_50 ?_
      rw [show (pT T j (rdW w L i c) n K A).2 21 = nI n from rfl]
      refine V_imul dX5_reads_53 ?_
      rw [show (8 : Int32) * nI n = nI (8 * n) by rw [← nI_mul]; rfl]
      refine V_iload_n dX5_reads_54 rfl ?_
      refine V_iadd dX5_reads_55 ?_
      refine V_aload_n dX5_reads_56 rfl (Or.inl ⟨_, rfl⟩) ?_
      refine V_callV (q := (RX5, TX5, 23)) kX5_number q3243 q3245 qs105 tw0 rfl dX5_reads_57 ?_ (d' := 1) (as := []) (hst := rfl)
      refine (tw_number hm hL hjl ?_)
      refine tw_st 11 (8 * n + o) hm (by decide) (by decide) (nI_add _ _) (show _ < 256 from by omega) (by decide) dX5_reads_60 ?_
      rw [pT_A]
      refine V_return dX5_reads_61 rfl ?_
      subst hj
      exact kk
    refine V_aload_n dX5_reads_22 rfl (Or.inl ⟨_, rfl⟩) ?_
    refine V_dup dX5_reads_23 rfl ?_
    refine V_get ckX5 tw0 20 (by decide) q2719 rfl rfl dX5_reads_24 ?_
    refine V_aload_n dX5_reads_27 rfl (Or.inl ⟨_, rfl⟩) ?_
    refine V_get ckX5 tw0 22 (by decide) q2721 rfl rfl dX5_reads_28 ?_
    rw [show (pT T i (rdW w L i c) n K A).2 20 = nI i from rfl, show (pT T i (rdW w L i c) n K A).2 22 = b2i (rdW w L i c) from rfl]
    cases hw : rdW w L i c with
    | true =>
      rw [hw] at go
      refine V_if_eq 38 dX5_reads_31 (by decide) (fun c31 => absurd c31 (show ¬ b2i true = 0 by decide)) (fun _ => ?_)
      refine V_iconstv 0 dX5_reads_34 (by decide) ?_
      refine V_goto 39 dX5_reads_35 (by decide) ?_
      refine V_iadd dX5_reads_39 ?_
      rw [show nI i + 0 = nI i from Int32.add_zero _]
      refine tw_putI 20 hm (by decide) q2719 rfl rfl rfl rfl rfl dX5_reads_40 ?_
      rw [pT_pos rfl]
      exact go i (if_pos rfl).symm hi
    | false =>
      have hlt := rdW_in hc hw
      rw [hw] at go
      refine V_if_eq 38 dX5_reads_31 (by decide) (fun _ => ?_) (fun c31 => absurd rfl c31)
      refine V_iconstv 1 dX5_reads_38 (by decide) ?_
      refine V_iadd dX5_reads_39 ?_
      rw [show nI i + 1 = nI (i + 1) from nI_1 i]
      refine tw_putI 20 hm (by decide) q2719 rfl rfl rfl rfl rfl dX5_reads_40 ?_
      rw [pT_pos rfl]
      exact go (i + 1) (if_neg (by decide)).symm hlt
  by_cases he : mkW w L i = c
  · refine V_icmp_eq 17 dX5_reads_10 (by decide) (fun _ => ?_) (fun c10 => absurd he c10)
    refine V_iconstv 0 dX5_reads_17 (by decide) ?_
    exact V_subk (fin false (by rw [decide_eq_true he]; rfl)) ⟨rfl, rfl, rfl, trivial⟩
  · refine V_icmp_eq 17 dX5_reads_10 (by decide) (fun c10 => absurd c10 he) (fun _ => ?_)
    refine V_iconstv 1 dX5_reads_13 (by decide) ?_
    refine V_goto 18 dX5_reads_14 (by decide) ?_
    exact V_subk (fin true (by rw [decide_eq_false he]; rfl)) ⟨rfl, rfl, rfl, trivial⟩
end TW18
