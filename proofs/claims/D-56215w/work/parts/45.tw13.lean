/-! REFERENCE 12: settlements, what is given -/
set_option maxRecDepth 100000
/-- the colours taken before report k; its place -/
def stA (o : Of) : Nat → Nat
  | 0 => 0
  | k + 1 => stN (stA o k) (chc o (o.2.1.drop k) (stA o k))
def chA (o : Of) (k : Nat) : Option Nat := chc o (o.2.1.drop k) (stA o k)
theorem chF_lt {o : Of} {nx : Nat → Int32} {v : Int32} {r : Rw} {S i j : Nat} {L : List Rw} (h : chF o nx v r S i L = some j) : i ≤ j ∧ j < i + L.length := by
  induction L generalizing i with
  | nil => cases h
  | cons c t ih =>
    unfold chF at h
    by_cases e : S.testBit i = false ∧ fitO o r c = true ∧ gn o r c + nx (S ||| 2 ^ i) = v
    · rw [if_pos e] at h
      cases h
      exact ⟨Nat.le_refl _, by show j < j + (t.length + 1); omega⟩
    · rw [if_neg e] at h
      have := ih h
      exact ⟨by omega, by show j < i + (t.length + 1); omega⟩
theorem chc_lt {o : Of} {rs : List Rw} {S j : Nat} (h : chc o rs S = some j) : j < o.1.length := by
  cases rs with
  | nil => cases h
  | cons r t => have := chF_lt h; omega
theorem stA_lt {o : Of} {k : Nat} : stA o k < 2 ^ o.1.length := by
  induction k with
  | zero => exact Nat.pow_pos (by decide)
  | succ k ih =>
    show stN (stA o k) (chc o (o.2.1.drop k) (stA o k)) < _
    cases h : chc o (o.2.1.drop k) (stA o k) with
    | none => exact ih
    | some j => exact sb_set ih (chc_lt h)
/-- the pairs that are given: report's id, colour's id -/
def prA (o : Of) : Nat → List (Int32 × Int32)
  | 0 => []
  | k + 1 => prA o k ++ (match chA o k with
    | none => []
    | some j => [((rwAt o.2.1 k).1, (rwAt o.1 j).1)])
def gv1 (o : Of) (p : Int32 × Int32) : Of := match plc p.1 o.2.1, plc p.2 o.1 with
  | some k, some j => ofGive o k j
  | _, _ => o
def gvL (o : Of) (L : List (Int32 × Int32)) : Of := L.foldl gv1 o
def gvOK : Of → List (Int32 × Int32) → Prop
  | _, [] => True
  | o, p :: t => (∃ k j, plc p.1 o.2.1 = some k ∧ plc p.2 o.1 = some j) ∧ gvOK (gv1 o p) t
def prs (o : Of) : List (Int32 × Int32) := prA o o.2.1.length
theorem prA_len {o : Of} {k : Nat} : (prA o k).length ≤ k := by
  induction k with
  | zero => exact Nat.le_refl _
  | succ k ih =>
    unfold prA
    rw [List.length_append]
    cases chA o k with
    | none => show _ + 0 ≤ _; omega
    | some j => show _ + 1 ≤ _; omega
def twG (T : Tw) (F5 F6 F7 : Nat → Int32) : Tw := twA (twA (twA T 5 F5) 6 F6) 7 F7
theorem twG6 {T : Tw} {F5 F6 F7 X : Nat → Int32} : twA (twG T F5 F6 F7) 6 X = twG T F5 X F7 := by
  refine Prod.ext (funext fun b => ?_) rfl
  show (if b = 6 then X else if b = 7 then F7 else if b = 6 then F6 else _) = (if b = 7 then F7 else if b = 6 then X else _)
  by_cases h6 : b = 6
  · subst h6; rfl
  · rw [if_neg h6, if_neg h6, if_neg h6]
theorem twG7 {T : Tw} {F5 F6 F7 X : Nat → Int32} : twA (twG T F5 F6 F7) 7 X = twG T F5 F6 X := twA_twA
theorem twG_5 {T : Tw} {F5 F6 F7 : Nat → Int32} : (twG T F5 F6 F7).1 5 = F5 := (show (twA T 5 F5).1 5 = F5 from twA_at)
theorem twG_6 {T : Tw} {F5 F6 F7 : Nat → Int32} : (twG T F5 F6 F7).1 6 = F6 := (show (twA (twA T 5 F5) 6 F6).1 6 = F6 from twA_at)
theorem twG_7 {T : Tw} {F5 F6 F7 : Nat → Int32} : (twG T F5 F6 F7).1 7 = F7 := twA_at
section TW13
variable {l : Launch} {E : g_E} {P : Outcome → g_G → Prop} {G : g_G} {m : Nat} {T : Tw} {o : Of}
theorem tw_settled {x : Int32} {k : Nat} {r : Rw} (h : TwO (T.1 1) o) (hB : TwB (T.1 5) o 0) (hx : x = nI k) (hk : o.2.1[k]? = some r) (kk : P (.returned (some (.int (plI (chA o k))))) (g_tG E G m T)) : g_Spc l E mX5_settled 5 [.ref m, .int x] (g_tG E G m T) P := by
  subst hx
  have b1 := h.1
  have b2 := h.2.1
  have hkl := lt_of_at hk
  have p10 := sb_p10 b1
  refine V_intro (plainFor_of_name plX5) (Nat.le_of_ble_eq_true rfl) ?_
  have loop : ∀ i, i ≤ k → V l E mX5_settled 5 P 4 [(0, .ref m), (1, .int (nI k)), (2, .int (nI (stA o i))), (3, .int (nI i))] [] (g_tG E G m T) := by
    refine down k ?_ ?_
    · refine V_iload_n dX5_settled_4 rfl ?_
      refine V_iload_n dX5_settled_5 rfl ?_
      refine V_icmp_ge 39 dX5_settled_6 (by decide) (fun _ => ?_) (fun c6 => absurd (Int32.le_refl _) c6)
      refine V_aload_n dX5_settled_39 rfl (Or.inl ⟨_, rfl⟩) ?_
      refine V_iload_n dX5_settled_40 rfl ?_
      refine V_iload_n dX5_settled_41 rfl ?_
      refine V_callV (q := (RX5, TX5, 23)) kX5_choice q2935 q2937 qs75 tw0 rfl dX5_settled_42 ?_ (d' := 4) (as := [_, _]) (hst := rfl)
      refine (tw_choice (k := k) (S := stA o k) h hB rfl rfl hk stA_lt ?_)
      refine V_ireturn dX5_settled_45 rfl ?_
      exact kk
    · intro i hi ih
      obtain ⟨ri, hri, -⟩ := drop_at (show i < o.2.1.length by omega)
      refine V_iload_n dX5_settled_4 rfl ?_
      refine V_iload_n dX5_settled_5 rfl ?_
      refine V_icmp_ge 39 dX5_settled_6 (by decide) (fun c6 => absurd c6 (nI_ge hi (by omega))) (fun _ => ?_)
      refine V_iload_n dX5_settled_9 rfl ?_
      refine V_aload_n dX5_settled_10 rfl (Or.inl ⟨_, rfl⟩) ?_
      refine V_iload_n dX5_settled_11 rfl ?_
      refine V_iload_n dX5_settled_12 rfl ?_
      refine V_callV (q := (RX5, TX5, 23)) kX5_choice q2935 q2937 qs75 tw0 rfl dX5_settled_13 ?_ (d' := 4) (as := [_, _]) (hst := rfl)
      refine (tw_choice (k := i) (S := stA o i) h hB rfl rfl hri stA_lt ?_)
      have eS : stA o (i + 1) = stN (stA o i) (chc o (o.2.1.drop i) (stA o i)) := rfl
      cases hc : chc o (o.2.1.drop i) (stA o i) with
      | none =>
        rw [eS, hc] at ih
        refine V_if_ge 23 dX5_settled_16 (by decide) (fun c16 => absurd c16 (show ¬ 0 ≤ plI none by decide)) (fun _ => ?_)
        refine V_iconstv 0 dX5_settled_19 (by decide) ?_
        refine V_goto 31 dX5_settled_20 (by decide) ?_
        refine V_ior dX5_settled_31 ?_
        rw [show nI (stA o i) ||| 0 = nI (stA o i) from by rw [show (0 : Int32) = nI 0 from rfl, nx_or, Nat.or_zero]]
        refine V_istore_n dX5_settled_32 (by decide) ?_
        refine V_iinc dX5_settled_33 rfl (by decide) ?_
        refine V_goto 4 dX5_settled_36 (by decide) ?_
        refine V_sub (L' := [(0, .ref m), (1, .int (nI k)), (2, .int (nI (stA o i))), (3, .int (nI i + Int32.ofInt 1))]) ⟨rfl, rfl, rfl, rfl, trivial⟩ ?_
        rw [show nI i + Int32.ofInt 1 = nI (i + 1) from nI_1 i]
        exact ih
      | some j =>
        have hj := chc_lt hc
        rw [eS, hc] at ih
        refine V_if_ge 23 dX5_settled_16 (by decide) (fun _ => ?_) (fun c16 => absurd (Int32.not_lt.mp (nI_pos (show j < 2 ^ 31 by omega))) c16)
        refine V_iconstv 1 dX5_settled_23 (by decide) ?_
        refine V_aload_n dX5_settled_24 rfl (Or.inl ⟨_, rfl⟩) ?_
        refine V_iload_n dX5_settled_25 rfl ?_
        refine V_iload_n dX5_settled_26 rfl ?_
        refine V_callV (q := (RX5, TX5, 23)) kX5_choice q2935 q2937 qs75 tw0 rfl dX5_settled_27 ?_ (d' := 4) (as := [_, _]) (hst := rfl)
        refine (tw_choice (k := i) (S := stA o i) h hB rfl rfl hri stA_lt ?_)
        rw [hc]
        refine V_ishl dX5_settled_30 ?_
        rw [show (1 : Int32) <<< (plI (some j) &&& 31) = nI (2 ^ j) from sb_shl j (by omega)]
        refine V_ior dX5_settled_31 ?_
        rw [nx_or]
        refine V_istore_n dX5_settled_32 (by decide) ?_
        refine V_iinc dX5_settled_33 rfl (by decide) ?_
        refine V_goto 4 dX5_settled_36 (by decide) ?_
        refine V_sub (L' := [(0, .ref m), (1, .int (nI k)), (2, .int (nI (stA o i ||| 2 ^ j))), (3, .int (nI i + Int32.ofInt 1))]) ⟨rfl, rfl, rfl, rfl, trivial⟩ ?_
        rw [show nI i + Int32.ofInt 1 = nI (i + 1) from nI_1 i]
        exact ih
  refine V_iconstv 0 dX5_settled_0 (by decide) ?_
  refine V_istore_n dX5_settled_1 (by decide) ?_
  refine V_iconstv 0 dX5_settled_2 (by decide) ?_
  refine V_istore_n dX5_settled_3 (by decide) ?_
  refine V_sub (L' := [(0, .ref m), (1, .int (nI k)), (2, .int (nI (stA o 0))), (3, .int (nI 0))]) ⟨rfl, rfl, rfl, rfl, trivial⟩ ?_
  exact loop 0 (Nat.zero_le _)
theorem tw_settleAll (hm : g_B E ≤ m) (h : TwO (T.1 1) o) (hg : gvOK o (prs o)) (kk : ∀ F5 F6 F7 F, TwO F (gvL o (prs o)) → P (.returned (some (.int (nI (prs o).length)))) (g_tG E G m (twA (twG T F5 F6 F7) 1 F))) : g_Spc l E mX5_settleAll 6 [.ref m] (g_tG E G m T) P := by
  have b1 := h.1
  have b2 := h.2.1
  have e1 : T.1 1 1 = nI o.2.1.length := h.2.2.2.1
  refine V_intro (plainFor_of_name plX5) (Nat.le_of_ble_eq_true rfl) ?_
  refine V_aload_n dX5_settleAll_0 rfl (Or.inl ⟨_, rfl⟩) ?_
  refine V_callV (q := (RX5, TX5, 23)) kX5_settling q2922 q2924 qs72 tw0 rfl dX5_settleAll_1 ?_ (d' := 4) (as := []) (hst := rfl)
  refine (tw_settling hm h (fun F5 hB => ?_))
  refine V_istore_n dX5_settleAll_4 (by decide) ?_
  have hO : ∀ F6 F7, TwO ((twG T F5 F6 F7).1 1) o := fun _ _ => h
  have hB' : ∀ F6 F7, TwB ((twG T F5 F6 F7).1 5) o 0 := fun F6 F7 => by
    rw [twG_5]
    exact hB
  have hp6 : (prs o).length ≤ 6 := Nat.le_trans prA_len b2
  have loop2 : ∀ F6 F7, (∀ i p, (prs o)[i]? = some p → F6 i = p.1 ∧ F7 i = p.2) → ∀ i, i ≤ (prs o).length → ∀ F oi, TwO F oi → gvOK oi ((prs o).drop i) → gvL oi ((prs o).drop i) = gvL o (prs o) → V l E mX5_settleAll 6 P 69 [(0, .ref m), (2, .int (nI (prs o).length)), (3, .int (nI i))] [] (g_tG E G m (twA (twG T F5 F6 F7) 1 F)) := by
    intro F6 F7 hF
    refine down (prs o).length ?_ ?_
    · intro F oi h1 h2 h3
      rw [List.drop_length] at h3
      have h3 : oi = gvL o (prs o) := h3
      subst h3
      refine V_iload_n dX5_settleAll_69 rfl ?_
      refine V_iload_n dX5_settleAll_70 rfl ?_
      refine V_icmp_ge 97 dX5_settleAll_71 (by decide) (fun _ => ?_) (fun c71 => absurd (Int32.le_refl _) c71)
      refine V_iload_n dX5_settleAll_97 rfl ?_
      refine V_ireturn dX5_settleAll_98 rfl ?_
      exact kk _ _ _ F h1
    · intro i hi ih F oi h1 h2 h3
      obtain ⟨p, hp, hd⟩ := drop_at hi
      rw [hd] at h2 h3
      obtain ⟨⟨k, j, hk, hj⟩, h5⟩ := h2
      obtain ⟨q1, q2⟩ := hF i p hp
      refine V_iload_n dX5_settleAll_69 rfl ?_
      refine V_iload_n dX5_settleAll_70 rfl ?_
      refine V_icmp_ge 97 dX5_settleAll_71 (by decide) (fun c71 => absurd c71 (nI_ge hi (by omega))) (fun _ => ?_)
      refine V_aload_n dX5_settleAll_74 rfl (Or.inl ⟨_, rfl⟩) ?_
      refine V_aload_n dX5_settleAll_75 rfl (Or.inl ⟨_, rfl⟩) ?_
      refine V_get ckX5 tw0 11 (by decide) q2710 rfl rfl dX5_settleAll_76 ?_
      refine V_iload_n dX5_settleAll_79 rfl ?_
      refine tw_ld 6 (i) (by decide) (by decide) rfl (show _ < 6 from by omega) (by decide) dX5_settleAll_80 ?_
      refine V_aload_n dX5_settleAll_81 rfl (Or.inl ⟨_, rfl⟩) ?_
      refine V_get ckX5 tw0 12 (by decide) q2711 rfl rfl dX5_settleAll_82 ?_
      refine V_iload_n dX5_settleAll_85 rfl ?_
      refine tw_ld 7 (i) (by decide) (by decide) rfl (show _ < 6 from by omega) (by decide) dX5_settleAll_86 ?_
      rw [show (twA (twG T F5 F6 F7) 1 F).1 6 i = p.1 from (show (twG T F5 F6 F7).1 6 i = p.1 by rw [twG_6]; exact q1), show (twA (twG T F5 F6 F7) 1 F).1 7 i = p.2 from (show (twG T F5 F6 F7).1 7 i = p.2 by rw [twG_7]; exact q2)]
      refine V_callV (q := (RX5, TX5, 23)) kX5_gives q2910 q2912 qs70 tw0 rfl dX5_settleAll_87 ?_ (d' := 3) (as := [_, _]) (hst := rfl)
      refine (tw_gives (o := oi) hm (show TwO ((twA (twG T F5 F6 F7) 1 F).1 1) oi by rw [twA_at]; exact h1) hk hj (fun F2 hF2 => ?_))
      refine V_istore_n dX5_settleAll_90 (by decide) ?_
      refine V_iinc dX5_settleAll_91 rfl (by decide) ?_
      refine V_goto 69 dX5_settleAll_94 (by decide) ?_
      refine V_sub (L' := [(0, .ref m), (2, .int (nI (prs o).length)), (3, .int (nI i + Int32.ofInt 1))]) ⟨rfl, rfl, rfl, trivial⟩ ?_
      rw [show nI i + Int32.ofInt 1 = nI (i + 1) from nI_1 i, twA_twA]
      have e : gv1 oi p = ofGive oi k j := by unfold gv1; rw [hk, hj]
      refine ih F2 _ hF2 ?_ ?_
      · rw [← e]; exact h5
      · rw [← e]; exact h3
  have loop1 : ∀ k, k ≤ o.2.1.length → ∀ F6 F7, (∀ i p, (prA o k)[i]? = some p → F6 i = p.1 ∧ F7 i = p.2) → V l E mX5_settleAll 6 P 9 [(0, .ref m), (2, .int (nI (prA o k).length)), (3, .int (nI k))] [] (g_tG E G m (twG T F5 F6 F7)) := by
    refine down o.2.1.length ?_ ?_
    · intro F6 F7 hF
      refine V_iload_n dX5_settleAll_9 rfl ?_
      refine V_aload_n dX5_settleAll_10 rfl (Or.inl ⟨_, rfl⟩) ?_
      refine V_get ckX5 tw0 0 (by decide) q2699 rfl rfl dX5_settleAll_11 ?_
      refine V_iconstv 1 dX5_settleAll_14 (by decide) ?_
      refine tw_ld 1 (1) (by decide) (by decide) rfl (show _ < 136 from by omega) (by decide) dX5_settleAll_15 ?_
      rw [show (twG T F5 F6 F7).1 1 1 = nI o.2.1.length from e1]
      refine V_icmp_ge 67 dX5_settleAll_16 (by decide) (fun _ => ?_) (fun c16 => absurd (Int32.le_refl _) c16)
      refine V_iconstv 0 dX5_settleAll_67 (by decide) ?_
      refine V_istore_n dX5_settleAll_68 (by decide) ?_
      refine V_sub (L' := [(0, .ref m), (2, .int (nI (prs o).length)), (3, .int (nI 0))]) ⟨rfl, rfl, rfl, trivial⟩ ?_
      have := loop2 F6 F7 hF 0 (Nat.zero_le _) (T.1 1) o h (by rw [List.drop_zero]; exact hg) (by rw [List.drop_zero])
      rw [show twA (twG T F5 F6 F7) 1 (T.1 1) = twG T F5 F6 F7 from twA_self (T := twG T F5 F6 F7) (a := 1)] at this
      exact this
    · intro k hk ih F6 F7 hF
      obtain ⟨r, hr, -⟩ := drop_at hk
      have hl := prA_len (o := o) (k := k)
      refine V_iload_n dX5_settleAll_9 rfl ?_
      refine V_aload_n dX5_settleAll_10 rfl (Or.inl ⟨_, rfl⟩) ?_
      refine V_get ckX5 tw0 0 (by decide) q2699 rfl rfl dX5_settleAll_11 ?_
      refine V_iconstv 1 dX5_settleAll_14 (by decide) ?_
      refine tw_ld 1 (1) (by decide) (by decide) rfl (show _ < 136 from by omega) (by decide) dX5_settleAll_15 ?_
      rw [show (twG T F5 F6 F7).1 1 1 = nI o.2.1.length from e1]
      refine V_icmp_ge 67 dX5_settleAll_16 (by decide) (fun c16 => absurd c16 (nI_ge hk (by omega))) (fun _ => ?_)
      refine V_aload_n dX5_settleAll_19 rfl (Or.inl ⟨_, rfl⟩) ?_
      refine V_iload_n dX5_settleAll_20 rfl ?_
      refine V_callV (q := (RX5, TX5, 23)) kX5_settled q2931 q2933 qs74 tw0 rfl dX5_settleAll_21 ?_ (d' := 5) (as := [_]) (hst := rfl)
      refine (tw_settled (k := k) (hO F6 F7) (hB' F6 F7) rfl hr ?_)
      have eP : prA o (k + 1) = prA o k ++ (match chA o k with
        | none => []
        | some j => [((rwAt o.2.1 k).1, (rwAt o.1 j).1)]) := rfl
      cases hc : chA o k with
      | none =>
        rw [hc] at eP
        have eP : prA o (k + 1) = prA o k ++ [] := eP
        rw [List.append_nil] at eP
        rw [eP] at ih
        refine V_if_ge 30 dX5_settleAll_24 (by decide) (fun c24 => absurd c24 (show ¬ 0 ≤ plI none by decide)) (fun _ => ?_)
        refine V_goto 61 dX5_settleAll_27 (by decide) ?_
        refine V_iinc dX5_settleAll_61 rfl (by decide) ?_
        refine V_goto 9 dX5_settleAll_64 (by decide) ?_
        refine V_sub (L' := [(0, .ref m), (2, .int (nI (prA o k).length)), (3, .int (nI k + Int32.ofInt 1))]) ⟨rfl, rfl, rfl, trivial⟩ ?_
        rw [show nI k + Int32.ofInt 1 = nI (k + 1) from nI_1 k]
        exact ih F6 F7 hF
      | some j =>
        have hj := chc_lt hc
        rw [hc] at eP
        have eP : prA o (k + 1) = prA o k ++ [((rwAt o.2.1 k).1, (rwAt o.1 j).1)] := eP
        rw [eP, rwAt_of hr] at ih
        have hF' : ∀ i p, (prA o k ++ [(r.1, (rwAt o.1 j).1)])[i]? = some p → upd F6 (prA o k).length r.1 i = p.1 ∧ upd F7 (prA o k).length (rwAt o.1 j).1 i = p.2 := by
          intro i p hp
          rcases at_push hp with h8 | ⟨h8, h9⟩
          · have := lt_of_at h8
            exact ⟨(if_neg (by omega)).trans (hF i p h8).1, (if_neg (by omega)).trans (hF i p h8).2⟩
          · rw [h8, h9]
            exact ⟨if_pos rfl, if_pos rfl⟩
        refine V_if_ge 30 dX5_settleAll_24 (by decide) (fun _ => ?_) (fun c24 => absurd (Int32.not_lt.mp (nI_pos (show j < 2 ^ 31 by omega))) c24)
        refine V_aload_n dX5_settleAll_30 rfl (Or.inl ⟨_, rfl⟩) ?_
        refine V_get ckX5 tw0 11 (by decide) q2710 rfl rfl dX5_settleAll_31 ?_
        refine V_iload_n dX5_settleAll_34 rfl ?_
        refine V_aload_n dX5_settleAll_35 rfl (Or.inl ⟨_, rfl⟩) ?_
        refine V_iload_n dX5_settleAll_36 rfl ?_
        refine V_iconstv 0 dX5_settleAll_37 (by decide) ?_
        refine V_callV (q := (RX5, TX5, 23)) kX5_r q2836 q2838 qs56 tw0 rfl dX5_settleAll_38 ?_ (d' := 1) (as := [_, _]) (hst := rfl)
        refine (tw_r (k := k) (j := 0) (hO F6 F7) rfl rfl hr (by decide) ?_)
        refine tw_st 6 ((prA o k).length) hm (by decide) (by decide) rfl (show _ < 6 from by omega) (by decide) dX5_settleAll_41 ?_
        rw [twG_6, twG6]
        refine V_aload_n dX5_settleAll_42 rfl (Or.inl ⟨_, rfl⟩) ?_
        refine V_get ckX5 tw0 12 (by decide) q2711 rfl rfl dX5_settleAll_43 ?_
        refine V_iload_n dX5_settleAll_46 rfl ?_
        refine V_aload_n dX5_settleAll_47 rfl (Or.inl ⟨_, rfl⟩) ?_
        refine V_aload_n dX5_settleAll_48 rfl (Or.inl ⟨_, rfl⟩) ?_
        refine V_iload_n dX5_settleAll_49 rfl ?_
        refine V_callV (q := (RX5, TX5, 23)) kX5_settled q2931 q2933 qs74 tw0 rfl dX5_settleAll_50 ?_ (d' := 5) (as := [_]) (hst := rfl)
        refine (tw_settled (k := k) (hO _ _) (hB' _ _) rfl hr ?_)
        rw [hc]
        refine V_iconstv 0 dX5_settleAll_53 (by decide) ?_
        refine V_callV (q := (RX5, TX5, 23)) kX5_c q2860 q2862 qs61 tw0 rfl dX5_settleAll_54 ?_ (d' := 1) (as := [_, _]) (hst := rfl)
        refine (tw_c (k := j) (j := 0) (hO _ _) rfl rfl (at_of hj) (by decide) ?_)
        refine tw_st 7 ((prA o k).length) hm (by decide) (by decide) rfl (show _ < 6 from by omega) (by decide) dX5_settleAll_57 ?_
        rw [twG_7, twG7]
        refine V_iinc dX5_settleAll_58 rfl (by decide) ?_
        refine V_iinc dX5_settleAll_61 rfl (by decide) ?_
        refine V_goto 9 dX5_settleAll_64 (by decide) ?_
        refine V_sub (L' := [(0, .ref m), (2, .int (nI (prA o k).length + Int32.ofInt 1)), (3, .int (nI k + Int32.ofInt 1))]) ⟨rfl, rfl, rfl, trivial⟩ ?_
        rw [show nI k + Int32.ofInt 1 = nI (k + 1) from nI_1 k, show nI (prA o k).length + Int32.ofInt 1 = nI (prA o k ++ [(r.1, (rwAt o.1 j).1)]).length from by rw [List.length_append]; exact nI_1 _]
        exact ih _ _ hF'
  refine V_iconstv 0 dX5_settleAll_5 (by decide) ?_
  refine V_istore_n dX5_settleAll_6 (by decide) ?_
  refine V_iconstv 0 dX5_settleAll_7 (by decide) ?_
  refine V_istore_n dX5_settleAll_8 (by decide) ?_
  refine V_sub (L' := [(0, .ref m), (2, .int (nI (prA o 0).length)), (3, .int (nI 0))]) ⟨rfl, rfl, rfl, trivial⟩ ?_
  have := loop1 0 (Nat.zero_le _) (T.1 6) (T.1 7) (fun i p hp => by cases (show ([] : List (Int32 × Int32))[i]? = some p from hp))
  rw [show twG T F5 (T.1 6) (T.1 7) = twA T 5 F5 from ?_] at this
  · exact this
  · refine Prod.ext (funext fun b => ?_) rfl
    show (if b = 7 then T.1 7 else if b = 6 then T.1 6 else if b = 5 then F5 else T.1 b) = if b = 5 then F5 else T.1 b
    by_cases h7 : b = 7
    · subst h7; rfl
    · rw [if_neg h7]
      by_cases h6 : b = 6
      · subst h6; rfl
      · rw [if_neg h6]
end TW13
