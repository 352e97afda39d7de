/-! THE STATE AS NUMBERS, and the reference's commit -/
set_option maxRecDepth 100000
/-- office, offices before (oldest first), saved office, numbers (7 wrong at, 8 failed at, 9 failure), output, typed -/
abbrev St : Type := Of × List Of × Option Of × (Nat → Int32) × List Int32 × List Int32
def TwH (f : Nat → Int32) (H : List Of) : Prop := ∀ k o, H[k]? = some o → TwO (fun q => f (136 * k + q)) o
def TwT (f : Nat → Int32) (n : Int32) (N : Nat) (L : List Int32) : Prop := n = nI L.length ∧ L.length ≤ N ∧ ∀ k c, L[k]? = some c → f k = c
def TwV (T : Tw) (sv : Option Of) : Prop := match sv with
  | none => T.2 10 = 0
  | some o => T.2 10 = 1 ∧ TwO (T.1 3) o
def TwR (T : Tw) (S : St) : Prop := (TwH (T.1 4) S.2.1 ∧ S.2.1.length ≤ 8 ∧ T.2 6 = nI S.2.1.length) ∧ TwV T S.2.2.1 ∧ (∀ j, 7 ≤ j → j ≤ 9 → T.2 j = S.2.2.2.1 j) ∧ TwT (T.1 8) (T.2 14) 80 S.2.2.2.2.1 ∧ TwT (T.1 9) (T.2 18) 60 S.2.2.2.2.2
/-- the reference shows S -/
def TwS (T : Tw) (S : St) : Prop := TwO (T.1 1) S.1 ∧ TwR T S
theorem TwV.keep {T T' : Tw} {sv : Option Of} (h : TwV T sv) (h3 : T'.1 3 = T.1 3) (i : T'.2 10 = T.2 10) : TwV T' sv := by
  cases sv with
  | none => exact i.trans h
  | some o => exact ⟨i.trans h.1, by rw [h3]; exact h.2⟩
theorem TwR.keep {T T' : Tw} {S : St} {o : Of} (h : TwR T S) (h3 : T'.1 3 = T.1 3 := by rfl) (h4 : T'.1 4 = T.1 4 := by rfl) (h8 : T'.1 8 = T.1 8 := by rfl) (h9 : T'.1 9 = T.1 9 := by rfl) (i6 : T'.2 6 = T.2 6 := by rfl) (i7 : T'.2 7 = T.2 7 := by rfl) (i8 : T'.2 8 = T.2 8 := by rfl) (i9 : T'.2 9 = T.2 9 := by rfl) (i10 : T'.2 10 = T.2 10 := by rfl) (i14 : T'.2 14 = T.2 14 := by rfl) (i18 : T'.2 18 = T.2 18 := by rfl) : TwR T' (o, S.2) := by
  obtain ⟨⟨a1, a2, a3⟩, b, c, d, e⟩ := h
  refine ⟨⟨by rw [h4]; exact a1, a2, by rw [i6]; exact a3⟩, b.keep h3 i10, ?_, by rw [h8, i14]; exact d, by rw [h9, i18]; exact e⟩
  intro j x y
  rcases (show j = 7 ∨ j = 8 ∨ j = 9 by omega) with z | z | z
  · rw [z, i7]; exact c 7 (by decide) (by decide)
  · rw [z, i8]; exact c 8 (by decide) (by decide)
  · rw [z, i9]; exact c 9 (by decide) (by decide)
theorem TwO.cong {f F : Nat → Int32} {o : Of} (h : TwO f o) (e : ∀ q, q < 136 → F q = f q) : TwO F o := by
  obtain ⟨h1, h2, h3, h4, h5, h6, h7⟩ := h
  refine ⟨h1, h2, (e _ (by decide)).trans h3, (e _ (by decide)).trans h4, fun j a b => (e _ (by omega)).trans (h5 j a b), fun k r hk j hj => ?_, fun k r hk j hj => ?_⟩
  · have := lt_of_at hk
    exact (e _ (by omega)).trans (h6 k r hk j hj)
  · have := lt_of_at hk
    exact (e _ (by omega)).trans (h7 k r hk j hj)
def ofPush (H : List Of) (o : Of) : List Of := (if H.length = 8 then H.drop 1 else H) ++ [o]
/-- the histories moved by one up to k -/
def dwn (f : Nat → Int32) (k : Nat) : Nat → Int32 := fun q => if q < 136 * k then f (q + 136) else f q
theorem dwn_0 {f : Nat → Int32} : dwn f 0 = f := funext fun q => if_neg (by omega)
theorem dwn_s {f : Nat → Int32} {k : Nat} : cpy (dwn f k) (dwn f k) (136 * (k + 1)) (136 * k) 136 = dwn f (k + 1) := by
  funext q
  unfold cpy dwn
  by_cases h : 136 * k ≤ q ∧ q < 136 * k + 136
  · rw [if_pos h, if_neg (by omega), if_pos (by omega)]
    congr 1
    omega
  · rw [if_neg h]
    by_cases h2 : q < 136 * k
    · rw [if_pos h2, if_pos (by omega)]
    · rw [if_neg h2, if_neg (by omega)]
theorem TwH.dwn {f : Nat → Int32} {H : List Of} (h : TwH f H) (h8 : H.length = 8) : TwH (dwn f 7) (H.drop 1) := by
  intro k o hk
  have hl := lt_of_at hk
  rw [List.length_drop] at hl
  rw [List.getElem?_drop] at hk
  refine (h (1 + k) o hk).cong fun q hq => ?_
  show (if 136 * k + q < 136 * 7 then f (136 * k + q + 136) else f (136 * k + q)) = _
  rw [if_pos (by omega)]
  congr 1
  omega
theorem TwH.push {f g : Nat → Int32} {H : List Of} {o : Of} (h : TwH f H) (ho : TwO g o) : TwH (cpy g f 0 (136 * H.length) 136) (H ++ [o]) := by
  intro k x hk
  by_cases e : k < H.length
  · rw [List.getElem?_append_left e] at hk
    refine (h k x hk).cong fun q hq => ?_
    exact if_neg (by omega)
  · rw [List.getElem?_append_right (by omega)] at hk
    have h9 := lt_of_at hk
    have e2 : k = H.length := by simp at h9; omega
    subst e2
    rw [Nat.sub_self] at hk
    cases (show some o = some x from hk)
    refine ho.cong fun q hq => ?_
    show (if 136 * H.length ≤ 136 * H.length + q ∧ 136 * H.length + q < 136 * H.length + 136 then g (0 + (136 * H.length + q - 136 * H.length)) else _) = _
    rw [if_pos (by omega)]
    congr 1
    omega
theorem twI_twI {T : Tw} {a : Nat} {f g : Int32} : twI (twI T a f) a g = twI T a g := by
  refine Prod.ext rfl (funext fun b => ?_)
  show (if b = a then g else if b = a then f else T.2 b) = if b = a then g else T.2 b
  by_cases h : b = a
  · rw [if_pos h, if_pos h]
  · rw [if_neg h, if_neg h, if_neg h]
theorem twAI {T : Tw} {a j : Nat} {f : Nat → Int32} {v : Int32} : twA (twI T j v) a f = twI (twA T a f) j v := rfl
section TW7
variable {l : Launch} {E : g_E} {P : Outcome → g_G → Prop} {G : g_G} {m : Nat} {T : Tw} {o : Of}
theorem tw_commit {x : Int32} {H : List Of} {ob : Of} (hm : g_B E ≤ m) (hH : TwH (T.1 4) H) (h8 : H.length ≤ 8) (h6 : T.2 6 = nI H.length) (hb : TwO (T.1 2) ob) (kk : ∀ F, TwH F (ofPush H ob) → P (.returned (some (.int x))) (g_tG E G m (twI (twA T 4 F) 6 (nI (ofPush H ob).length)))) : g_Spc l E mX5_commit 1 [.ref m, .int x] (g_tG E G m T) P := by
  have e136 : ∀ q : Nat, (136 : Int32) * nI q = nI (136 * q) := fun q => by rw [← nI_mul]; rfl
  refine V_intro (plainFor_of_name plX5) (Nat.le_of_ble_eq_true rfl) ?_
  have last : ∀ (H' : List Of) (F : Nat → Int32) (T1 : Tw), H'.length < 8 → TwH F H' → T1 = twI (twA T 4 F) 6 (nI H'.length) → (∀ F, TwH F (H' ++ [ob]) → P (.returned (some (.int x))) (g_tG E G m (twI (twA T 4 F) 6 (nI (H' ++ [ob]).length)))) → V l E mX5_commit 1 P 56 [(0, .ref m), (1, .int x)] [] (g_tG E G m T1) := by
    intro H' F T1 h7 hF eT kk'
    subst eT
    refine V_aload_n dX5_commit_56 rfl (Or.inl ⟨_, rfl⟩) ?_
    refine V_get ckX5 tw0 1 (by decide) q2700 rfl rfl dX5_commit_57 ?_
    refine V_iconstv 0 dX5_commit_60 (by decide) ?_
    refine V_aload_n dX5_commit_61 rfl (Or.inl ⟨_, rfl⟩) ?_
    refine V_get ckX5 tw0 3 (by decide) q2702 rfl rfl dX5_commit_62 ?_
    refine V_sipushv 136 dX5_commit_65 (by decide) ?_
    refine V_aload_n dX5_commit_68 rfl (Or.inl ⟨_, rfl⟩) ?_
    refine V_get ckX5 tw0 6 (by decide) q2705 rfl rfl dX5_commit_69 ?_
    rw [twI_at]
    refine V_imul dX5_commit_72 ?_
    rw [e136]
    refine V_callS kX5_copy q2781 q2782 dX5_commit_73 ?_ (d' := 0) (as := [_, _, _, _]) (hst := rfl)
    refine (tw_copy (a := 2) (b := 4) (i := 0) (j := 136 * H'.length) hm (by decide) (by decide) (by decide) (by decide) rfl rfl (by decide) (show 136 * H'.length + 136 ≤ 1088 by omega) (by decide) (by decide) (Or.inl (by decide)) ?_)
    refine V_aload_n dX5_commit_76 rfl (Or.inl ⟨_, rfl⟩) ?_
    refine V_dup dX5_commit_77 rfl ?_
    refine V_get ckX5 tw0 6 (by decide) q2705 rfl rfl dX5_commit_78 ?_
    refine V_iconstv 1 dX5_commit_81 (by decide) ?_
    refine V_iadd dX5_commit_82 ?_
    rw [show (twA (twI (twA T 4 F) 6 (nI H'.length)) 4 (cpy ((twI (twA T 4 F) 6 (nI H'.length)).1 2) ((twI (twA T 4 F) 6 (nI H'.length)).1 4) 0 (136 * H'.length) 136)).2 6 = nI H'.length from (show (twI (twA T 4 F) 6 (nI H'.length)).2 6 = nI H'.length from twI_at)]
    rw [show nI H'.length + 1 = nI (H'.length + 1) from nI_1 _]
    refine tw_putI 6 hm (by decide) q2705 rfl rfl rfl rfl rfl dX5_commit_83 ?_
    refine V_iload_n dX5_commit_86 rfl ?_
    refine V_ireturn dX5_commit_87 rfl ?_
    have e4 : (twI (twA T 4 F) 6 (nI H'.length)).1 4 = F := (show (twA T 4 F).1 4 = F from twA_at)
    rw [e4, twAI, twA_twA, twI_twI]
    have k9 := kk' _ (hF.push hb)
    rw [List.length_append] at k9
    exact k9
  refine V_aload_n dX5_commit_0 rfl (Or.inl ⟨_, rfl⟩) ?_
  refine V_get ckX5 tw0 6 (by decide) q2705 rfl rfl dX5_commit_1 ?_
  refine V_bipushv 8 dX5_commit_4 (by decide) ?_
  rw [h6]
  by_cases e8 : H.length = 8
  · rw [e8]
    have eP : ofPush H ob = H.drop 1 ++ [ob] := by unfold ofPush; rw [if_pos e8]
    rw [eP] at kk
    have loop : ∀ k, k ≤ 7 → V l E mX5_commit 1 P 11 [(0, .ref m), (1, .int x), (2, .int (nI (k + 1)))] [] (g_tG E G m (twA T 4 (dwn (T.1 4) k))) := by
      refine down 7 ?_ ?_
      · refine V_iload_n dX5_commit_11 rfl ?_
        refine V_bipushv 8 dX5_commit_12 (by decide) ?_
        refine V_icmp_ge 46 dX5_commit_14 (by decide) (fun _ => ?_) (fun c14 => absurd (by decide) c14)
        refine V_aload_n dX5_commit_46 rfl (Or.inl ⟨_, rfl⟩) ?_
        refine V_dup dX5_commit_47 rfl ?_
        refine V_get ckX5 tw0 6 (by decide) q2705 rfl rfl dX5_commit_48 ?_
        rw [show (twA T 4 (dwn (T.1 4) 7)).2 6 = nI 8 from h6.trans (by rw [e8])]
        refine V_iconstv 1 dX5_commit_51 (by decide) ?_
        refine V_isub dX5_commit_52 ?_
        refine tw_putI 6 hm (by decide) q2705 rfl rfl rfl rfl rfl dX5_commit_53 ?_
        refine V_sub (L' := [(0, .ref m), (1, .int x)]) ⟨rfl, rfl, trivial⟩ ?_
        refine last (H.drop 1) (dwn (T.1 4) 7) _ (by rw [List.length_drop]; omega) (hH.dwn e8) ?_ kk
        rw [List.length_drop, e8]
        rfl
      · intro k hk ih
        refine V_iload_n dX5_commit_11 rfl ?_
        refine V_bipushv 8 dX5_commit_12 (by decide) ?_
        refine V_icmp_ge 46 dX5_commit_14 (by decide) (fun c14 => absurd c14 (fun q => absurd ((nI_leI (a := 8) (by decide) (by omega)).mp q) (by omega))) (fun _ => ?_)
        refine V_aload_n dX5_commit_17 rfl (Or.inl ⟨_, rfl⟩) ?_
        refine V_get ckX5 tw0 3 (by decide) q2702 rfl rfl dX5_commit_18 ?_
        refine V_sipushv 136 dX5_commit_21 (by decide) ?_
        refine V_iload_n dX5_commit_24 rfl ?_
        refine V_imul dX5_commit_25 ?_
        rw [e136]
        refine V_aload_n dX5_commit_26 rfl (Or.inl ⟨_, rfl⟩) ?_
        refine V_get ckX5 tw0 3 (by decide) q2702 rfl rfl dX5_commit_27 ?_
        refine V_sipushv 136 dX5_commit_30 (by decide) ?_
        refine V_iload_n dX5_commit_33 rfl ?_
        refine V_iconstv 1 dX5_commit_34 (by decide) ?_
        refine V_isub dX5_commit_35 ?_
        rw [show nI (k + 1) - 1 = nI k from nI_pred k]
        refine V_imul dX5_commit_36 ?_
        rw [e136]
        refine V_callS kX5_copy q2781 q2782 dX5_commit_37 ?_ (d' := 0) (as := [_, _, _, _]) (hst := rfl)
        refine (tw_copy (a := 4) (b := 4) (i := 136 * (k + 1)) (j := 136 * k) hm (by decide) (by decide) (by decide) (by decide) rfl rfl (show 136 * (k + 1) + 136 ≤ 1088 by omega) (show 136 * k + 136 ≤ 1088 by omega) (by decide) (by decide) (Or.inr (by omega)) ?_)
        rw [twA_at, twA_twA, dwn_s]
        refine V_iinc dX5_commit_40 rfl (by decide) ?_
        refine V_goto 11 dX5_commit_43 (by decide) ?_
        refine V_sub (L' := [(0, .ref m), (1, .int x), (2, .int (nI (k + 1) + Int32.ofInt 1))]) ⟨rfl, rfl, rfl, trivial⟩ ?_
        rw [show nI (k + 1) + Int32.ofInt 1 = nI (k + 1 + 1) from nI_1 _]
        exact ih
    refine V_icmp_ne 56 dX5_commit_6 (by decide) (fun c6 => absurd c6 (show ¬ nI 8 ≠ 8 by decide)) (fun _ => ?_)
    refine V_iconstv 1 dX5_commit_9 (by decide) ?_
    refine V_istore_n dX5_commit_10 (by decide) ?_
    refine V_sub (L' := [(0, .ref m), (1, .int x), (2, .int (nI 1))]) ⟨rfl, rfl, rfl, trivial⟩ ?_
    have := loop 0 (by decide)
    rw [dwn_0, twA_self] at this
    exact this
  · have eP : ofPush H ob = H ++ [ob] := by unfold ofPush; rw [if_neg e8]
    rw [eP] at kk
    refine V_icmp_ne 56 dX5_commit_6 (by decide) (fun _ => ?_) (fun c6 => absurd c6 (fun q => e8 ((nI_eq (b := 8) (by omega) (by decide)).mp q)))
    refine last H (T.1 4) T (by omega) hH ?_ kk
    rw [twA_self, ← h6]
    refine Prod.ext rfl (funext fun b => ?_)
    show T.2 b = if b = 6 then T.2 6 else T.2 b
    by_cases hb : b = 6
    · rw [if_pos hb, hb]
    · rw [if_neg hb]
theorem tw_thrown (kk : P (.returned (some (.int (T.2 5)))) (g_tG E G m T)) : g_Spc l E mX5_thrown 0 [.ref m] (g_tG E G m T) P := by
  refine V_intro (plainFor_of_name plX5) (Nat.le_of_ble_eq_true rfl) ?_
  refine V_aload_n dX5_thrown_0 rfl (Or.inl ⟨_, rfl⟩) ?_
  refine V_get ckX5 tw0 5 (by decide) q2704 rfl rfl dX5_thrown_1 ?_
  refine V_ireturn dX5_thrown_4 rfl ?_
  exact kk
end TW7
