/-! REFERENCE 22: runScript -/
set_option maxRecDepth 100000
def rnF (K A : Nat → Int32) : Nat → Nat → Of → Int32 × Nat × Of
  | 0, k, o => (0, k, o)
  | f + 1, k, o => if whyK o (K k).toNatClampNeg (A (8 * k)) (A (8 * k + 1)) (A (8 * k + 2)) (A (8 * k + 3)) (A (8 * k + 4)) = 0 then rnF K A f (k + 1) (doO o (K k).toNatClampNeg (A (8 * k)) (A (8 * k + 1)) (A (8 * k + 2)) (A (8 * k + 3)) (A (8 * k + 4))) else (whyK o (K k).toNatClampNeg (A (8 * k)) (A (8 * k + 1)) (A (8 * k + 2)) (A (8 * k + 3)) (A (8 * k + 4)), k, o)
def sNum (S : St) (j : Nat) (v : Int32) : St := (S.1, S.2.1, S.2.2.1, upd S.2.2.2.1 j v, S.2.2.2.2)
def mRunP (S : St) (p : PS) : Int32 × Int32 × St :=
  if paW S.2.2.2.2.2 p = true then (1, 0, sNum (sTyp S []) 7 (nI p.1))
  else if (rnF p.2.2.2.1 p.2.2.2.2 p.2.2.1 0 S.1).1 = 0 then (0, nI p.2.2.1, sPush (sTyp S []) (rnF p.2.2.2.1 p.2.2.2.2 p.2.2.1 0 S.1).2.2)
  else (2, 0, sNum (sNum (sTyp S []) 8 (nI (rnF p.2.2.2.1 p.2.2.2.2 p.2.2.1 0 S.1).2.1)) 9 (rnF p.2.2.2.1 p.2.2.2.2 p.2.2.1 0 S.1).1)
/-- kinds are kinds -/
def paK (p : PS) : Prop := p.2.2.1 ≤ 16 ∧ ∀ k, k < p.2.2.1 → ∃ kind, kind < 9 ∧ p.2.2.2.1 k = nI kind
theorem cmS_n {L : List Int32} {i n : Nat} {K A : Nat → Int32} : (cmS L i n K A).2.2.1 ≤ n + 1 := by
  unfold cmS
  split
  · exact Nat.le_succ _
  · split
    · exact Nat.le_succ _
    · exact Nat.le_refl _
theorem cmS_K {L : List Int32} {i n : Nat} {K A : Nat → Int32} (h : i ≤ L.length) (hK : ∀ k, k < n → ∃ kind, kind < 9 ∧ K k = nI kind) : ∀ k, k < (cmS L i n K A).2.2.1 → ∃ kind, kind < 9 ∧ (cmS L i n K A).2.2.2.1 k = nI kind := by
  have h1 := wdF_le (L := L) (i := i) (f := 9) (kind := 0) (g := 0) h (by omega) (by decide) (by decide)
  unfold cmS
  split
  · exact hK
  · split
    · exact hK
    · intro k hk
      by_cases e : k = n
      · exact ⟨_, h1.2.2, by subst e; exact if_pos rfl⟩
      · have hk : k < n + 1 := hk
        obtain ⟨kind, h2, h3⟩ := hK k (by omega)
        exact ⟨kind, h2, (if_neg e).trans h3⟩
theorem paF_K {L : List Int32} (hL : L.length ≤ 60) : ∀ (f : Nat) (p : PS), p.1 ≤ L.length → (p.2.1 = false → 4 * p.2.2.1 ≤ p.1 + 1) → p.2.2.1 ≤ 16 → (∀ k, k < p.2.2.1 → ∃ kind, kind < 9 ∧ p.2.2.2.1 k = nI kind) → paK (paF L f p) ∧ (paF L f p).1 ≤ L.length := by
  intro f
  induction f with
  | zero => intro p h1 _ h3 h4; exact ⟨⟨h3, h4⟩, h1⟩
  | succ f ih =>
    intro p h1 h2 h3 h4
    unfold paF
    by_cases hq : mkW p.2.1 L p.1 = 59
    · rw [if_pos hq]
      have hw : p.2.1 = false := by
        cases hw : p.2.1 with
        | true => rw [hw] at hq; exact absurd (show (-1 : Int32) = 59 from hq) (by decide)
        | false => rfl
      have hlt : p.1 < L.length := by rw [hw] at hq; exact mkC_in (show mkC L p.1 = 59 from hq) (by decide)
      have hn := h2 hw
      have hc := cmS_le (n := p.2.2.1) (K := p.2.2.2.1) (A := p.2.2.2.2) (show p.1 + 1 ≤ L.length from hlt)
      have hcn := cmS_n (L := L) (i := p.1 + 1) (n := p.2.2.1) (K := p.2.2.2.1) (A := p.2.2.2.2)
      refine ih _ hc.2.1 (fun q => ?_) (by omega) (cmS_K hlt h4)
      have := hc.2.2 q
      omega
    · rw [if_neg hq]
      exact ⟨⟨h3, h4⟩, h1⟩
theorem paR_K {L : List Int32} {K A : Nat → Int32} (hL : L.length ≤ 60) : paK (paR L K A) ∧ (paR L K A).1 ≤ L.length := by
  have hc := cmS_le (n := 0) (K := K) (A := A) (show 0 ≤ L.length from Nat.zero_le _)
  have hcn := cmS_n (L := L) (i := 0) (n := 0) (K := K) (A := A)
  refine paF_K hL 60 _ hc.2.1 (fun q => ?_) (by omega) (cmS_K (Nat.zero_le _) (fun k hk => absurd hk (Nat.not_lt_zero k)))
  have := hc.2.2 q
  omega
section TW23
variable {l : Launch} {E : g_E} {P : Outcome → g_G → Prop} {G : g_G} {m : Nat} {T : Tw} {S : St}
theorem tw_runScript (Q : Nat → Of → Prop) (hm : g_B E ≤ m) (h : TwS T S) (hQ0 : Q 0 S.1) (hQ : ∀ k o kind a b c d e, k < 16 → Q k o → kind < 9 → whyK o kind a b c d e = 0 → Q (k + 1) (doO o kind a b c d e)) (hQg : ∀ k o, k < 16 → Q k o → gvOK o (prs o) ∧ ∀ c ∈ o.1, c.2.2.1 ≠ 0)
    (kk : ∀ T', TwS T' (mRunP S (paR S.2.2.2.2.2 (T.1 10) (T.1 11))).2.2 → T'.2 5 = (mRunP S (paR S.2.2.2.2.2 (T.1 10) (T.1 11))).1 → P (.returned (some (.int (mRunP S (paR S.2.2.2.2.2 (T.1 10) (T.1 11))).2.1))) (g_tG E G m T')) : g_Spc l E mX5_runScript 8 [.ref m] (g_tG E G m T) P := by
  obtain ⟨hO, ⟨a1, a2, a3⟩, hV, hN, hT8, hT9⟩ := id h
  have hLl := hT9.2.1
  obtain ⟨⟨hn16, hK⟩, hpl⟩ := paR_K (L := S.2.2.2.2.2) (K := T.1 10) (A := T.1 11) hLl
  have hb : TwO ((twB T).1 2) S.1 := h.1.before
  refine V_intro (plainFor_of_name plX5) (Nat.le_of_ble_eq_true rfl) ?_
  refine V_aload_n dX5_runScript_0 rfl (Or.inl ⟨_, rfl⟩) ?_
  refine V_callV (q := (RX5, TX5, 23)) kX5_begin q2777 q2779 qs47 tw0 rfl dX5_runScript_1 ?_ (d' := 1) (as := []) (hst := rfl)
  refine (tw_begin hm ?_)
  refine V_aload_n dX5_runScript_4 rfl (Or.inl ⟨_, rfl⟩) ?_
  refine V_callV (q := (RX5, TX5, 23)) kX5_parse q3209 q3211 qs98 tw0 rfl dX5_runScript_5 ?_ (d' := 6) (as := []) (hst := rfl)
  refine (tw_parse (L := S.2.2.2.2.2) hm (show TwT ((twB T).1 9) ((twB T).2 18) 60 S.2.2.2.2.2 from hT9) ?_)
  rw [show (twA (twI T 5 0) 2 (cpy (T.1 1) (T.1 2) 0 0 136)).1 10 = T.1 10 from rfl, show (twA (twI T 5 0) 2 (cpy (T.1 1) (T.1 2) 0 0 136)).1 11 = T.1 11 from rfl]
  generalize paR S.2.2.2.2.2 (T.1 10) (T.1 11) = p at kk hn16 hK hpl
  obtain ⟨i, w, n, K, A⟩ := p
  have hn16 : n ≤ 16 := hn16
  have hK : ∀ k, k < n → ∃ kind, kind < 9 ∧ K k = nI kind := hK
  show V l E mX5_runScript 8 P _ _ _ (g_tG E G m (pT (twI (twI (twB T) 19 ((twB T).2 18)) 18 0) i (paW S.2.2.2.2.2 (i, w, n, K, A)) n K A))
  unfold mRunP at kk
  dsimp only at kk
  have sN : ∀ j, 7 ≤ j → j ≤ 9 → (pT (twI (twI (twB T) 19 ((twB T).2 18)) 18 0) i (paW S.2.2.2.2.2 (i, w, n, K, A)) n K A).2 j = S.2.2.2.1 j := by
    intro j x y
    rcases (show j = 7 ∨ j = 8 ∨ j = 9 by omega) with z | z | z
    · subst z; exact hN 7 (by decide) (by decide)
    · subst z; exact hN 8 (by decide) (by decide)
    · subst z; exact hN 9 (by decide) (by decide)
  have hX : ∀ W, W = paW S.2.2.2.2.2 (i, w, n, K, A) → TwS (pT (twI (twI (twB T) 19 ((twB T).2 18)) 18 0) i W n K A) (sTyp S []) := by
    intro W hW
    subst hW
    exact ⟨hO, ⟨a1, a2, a3⟩, TwV.keep (T := T) hV rfl rfl, sN, hT8, ⟨rfl, Nat.zero_le _, fun k c hk => by cases (show ([] : List Int32)[k]? = some c from hk)⟩⟩
  have hbef : ∀ W, TwO ((pT (twI (twI (twB T) 19 ((twB T).2 18)) 18 0) i W n K A).1 2) S.1 := fun _ => hb
  cases hW : paW S.2.2.2.2.2 (i, w, n, K, A) with
  | true =>
    rw [if_pos hW] at kk
    have hX := hX true hW.symm
    refine V_aload_n dX5_runScript_8 rfl (Or.inl ⟨_, rfl⟩) ?_
    refine V_get ckX5 tw0 22 (by decide) q2721 rfl rfl dX5_runScript_9 ?_
    rw [show (pT (twI (twI (twB T) 19 ((twB T).2 18)) 18 0) i true n K A).2 22 = b2i true from rfl]
    refine V_if_eq 29 dX5_runScript_12 (by decide) (fun c12 => absurd c12 (show ¬ b2i true = 0 by decide)) (fun _ => ?_)
    refine V_aload_n dX5_runScript_15 rfl (Or.inl ⟨_, rfl⟩) ?_
    refine V_aload_n dX5_runScript_16 rfl (Or.inl ⟨_, rfl⟩) ?_
    refine V_get ckX5 tw0 20 (by decide) q2719 rfl rfl dX5_runScript_17 ?_
    rw [show (pT (twI (twI (twB T) 19 ((twB T).2 18)) 18 0) i true n K A).2 20 = nI i from rfl]
    refine tw_putI 7 hm (by decide) q2706 rfl rfl rfl rfl rfl dX5_runScript_20 ?_
    refine V_aload_n dX5_runScript_23 rfl (Or.inl ⟨_, rfl⟩) ?_
    refine V_iconstv 1 dX5_runScript_24 (by decide) ?_
    refine V_callV (q := (RX5, TX5, 23)) kX5_fail q2794 q2796 qs49 tw0 rfl dX5_runScript_25 ?_ (d' := 0) (as := [_]) (hst := rfl)
    refine (tw_fail hm ?_)
    refine V_ireturn dX5_runScript_28 rfl ?_
    refine kk _ ⟨hX.1, hX.2.1, TwV.keep hX.2.2.1 rfl rfl, ?_, hX.2.2.2.2.1, hX.2.2.2.2.2⟩ rfl
    intro j x y
    rcases (show j = 7 ∨ j = 8 ∨ j = 9 by omega) with z | z | z
    · subst z; rfl
    · subst z; exact hX.2.2.2.1 8 (by decide) (by decide)
    · subst z; exact hX.2.2.2.1 9 (by decide) (by decide)
  | false =>
    rw [if_neg (by rw [hW]; decide)] at kk
    have hY := hX false hW.symm
    have hbe := hbef false
    refine V_aload_n dX5_runScript_8 rfl (Or.inl ⟨_, rfl⟩) ?_
    refine V_get ckX5 tw0 22 (by decide) q2721 rfl rfl dX5_runScript_9 ?_
    rw [show (pT (twI (twI (twB T) 19 ((twB T).2 18)) 18 0) i false n K A).2 22 = b2i false from rfl]
    have eK : (pT (twI (twI (twB T) 19 ((twB T).2 18)) 18 0) i false n K A).1 10 = K := rfl
    have eA : (pT (twI (twI (twB T) 19 ((twB T).2 18)) 18 0) i false n K A).1 11 = A := rfl
    have en : (pT (twI (twI (twB T) 19 ((twB T).2 18)) 18 0) i false n K A).2 21 = nI n := rfl
    have e5 : (pT (twI (twI (twB T) 19 ((twB T).2 18)) 18 0) i false n K A).2 5 = 0 := rfl
    generalize pT (twI (twI (twB T) 19 ((twB T).2 18)) 18 0) i false n K A = T2 at hY hbe eK eA en e5 ⊢
    have e8 : ∀ q : Nat, (8 : Int32) * nI q = nI (8 * q) := fun q => by rw [← nI_mul]; rfl
    have loop : ∀ f k, k + f = n → ∀ (T' : Tw) (o : Of) (u : Int32), twK T2 T' → TwO (T'.1 1) o → Q k o → rnF K A f k o = rnF K A n 0 S.1 → V l E mX5_runScript 8 P 33 [(0, .ref m), (1, .int u), (2, .int (nI k))] [] (g_tG E G m T') := by
      intro f
      induction f with
      | zero =>
        intro k hk T' o u hT ho hq he
        have he : (0, k, o) = rnF K A n 0 S.1 := he
        rw [← he] at kk
        dsimp only at kk
        rw [if_pos rfl] at kk
        have : k = n := by omega
        subst this
        refine V_iload_n dX5_runScript_33 rfl ?_
        refine V_aload_n dX5_runScript_34 rfl (Or.inl ⟨_, rfl⟩) ?_
        refine V_get ckX5 tw0 21 (by decide) q2720 rfl rfl dX5_runScript_35 ?_
        rw [hT.2, en]
        refine V_icmp_ge 189 dX5_runScript_38 (by decide) (fun _ => ?_) (fun c38 => absurd (Int32.le_refl _) c38)
        refine V_aload_n dX5_runScript_189 rfl (Or.inl ⟨_, rfl⟩) ?_
        refine V_aload_n dX5_runScript_190 rfl (Or.inl ⟨_, rfl⟩) ?_
        refine V_get ckX5 tw0 21 (by decide) q2720 rfl rfl dX5_runScript_191 ?_
        rw [hT.2, en]
        have hX4 : TwH (T'.1 4) S.2.1 := by rw [hT.1 4 (by decide) (by decide) (by decide) (by decide)]; exact hY.2.1.1
        have hX6 : T'.2 6 = nI S.2.1.length := by rw [hT.2]; exact hY.2.1.2.2
        have hX2 : TwO (T'.1 2) S.1 := by rw [hT.1 2 (by decide) (by decide) (by decide) (by decide)]; exact hbe
        refine V_callV (q := (RX5, TX5, 23)) kX5_commit q2809 q2811 qs52 tw0 rfl dX5_runScript_194 ?_ (d' := 1) (as := [_]) (hst := rfl)
        refine (tw_commit hm hX4 a2 hX6 hX2 (fun F' hF' => ?_))
        refine V_ireturn dX5_runScript_197 rfl ?_
        have t5 : (twI (twA T' 4 F') 6 (nI (ofPush S.2.1 S.1).length)).2 5 = 0 := (show T'.2 5 = 0 by rw [hT.2]; exact e5)
        refine kk _ ⟨ho, ⟨hF', ofPush_len a2, rfl⟩, TwV.keep hY.2.2.1 (hT.1 3 (by decide) (by decide) (by decide) (by decide)) (by rw [show (twI (twA T' 4 F') 6 (nI (ofPush S.2.1 S.1).length)).2 10 = T'.2 10 from rfl, hT.2]), ?_, ?_, ?_⟩ t5
        · intro j x y
          rcases (show j = 7 ∨ j = 8 ∨ j = 9 by omega) with z | z | z
          · subst z; exact (congrFun hT.2 7).trans (hY.2.2.2.1 7 (by decide) (by decide))
          · subst z; exact (congrFun hT.2 8).trans (hY.2.2.2.1 8 (by decide) (by decide))
          · subst z; exact (congrFun hT.2 9).trans (hY.2.2.2.1 9 (by decide) (by decide))
        · show TwT (T'.1 8) (T'.2 14) 80 _
          rw [hT.1 8 (by decide) (by decide) (by decide) (by decide), hT.2]
          exact hY.2.2.2.2.1
        · show TwT (T'.1 9) (T'.2 18) 60 _
          rw [hT.1 9 (by decide) (by decide) (by decide) (by decide), hT.2]
          exact hY.2.2.2.2.2
      | succ f ih =>
        intro k hk T' o u hT ho hq he
        obtain ⟨kind, hk9, eKk⟩ := hK k (by omega)
        have q10 : T'.1 10 = K := (hT.1 10 (by decide) (by decide) (by decide) (by decide)).trans eK
        have q11 : T'.1 11 = A := (hT.1 11 (by decide) (by decide) (by decide) (by decide)).trans eA
        have he : (if whyK o (K k).toNatClampNeg (A (8 * k)) (A (8 * k + 1)) (A (8 * k + 2)) (A (8 * k + 3)) (A (8 * k + 4)) = 0 then rnF K A f (k + 1) (doO o (K k).toNatClampNeg (A (8 * k)) (A (8 * k + 1)) (A (8 * k + 2)) (A (8 * k + 3)) (A (8 * k + 4))) else (whyK o (K k).toNatClampNeg (A (8 * k)) (A (8 * k + 1)) (A (8 * k + 2)) (A (8 * k + 3)) (A (8 * k + 4)), k, o)) = rnF K A n 0 S.1 := he
        rw [eKk, nI_clamp (by omega)] at he
        refine V_iload_n dX5_runScript_33 rfl ?_
        refine V_aload_n dX5_runScript_34 rfl (Or.inl ⟨_, rfl⟩) ?_
        refine V_get ckX5 tw0 21 (by decide) q2720 rfl rfl dX5_runScript_35 ?_
        rw [hT.2, en]
        refine V_icmp_ge 189 dX5_runScript_38 (by decide) (fun c38 => absurd c38 (nI_ge (by omega) (by omega))) (fun _ => ?_)
        refine V_bipushv 8 dX5_runScript_41 (by decide) ?_
        refine V_iload_n dX5_runScript_43 rfl ?_
        refine V_imul dX5_runScript_44 ?_
        rw [e8]
        refine V_istore_n dX5_runScript_45 (by decide) ?_
        refine V_aload_n dX5_runScript_46 rfl (Or.inl ⟨_, rfl⟩) ?_
        refine V_aload_n dX5_runScript_47 rfl (Or.inl ⟨_, rfl⟩) ?_
        refine V_get ckX5 tw0 16 (by decide) q2715 rfl rfl dX5_runScript_48 ?_
        refine V_iload_n dX5_runScript_51 rfl ?_
        refine tw_ld 10 (k) (by decide) (by decide) rfl (show _ < 32 from by omega) (by decide) dX5_runScript_52 ?_
        refine V_aload_n dX5_runScript_53 rfl (Or.inl ⟨_, rfl⟩) ?_
        refine V_get ckX5 tw0 17 (by decide) q2716 rfl rfl dX5_runScript_54 ?_
        refine V_iload_n dX5_runScript_57 rfl ?_
        refine tw_ld 11 (8 * k) (by decide) (by decide) rfl (show _ < 256 from by omega) (by decide) dX5_runScript_58 ?_
        refine V_aload_n dX5_runScript_59 rfl (Or.inl ⟨_, rfl⟩) ?_
        refine V_get ckX5 tw0 17 (by decide) q2716 rfl rfl dX5_runScript_60 ?_
        refine V_iload_n dX5_runScript_63 rfl ?_
        refine V_iconstv 1 dX5_runScript_64 (by decide) ?_
        refine V_iadd dX5_runScript_65 ?_
        refine tw_ld 11 (8 * k + 1) (by decide) (by decide) (nI_add _ 1) (show _ < 256 from by omega) (by decide) dX5_runScript_66 ?_
        refine V_aload_n dX5_runScript_67 rfl (Or.inl ⟨_, rfl⟩) ?_
        refine V_get ckX5 tw0 17 (by decide) q2716 rfl rfl dX5_runScript_68 ?_
        refine V_iload_n dX5_runScript_71 rfl ?_
        refine V_iconstv 2 dX5_runScript_72 (by decide) ?_
        refine V_iadd dX5_runScript_73 ?_
        refine tw_ld 11 (8 * k + 2) (by decide) (by decide) (nI_add _ 2) (show _ < 256 from by omega) (by decide) dX5_runScript_74 ?_
        refine V_aload_n dX5_runScript_75 rfl (Or.inl ⟨_, rfl⟩) ?_
        refine V_get ckX5 tw0 17 (by decide) q2716 rfl rfl dX5_runScript_76 ?_
        refine V_iload_n dX5_runScript_79 rfl ?_
        refine V_iconstv 3 dX5_runScript_80 (by decide) ?_
        refine V_iadd dX5_runScript_81 ?_
        refine tw_ld 11 (8 * k + 3) (by decide) (by decide) (nI_add _ 3) (show _ < 256 from by omega) (by decide) dX5_runScript_82 ?_
        refine V_aload_n dX5_runScript_83 rfl (Or.inl ⟨_, rfl⟩) ?_
        refine V_get ckX5 tw0 17 (by decide) q2716 rfl rfl dX5_runScript_84 ?_
        refine V_iload_n dX5_runScript_87 rfl ?_
        refine V_iconstv 4 dX5_runScript_88 (by decide) ?_
        refine V_iadd dX5_runScript_89 ?_
        refine tw_ld 11 (8 * k + 4) (by decide) (by decide) (nI_add _ 4) (show _ < 256 from by omega) (by decide) dX5_runScript_90 ?_
        rw [q10, q11, eKk]
        refine V_callV (q := (RX5, TX5, 23)) kX5_why q3251 q3253 qs107 tw0 rfl dX5_runScript_91 ?_ (d' := 5) (as := [_, _, _, _, _, _]) (hst := rfl)
        refine (tw_why (kind := kind) ho rfl hk9 ?_)
        refine V_istore dX5_runScript_94 (by decide) ?_
        by_cases hw : whyK o kind (A (8 * k)) (A (8 * k + 1)) (A (8 * k + 2)) (A (8 * k + 3)) (A (8 * k + 4)) = 0
        · rw [if_pos hw] at he
          obtain ⟨g1, g2⟩ := hQg k o (by omega) hq
          have hq2 := hQ k o kind _ _ _ _ _ (by omega) hq hk9 hw
          rw [hw]
          refine V_iload dX5_runScript_96 rfl ?_
          refine V_if_ne 153 dX5_runScript_98 (by decide) (fun c98 => absurd c98 (fun z => z rfl)) (fun _ => ?_)
          refine V_aload_n dX5_runScript_101 rfl (Or.inl ⟨_, rfl⟩) ?_
          refine V_aload_n dX5_runScript_102 rfl (Or.inl ⟨_, rfl⟩) ?_
          refine V_get ckX5 tw0 16 (by decide) q2715 rfl rfl dX5_runScript_103 ?_
          refine V_iload_n dX5_runScript_106 rfl ?_
          refine tw_ld 10 (k) (by decide) (by decide) rfl (show _ < 32 from by omega) (by decide) dX5_runScript_107 ?_
          refine V_aload_n dX5_runScript_108 rfl (Or.inl ⟨_, rfl⟩) ?_
          refine V_get ckX5 tw0 17 (by decide) q2716 rfl rfl dX5_runScript_109 ?_
          refine V_iload_n dX5_runScript_112 rfl ?_
          refine tw_ld 11 (8 * k) (by decide) (by decide) rfl (show _ < 256 from by omega) (by decide) dX5_runScript_113 ?_
          refine V_aload_n dX5_runScript_114 rfl (Or.inl ⟨_, rfl⟩) ?_
          refine V_get ckX5 tw0 17 (by decide) q2716 rfl rfl dX5_runScript_115 ?_
          refine V_iload_n dX5_runScript_118 rfl ?_
          refine V_iconstv 1 dX5_runScript_119 (by decide) ?_
          refine V_iadd dX5_runScript_120 ?_
          refine tw_ld 11 (8 * k + 1) (by decide) (by decide) (nI_add _ 1) (show _ < 256 from by omega) (by decide) dX5_runScript_121 ?_
          refine V_aload_n dX5_runScript_122 rfl (Or.inl ⟨_, rfl⟩) ?_
          refine V_get ckX5 tw0 17 (by decide) q2716 rfl rfl dX5_runScript_123 ?_
          refine V_iload_n dX5_runScript_126 rfl ?_
          refine V_iconstv 2 dX5_runScript_127 (by decide) ?_
          refine V_iadd dX5_runScript_128 ?_
          refine tw_ld 11 (8 * k + 2) (by decide) (by decide) (nI_add _ 2) (show _ < 256 from by omega) (by decide) dX5_runScript_129 ?_
          refine V_aload_n dX5_runScript_130 rfl (Or.inl ⟨_, rfl⟩) ?_
          refine V_get ckX5 tw0 17 (by decide) q2716 rfl rfl dX5_runScript_131 ?_
          refine V_iload_n dX5_runScript_134 rfl ?_
          refine V_iconstv 3 dX5_runScript_135 (by decide) ?_
          refine V_iadd dX5_runScript_136 ?_
          refine tw_ld 11 (8 * k + 3) (by decide) (by decide) (nI_add _ 3) (show _ < 256 from by omega) (by decide) dX5_runScript_137 ?_
          refine V_aload_n dX5_runScript_138 rfl (Or.inl ⟨_, rfl⟩) ?_
          refine V_get ckX5 tw0 17 (by decide) q2716 rfl rfl dX5_runScript_139 ?_
          refine V_iload_n dX5_runScript_142 rfl ?_
          refine V_iconstv 4 dX5_runScript_143 (by decide) ?_
          refine V_iadd dX5_runScript_144 ?_
          refine tw_ld 11 (8 * k + 4) (by decide) (by decide) (nI_add _ 4) (show _ < 256 from by omega) (by decide) dX5_runScript_145 ?_
          rw [q10, q11, eKk]
          refine V_callV (q := (RX5, TX5, 23)) kX5_does q3258 q3260 qs108 tw0 rfl dX5_runScript_146 ?_ (d' := 7) (as := [_, _, _, _, _, _]) (hst := rfl)
          refine (tw_does (kind := kind) hm ho rfl hk9 hw (fun _ => g1) g2 (fun T3 r ho3 hk3 => ?_))
          refine V_istore_n dX5_runScript_149 (by decide) ?_
          refine V_goto 183 dX5_runScript_150 (by decide) ?_
          refine V_iinc dX5_runScript_183 rfl (by decide) ?_
          refine V_goto 33 dX5_runScript_186 (by decide) ?_
          refine V_sub (L' := [(0, .ref m), (1, .int r), (2, .int (nI k + Int32.ofInt 1))]) ⟨rfl, rfl, rfl, trivial⟩ ?_
          rw [show nI k + Int32.ofInt 1 = nI (k + 1) from nI_1 k]
          exact ih (k + 1) (by omega) T3 _ r ⟨fun a b1 b5 b6 b7 => (hk3.1 a b1 b5 b6 b7).trans (hT.1 a b1 b5 b6 b7), hk3.2.trans hT.2⟩ ho3 hq2 he
        · rw [if_neg hw] at he
          rw [← he] at kk
          dsimp only at kk
          rw [if_neg hw] at kk
          have hX2 : TwO (T'.1 2) S.1 := by rw [hT.1 2 (by decide) (by decide) (by decide) (by decide)]; exact hbe
          generalize whyK o kind (A (8 * k)) (A (8 * k + 1)) (A (8 * k + 2)) (A (8 * k + 3)) (A (8 * k + 4)) = wy at hw kk
          refine V_iload dX5_runScript_96 rfl ?_
          refine V_if_ne 153 dX5_runScript_98 (by decide) (fun _ => ?_) (fun c98 => absurd c98 hw)
          refine V_aload_n dX5_runScript_153 rfl (Or.inl ⟨_, rfl⟩) ?_
          refine V_get ckX5 tw0 1 (by decide) q2700 rfl rfl dX5_runScript_154 ?_
          refine V_iconstv 0 dX5_runScript_157 (by decide) ?_
          refine V_aload_n dX5_runScript_158 rfl (Or.inl ⟨_, rfl⟩) ?_
          refine V_get ckX5 tw0 0 (by decide) q2699 rfl rfl dX5_runScript_159 ?_
          refine V_iconstv 0 dX5_runScript_162 (by decide) ?_
          refine V_callS kX5_copy q2781 q2782 dX5_runScript_163 ?_ (d' := 0) (as := [_, _, _, _]) (hst := rfl)
          refine (tw_copy (a := 2) (b := 1) (i := 0) (j := 0) hm (by decide) (by decide) (by decide) (by decide) rfl rfl (by decide) (by decide) (by decide) (by decide) (Or.inl (by decide)) ?_)
          refine V_aload_n dX5_runScript_166 rfl (Or.inl ⟨_, rfl⟩) ?_
          refine V_iload_n dX5_runScript_167 rfl ?_
          refine tw_putI 8 hm (by decide) q2707 rfl rfl rfl rfl rfl dX5_runScript_168 ?_
          refine V_aload_n dX5_runScript_171 rfl (Or.inl ⟨_, rfl⟩) ?_
          refine V_iload dX5_runScript_172 rfl ?_
          refine tw_putI 9 hm (by decide) q2708 rfl rfl rfl rfl rfl dX5_runScript_174 ?_
          refine V_aload_n dX5_runScript_177 rfl (Or.inl ⟨_, rfl⟩) ?_
          refine V_iconstv 2 dX5_runScript_178 (by decide) ?_
          refine V_callV (q := (RX5, TX5, 23)) kX5_fail q2794 q2796 qs49 tw0 rfl dX5_runScript_179 ?_ (d' := 0) (as := [_]) (hst := rfl)
          refine (tw_fail hm ?_)
          refine V_ireturn dX5_runScript_182 rfl ?_
          refine kk _ ⟨?_, ⟨⟨?_, a2, ?_⟩, TwV.keep hY.2.2.1 (hT.1 3 (by decide) (by decide) (by decide) (by decide)) (congrFun hT.2 10), ?_, ?_, ?_⟩⟩ rfl
          · refine hX2.cong fun q hq => ?_
            rw [show (twI (twI (twI (twA T' 1 (cpy (T'.1 2) (T'.1 1) 0 0 136)) 8 (nI k)) 9 wy) 5 2).1 1 = cpy (T'.1 2) (T'.1 1) 0 0 136 from (show (twA T' 1 (cpy (T'.1 2) (T'.1 1) 0 0 136)).1 1 = _ from twA_at)]
            show (if 0 ≤ q ∧ q < 0 + 136 then T'.1 2 (0 + (q - 0)) else _) = _
            rw [if_pos (by omega)]
            exact congrArg (T'.1 2) (by omega)
          · show TwH (T'.1 4) S.2.1
            rw [hT.1 4 (by decide) (by decide) (by decide) (by decide)]
            exact hY.2.1.1
          · exact (congrFun hT.2 6).trans hY.2.1.2.2
          · intro j x y
            rcases (show j = 7 ∨ j = 8 ∨ j = 9 by omega) with z | z | z
            · subst z; exact (congrFun hT.2 7).trans (hY.2.2.2.1 7 (by decide) (by decide))
            · subst z; rfl
            · subst z; rfl
          · show TwT (T'.1 8) (T'.2 14) 80 _
            rw [hT.1 8 (by decide) (by decide) (by decide) (by decide), hT.2]
            exact hY.2.2.2.2.1
          · show TwT (T'.1 9) (T'.2 18) 60 _
            rw [hT.1 9 (by decide) (by decide) (by decide) (by decide), hT.2]
            exact hY.2.2.2.2.2
    refine V_if_eq 29 dX5_runScript_12 (by decide) (fun _ => ?_) (fun c12 => absurd rfl c12)
    refine V_iconstv 0 dX5_runScript_29 (by decide) ?_
    refine V_istore_n dX5_runScript_30 (by decide) ?_
    refine V_iconstv 0 dX5_runScript_31 (by decide) ?_
    refine V_istore_n dX5_runScript_32 (by decide) ?_
    refine V_sub (L' := [(0, .ref m), (1, .int 0), (2, .int (nI 0))]) ⟨rfl, rfl, rfl, trivial⟩ ?_
    exact loop n 0 (Nat.zero_add _) T2 S.1 0 ⟨fun _ _ _ _ _ => rfl, rfl⟩ hY.1 hQ0 rfl
end TW23
