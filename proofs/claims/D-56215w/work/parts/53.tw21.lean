/-! REFERENCE 20: commands, parse -/
set_option maxRecDepth 100000
/-- place, wrong, commands, kinds, arguments -/
abbrev PS : Type := Nat × Bool × Nat × (Nat → Int32) × (Nat → Int32)
def pP (T : Tw) (p : PS) : Tw := pT T p.1 p.2.1 p.2.2.1 p.2.2.2.1 p.2.2.2.2
/-- one command, from a place where nothing is wrong -/
def cmS (L : List Int32) (i n : Nat) (K A : Nat → Int32) : PS :=
  if (wdR L i).2.2 = true then ((wdR L i).2.1, true, n, K, A)
  else if (rsA L n (wdR L i).1 ((wdR L i).2.1, false, A)).2.1 = true then ((rsA L n (wdR L i).1 ((wdR L i).2.1, false, A)).1, true, n, K, (rsA L n (wdR L i).1 ((wdR L i).2.1, false, A)).2.2)
  else ((rsA L n (wdR L i).1 ((wdR L i).2.1, false, A)).1, false, n + 1, upd K n (nI (wdR L i).1), (rsA L n (wdR L i).1 ((wdR L i).2.1, false, A)).2.2)
def paF (L : List Int32) : Nat → PS → PS
  | 0, p => p
  | f + 1, p => if mkW p.2.1 L p.1 = 59 then paF L f (cmS L (p.1 + 1) p.2.2.1 p.2.2.2.1 p.2.2.2.2) else p
def paR (L : List Int32) (K A : Nat → Int32) : PS := paF L 60 (cmS L 0 0 K A)
def paW (L : List Int32) (p : PS) : Bool := p.2.1 || decide (p.1 < L.length)
theorem spl_3 : ∀ kind, kind < 9 → ∀ k, k < 3 → ¬ spl kind k = 0 := by decide +kernel
theorem wdF_3 {L : List Int32} {i f kind g : Nat} (hk : kind + f ≤ 9) (h : (wdF L i f kind g).2.2 = false) : i + 3 ≤ (wdF L i f kind g).2.1 := by
  induction f generalizing kind g with
  | zero => cases h
  | succ f ih =>
    unfold wdF at h ⊢
    by_cases e : spl kind (mtF L i kind 7 0) = 0
    · rw [if_pos e]
      show i + 3 ≤ i + mtF L i kind 7 0
      have : ¬ mtF L i kind 7 0 < 3 := fun q => spl_3 kind (by omega) _ q e
      omega
    · rw [if_neg e] at h ⊢
      exact ih (by omega) h
theorem cmS_le {L : List Int32} {i n : Nat} {K A : Nat → Int32} (h : i ≤ L.length) : i ≤ (cmS L i n K A).1 ∧ (cmS L i n K A).1 ≤ L.length ∧ ((cmS L i n K A).2.1 = false → (cmS L i n K A).2.2.1 = n + 1 ∧ i + 3 ≤ (cmS L i n K A).1) := by
  have h1 := wdF_le (L := L) (i := i) (f := 9) (kind := 0) (g := 0) h (by omega) (by decide) (by decide)
  have h2 := rsA_le (L := L) (n := n) (kind := (wdR L i).1) (s := ((wdR L i).2.1, false, A)) h1.2.1
  have h3 := wdF_3 (L := L) (i := i) (f := 9) (kind := 0) (g := 0) (by decide)
  unfold cmS
  cases hw : (wdR L i).2.2 with
  | true => exact ⟨h1.1, h1.2.1, fun q => by cases q⟩
  | false =>
    rw [if_neg (by decide)]
    have h4 : i ≤ (wdR L i).2.1 := h1.1
    cases hr : (rsA L n (wdR L i).1 ((wdR L i).2.1, false, A)).2.1 with
    | true => exact ⟨Nat.le_trans h4 h2.1, h2.2, fun q => by cases q⟩
    | false => exact ⟨Nat.le_trans h4 h2.1, h2.2, fun _ => ⟨rfl, Nat.le_trans (h3 hw) h2.1⟩⟩
section TW21
variable {l : Launch} {E : g_E} {P : Outcome → g_G → Prop} {G : g_G} {m : Nat} {T : Tw} {L : List Int32} {i n : Nat} {K A : Nat → Int32}
theorem tw_command (hm : g_B E ≤ m) (hL : TxT T L) (hi : i ≤ L.length) (hn : n < 32) (kk : P (.returned none) (g_tG E G m (pP T (cmS L i n K A)))) : g_Spc l E mX5_command 5 [.ref m] (g_tG E G m (pT T i false n K A)) P := by
  have h1 := wdF_le (L := L) (i := i) (f := 9) (kind := 0) (g := 0) hi (by omega) (by decide) (by decide)
  unfold cmS at kk
  refine V_intro (plainFor_of_name plX5) (Nat.le_of_ble_eq_true rfl) ?_
  refine V_aload_n dX5_command_0 rfl (Or.inl ⟨_, rfl⟩) ?_
  refine V_callV (q := (RX5, TX5, 23)) kX5_word q3217 q3219 qs100 tw0 rfl dX5_command_1 ?_ (d' := 2) (as := []) (hst := rfl)
  refine (tw_word hm hL hi ?_)
  refine V_istore_n dX5_command_4 (by decide) ?_
  refine V_aload_n dX5_command_5 rfl (Or.inl ⟨_, rfl⟩) ?_
  refine V_get ckX5 tw0 22 (by decide) q2721 rfl rfl dX5_command_6 ?_
  rw [show (pT T (wdR L i).2.1 (false || (wdR L i).2.2) n K A).2 22 = b2i (wdR L i).2.2 from rfl, Bool.false_or]
  cases hw : (wdR L i).2.2 with
  | true =>
    rw [if_pos hw] at kk
    refine V_if_eq 13 dX5_command_9 (by decide) (fun c9 => absurd c9 (show ¬ b2i true = 0 by decide)) (fun _ => ?_)
    refine V_return dX5_command_12 rfl ?_
    exact kk
  | false =>
    rw [if_neg (by rw [hw]; decide)] at kk
    refine V_if_eq 13 dX5_command_9 (by decide) (fun _ => ?_) (fun c9 => absurd rfl c9)
    refine V_aload_n dX5_command_13 rfl (Or.inl ⟨_, rfl⟩) ?_
    refine V_iload_n dX5_command_14 rfl ?_
    refine V_callV (q := (RX5, TX5, 23)) kX5_readsArguments q3227 q3229 qs101 tw0 rfl dX5_command_15 ?_ (d' := 4) (as := [_]) (hst := rfl)
    refine (tw_readsArguments (s := ((wdR L i).2.1, false, A)) (kind := (wdR L i).1) hm hL h1.2.1 rfl h1.2.2 hn ?_)
    refine V_aload_n dX5_command_18 rfl (Or.inl ⟨_, rfl⟩) ?_
    refine V_get ckX5 tw0 22 (by decide) q2721 rfl rfl dX5_command_19 ?_
    rw [show (pT T (rsA L n (wdR L i).1 ((wdR L i).2.1, false, A)).1 (rsA L n (wdR L i).1 ((wdR L i).2.1, false, A)).2.1 n K (rsA L n (wdR L i).1 ((wdR L i).2.1, false, A)).2.2).2 22 = b2i (rsA L n (wdR L i).1 ((wdR L i).2.1, false, A)).2.1 from rfl]
    cases hr : (rsA L n (wdR L i).1 ((wdR L i).2.1, false, A)).2.1 with
    | true =>
      rw [if_pos hr] at kk
      refine V_if_eq 26 dX5_command_22 (by decide) (fun c22 => absurd c22 (show ¬ b2i true = 0 by decide)) (fun _ => ?_)
      refine V_return dX5_command_25 rfl ?_
      exact kk
    | false =>
      rw [if_neg (by rw [hr]; decide)] at kk
      generalize rsA L n (wdR L i).1 ((wdR L i).2.1, false, A) = r at kk
      refine V_if_eq 26 dX5_command_22 (by decide) (fun _ => ?_) (fun c22 => absurd rfl c22)
      refine V_aload_n dX5_command_26 rfl (Or.inl ⟨_, rfl⟩) ?_
      refine V_get ckX5 tw0 16 (by decide) q2715 rfl rfl dX5_command_27 ?_
      refine V_aload_n dX5_command_30 rfl (Or.inl ⟨_, rfl⟩) ?_
      refine V_get ckX5 tw0 21 (by decide) q2720 rfl rfl dX5_command_31 ?_
      rw [show (pT T r.1 false n K r.2.2).2 21 = nI n from rfl]
      refine V_iload_n dX5_command_34 rfl ?_
      refine tw_st 10 (n) hm (by decide) (by decide) rfl (show _ < 32 from by omega) (by decide) dX5_command_35 ?_
      rw [pT_K, show (pT T r.1 false n K r.2.2).1 10 = K from rfl]
      refine V_aload_n dX5_command_36 rfl (Or.inl ⟨_, rfl⟩) ?_
      refine V_dup dX5_command_37 rfl ?_
      refine V_get ckX5 tw0 21 (by decide) q2720 rfl rfl dX5_command_38 ?_
      refine V_iconstv 1 dX5_command_41 (by decide) ?_
      rw [show (pT T r.1 false n (upd K n (nI (wdR L i).1)) r.2.2).2 21 = nI n from rfl]
      refine V_iadd dX5_command_42 ?_
      refine tw_putI 21 hm (by decide) q2720 rfl rfl rfl rfl rfl dX5_command_43 ?_
      refine V_return dX5_command_46 rfl ?_
      rw [pT_cm (show nI n + 1 = nI (n + 1) from nI_1 n)]
      exact kk
theorem tw_parse (hm : g_B E ≤ m) (hL : TwT (T.1 9) (T.2 18) 60 L) (kk : P (.returned none) (g_tG E G m (pT (twI (twI T 19 (T.2 18)) 18 0) (paR L (T.1 10) (T.1 11)).1 (paW L (paR L (T.1 10) (T.1 11))) (paR L (T.1 10) (T.1 11)).2.2.1 (paR L (T.1 10) (T.1 11)).2.2.2.1 (paR L (T.1 10) (T.1 11)).2.2.2.2))) : g_Spc l E mX5_parse 6 [.ref m] (g_tG E G m T) P := by
  have hX : TxT (twI (twI T 19 (T.2 18)) 18 0) L := ⟨hL.1, hL.2.1, hL.2.2⟩
  have hLl := hL.2.1
  have e0 : twI (twI (twI (twI (twI T 19 (T.2 18)) 18 0) 20 0) 21 0) 22 0 = pT (twI (twI T 19 (T.2 18)) 18 0) 0 false 0 (T.1 10) (T.1 11) := by
    refine Prod.ext (funext fun b => ?_) (funext fun b => ?_)
    · show T.1 b = (if b = 10 then T.1 10 else if b = 11 then T.1 11 else T.1 b)
      by_cases h10 : b = 10
      · rw [if_pos h10, h10]
      · rw [if_neg h10]
        by_cases h11 : b = 11
        · rw [if_pos h11, h11]
        · rw [if_neg h11]
    · show (if b = 22 then 0 else if b = 21 then 0 else if b = 20 then 0 else (twI (twI T 19 (T.2 18)) 18 0).2 b) = (if b = 20 then nI 0 else if b = 21 then nI 0 else if b = 22 then b2i false else (twI (twI T 19 (T.2 18)) 18 0).2 b)
      by_cases h20 : b = 20
      · subst h20; rfl
      · by_cases h21 : b = 21
        · subst h21; rfl
        · by_cases h22 : b = 22
          · subst h22; rfl
          · rw [if_neg h22, if_neg h21, if_neg h20, if_neg h20, if_neg h21, if_neg h22]
  refine V_intro (plainFor_of_name plX5) (Nat.le_of_ble_eq_true rfl) ?_
  refine V_aload_n dX5_parse_0 rfl (Or.inl ⟨_, rfl⟩) ?_
  refine V_aload_n dX5_parse_1 rfl (Or.inl ⟨_, rfl⟩) ?_
  refine V_get ckX5 tw0 18 (by decide) q2717 rfl rfl dX5_parse_2 ?_
  refine tw_putI 19 hm (by decide) q2718 rfl rfl rfl rfl rfl dX5_parse_5 ?_
  refine V_aload_n dX5_parse_8 rfl (Or.inl ⟨_, rfl⟩) ?_
  refine V_iconstv 0 dX5_parse_9 (by decide) ?_
  refine tw_putI 18 hm (by decide) q2717 rfl rfl rfl rfl rfl dX5_parse_10 ?_
  refine V_aload_n dX5_parse_13 rfl (Or.inl ⟨_, rfl⟩) ?_
  refine V_iconstv 0 dX5_parse_14 (by decide) ?_
  refine tw_putI 20 hm (by decide) q2719 rfl rfl rfl rfl rfl dX5_parse_15 ?_
  refine V_aload_n dX5_parse_18 rfl (Or.inl ⟨_, rfl⟩) ?_
  refine V_iconstv 0 dX5_parse_19 (by decide) ?_
  refine tw_putI 21 hm (by decide) q2720 rfl rfl rfl rfl rfl dX5_parse_20 ?_
  refine V_aload_n dX5_parse_23 rfl (Or.inl ⟨_, rfl⟩) ?_
  refine V_iconstv 0 dX5_parse_24 (by decide) ?_
  refine tw_putI 22 hm (by decide) q2721 rfl rfl rfl rfl rfl dX5_parse_25 ?_
  rw [e0]
  generalize twI (twI T 19 (T.2 18)) 18 0 = T1 at hX kk
  have loop : ∀ f (p : PS), p.1 ≤ L.length → L.length ≤ p.1 + f → (p.2.1 = false → 4 * p.2.2.1 ≤ p.1 + 1) → paF L f p = paR L (T.1 10) (T.1 11) → V l E mX5_parse 6 P 32 [(0, .ref m)] [] (g_tG E G m (pP T1 p)) := by
    have fin : ∀ p : PS, p.1 ≤ L.length → ¬ mkW p.2.1 L p.1 = 59 → p = paR L (T.1 10) (T.1 11) → V l E mX5_parse 6 P 32 [(0, .ref m)] [] (g_tG E G m (pP T1 p)) := by
      intro p hp hne he
      rw [← he] at kk
      obtain ⟨i, w, n, K, A⟩ := p
      show V l E mX5_parse 6 P 32 [(0, .ref m)] [] (g_tG E G m (pT T1 i w n K A))
      have hp : i ≤ L.length := hp
      refine V_aload_n dX5_parse_32 rfl (Or.inl ⟨_, rfl⟩) ?_
      refine V_callV (q := (RX5, TX5, 23)) kX5_mark q3239 q3241 qs104 tw0 rfl dX5_parse_33 ?_ (d' := 0) (as := []) (hst := rfl)
      refine (tw_mark hX hp ?_)
      refine V_bipushv 59 dX5_parse_36 (by decide) ?_
      refine V_icmp_ne 58 dX5_parse_38 (by decide) (fun _ => ?_) (fun c38 => absurd c38 hne)
      refine V_aload_n dX5_parse_58 rfl (Or.inl ⟨_, rfl⟩) ?_
      refine V_dup dX5_parse_59 rfl ?_
      refine V_get ckX5 tw0 22 (by decide) q2721 rfl rfl dX5_parse_60 ?_
      refine V_aload_n dX5_parse_63 rfl (Or.inl ⟨_, rfl⟩) ?_
      refine V_get ckX5 tw0 20 (by decide) q2719 rfl rfl dX5_parse_64 ?_
      refine V_aload_n dX5_parse_67 rfl (Or.inl ⟨_, rfl⟩) ?_
      refine V_get ckX5 tw0 19 (by decide) q2718 rfl rfl dX5_parse_68 ?_
      rw [show (pT T1 i w n K A).2 22 = b2i w from rfl, show (pT T1 i w n K A).2 20 = nI i from rfl, show (pT T1 i w n K A).2 19 = nI L.length from hX.1]
      by_cases hlt : i < L.length
      · have ew : paW L (i, w, n, K, A) = (w || true) := by unfold paW; rw [decide_eq_true hlt]
        rw [ew] at kk
        refine V_icmp_ge 78 dX5_parse_71 (by decide) (fun c71 => absurd c71 (nI_ge hlt (by omega))) (fun _ => ?_)
        refine V_iconstv 1 dX5_parse_74 (by decide) ?_
        refine V_goto 79 dX5_parse_75 (by decide) ?_
        refine V_ior dX5_parse_79 ?_
        rw [show b2i w ||| 1 = b2i (w || true) from b2i_or w true]
        refine tw_putI 22 hm (by decide) q2721 rfl rfl (b2i_nar _) (b2i_fit _) rfl dX5_parse_80 ?_
        refine V_return dX5_parse_83 rfl ?_
        rw [pT_wr rfl]
        exact kk
      · have ew : paW L (i, w, n, K, A) = (w || false) := by unfold paW; rw [decide_eq_false hlt]
        rw [ew] at kk
        refine V_icmp_ge 78 dX5_parse_71 (by decide) (fun _ => ?_) (fun c71 => absurd (nI_le (by omega) (by omega)) c71)
        refine V_iconstv 0 dX5_parse_78 (by decide) ?_
        refine V_ior dX5_parse_79 ?_
        rw [show b2i w ||| 0 = b2i (w || false) from b2i_or w false]
        refine tw_putI 22 hm (by decide) q2721 rfl rfl (b2i_nar _) (b2i_fit _) rfl dX5_parse_80 ?_
        refine V_return dX5_parse_83 rfl ?_
        rw [pT_wr rfl]
        exact kk
    intro f
    induction f with
    | zero =>
      intro p hp hf hn he
      refine fin p hp (fun q => ?_) he
      cases hw : p.2.1 with
      | true => rw [hw] at q; exact absurd (show (-1 : Int32) = 59 from q) (by decide)
      | false =>
        rw [hw] at q
        have := mkC_in (show mkC L p.1 = 59 from q) (by decide)
        omega
    | succ f ih =>
      intro p hp hf hn he
      by_cases hq : mkW p.2.1 L p.1 = 59
      · have hw : p.2.1 = false := by
          cases hw : p.2.1 with
          | true => rw [hw] at hq; exact absurd (show (-1 : Int32) = 59 from hq) (by decide)
          | false => rfl
        have hn := hn hw
        obtain ⟨i, w, n, K, A⟩ := p
        have hw : w = false := hw
        subst hw
        have hp : i ≤ L.length := hp
        have hf : L.length ≤ i + (f + 1) := hf
        have hn : 4 * n ≤ i + 1 := hn
        have hlt := mkC_in (show mkC L i = 59 from hq) (by decide)
        have he : (if mkW false L i = 59 then paF L f (cmS L (i + 1) n K A) else (i, false, n, K, A)) = paR L (T.1 10) (T.1 11) := he
        rw [if_pos hq] at he
        have hc := cmS_le (n := n) (K := K) (A := A) (show i + 1 ≤ L.length from hlt)
        show V l E mX5_parse 6 P 32 [(0, .ref m)] [] (g_tG E G m (pT T1 i false n K A))
        refine V_aload_n dX5_parse_32 rfl (Or.inl ⟨_, rfl⟩) ?_
        refine V_callV (q := (RX5, TX5, 23)) kX5_mark q3239 q3241 qs104 tw0 rfl dX5_parse_33 ?_ (d' := 0) (as := []) (hst := rfl)
        refine (tw_mark hX hp ?_)
        refine V_bipushv 59 dX5_parse_36 (by decide) ?_
        refine V_icmp_ne 58 dX5_parse_38 (by decide) (fun c38 => absurd c38 (not_not_intro hq)) (fun _ => ?_)
        refine V_aload_n dX5_parse_41 rfl (Or.inl ⟨_, rfl⟩) ?_
        refine V_dup dX5_parse_42 rfl ?_
        refine V_get ckX5 tw0 20 (by decide) q2719 rfl rfl dX5_parse_43 ?_
        refine V_iconstv 1 dX5_parse_46 (by decide) ?_
        rw [show (pT T1 i false n K A).2 20 = nI i from rfl]
        refine V_iadd dX5_parse_47 ?_
        refine tw_putI 20 hm (by decide) q2719 rfl rfl rfl rfl rfl dX5_parse_48 ?_
        rw [pT_pos (show nI i + 1 = nI (i + 1) from nI_1 i)]
        refine V_aload_n dX5_parse_51 rfl (Or.inl ⟨_, rfl⟩) ?_
        refine V_callV (q := (RX5, TX5, 23)) kX5_command q3213 q3215 qs99 tw0 rfl dX5_parse_52 ?_ (d' := 5) (as := []) (hst := rfl)
        refine (tw_command hm hX hlt (by omega) ?_)
        refine V_goto 32 dX5_parse_55 (by decide) ?_
        refine V_subk (ih (cmS L (i + 1) n K A) hc.2.1 (by omega) (fun q => ?_) he) ⟨rfl, trivial⟩
        have := hc.2.2 q
        omega
      · have he : (if mkW p.2.1 L p.1 = 59 then paF L f (cmS L (p.1 + 1) p.2.2.1 p.2.2.2.1 p.2.2.2.2) else p) = paR L (T.1 10) (T.1 11) := he
        rw [if_neg hq] at he
        exact fin p hp hq he
  have hc := cmS_le (n := 0) (K := T.1 10) (A := T.1 11) (show 0 ≤ L.length from Nat.zero_le _)
  refine V_aload_n dX5_parse_28 rfl (Or.inl ⟨_, rfl⟩) ?_
  refine V_callV (q := (RX5, TX5, 23)) kX5_command q3213 q3215 qs99 tw0 rfl dX5_parse_29 ?_ (d' := 5) (as := []) (hst := rfl)
  refine (tw_command hm hX (Nat.zero_le _) (by decide) ?_)
  refine V_subk (loop 60 (cmS L 0 0 (T.1 10) (T.1 11)) hc.2.1 (by omega) (fun q => ?_) rfl) ⟨rfl, trivial⟩
  have := hc.2.2 q
  omega
end TW21
