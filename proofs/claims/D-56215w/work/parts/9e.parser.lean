/-! MODULE Parser: characters, numbers -/
set_option maxRecDepth 100000
def curC (L : List Int32) (i : Nat) : Int32 := (L[i]?).getD 10
/-- the text's characters -/
def TxC (L : List Int32) : Prop := L.length ≤ 60 ∧ ∀ c ∈ L, isb c 32 126 = true
theorem isb_C {c : Int32} (h : isb c 32 126 = true) : isC c := by
  unfold isb at h
  rw [Bool.and_eq_true] at h
  have h1 := Int32.le_iff_toInt_le.mp (of_decide_eq_true h.1)
  have h2 := Int32.le_iff_toInt_le.mp (of_decide_eq_true h.2)
  have h1 : 32 ≤ c.toInt := h1
  have h2 : c.toInt ≤ 126 := h2
  refine ⟨c.toInt.toNat, by omega, ?_⟩
  apply Int32.toInt_inj.mp
  rw [nI_toInt (by omega)]
  omega
theorem TxC.isC {L : List Int32} (h : TxC L) : ∀ c ∈ L, isC c := fun c hc => isb_C (h.2 c hc)
theorem curC_C {L : List Int32} {i : Nat} (h : TxC L) : isC (curC L i) := by
  unfold curC
  cases hx : L[i]? with
  | none => exact ⟨10, by decide, rfl⟩
  | some c => exact h.isC c (List.mem_of_getElem? hx)
theorem cur_mk {L : List Int32} {i : Nat} {c : Int32} (h1 : c ≠ 10) (h2 : c ≠ -1) : curC L i = c ↔ mkC L i = c := by
  unfold curC mkC
  cases L[i]? with
  | none => exact ⟨fun e => absurd e.symm h1, fun e => absurd e.symm h2⟩
  | some x => exact Iff.rfl
theorem cur_isD {L : List Int32} {i : Nat} : isb (curC L i) 48 57 = isD (mkC L i) := by
  unfold curC mkC isD
  cases L[i]? with
  | none => decide
  | some x => rfl
theorem cur_isM {L : List Int32} {i : Nat} : isM (curC L i) = isM (mkC L i) := by
  unfold curC mkC
  cases L[i]? with
  | none => decide
  | some x => rfl
theorem rdR_t {L : List Int32} {i : Nat} {c : Int32} : rdR true L i c = (0, i, true) := by
  unfold rdR rdW nmR
  simp
section PARSER
variable {l : Launch} {E : g_E} {P : Outcome → g_G → Prop} {G : g_G}
/-- a parser over the text L, at i -/
def PaAt (E : g_E) (G : g_G) (pr ta : Nat) (L : List Int32) (i : Nat) : Prop := G.1 pr = some (g_ob 16 [.ref ta, .int (nI i)]) ∧ StrN E G ta L
theorem PaAt.up {pr ta i j : Nat} {L : List Int32} (h : PaAt E G pr ta L i) : PaAt E (g_up G pr (g_ob 16 [.ref ta, .int (nI j)])) pr ta L j := ⟨g_up_at, h.2.ke2 (g_ke.up (A := fun q => q ≠ pr) (fun q => q rfl) _) fun q x hx hi e => by
  subst e
  rw [h.1] at hx
  cases hx
  cases hi⟩
theorem PaAt.keep {pr ta i : Nat} {L : List Int32} {G' : g_G} (h : PaAt E G pr ta L i) (hk : g_ke g_all G G') : PaAt E G' pr ta L i := ⟨hk _ _ trivial h.1, h.2.ke2 hk fun _ _ _ _ => trivial⟩
theorem pa_current {pr ta i : Nat} {L : List Int32} (h : PaAt E G pr ta L i) (hT : TxC L) (hi : i ≤ L.length) (k : P (.returned (some (.int (curC L i)))) G) : g_Spc l E mX18_current 4 [.ref pr] G P := by
  obtain ⟨h1, h2⟩ := h
  have hR := h2.R
  obtain ⟨va, hc, -⟩ := id h2
  have h60 := hT.1
  refine V_intro (plainFor_of_name plX18) (Nat.le_of_ble_eq_true rfl) ?_
  by_cases hl : i < L.length
  · obtain ⟨c, hcc, -⟩ := drop_at hl
    have e : curC L i = c := by unfold curC; rw [hcc]; rfl
    have hC := curC_C (i := i) hT
    rw [e] at k hC
    refine V_aload_n dX18_current_0 rfl (Or.inl ⟨_, rfl⟩) ?_
    refine V_get ckX18 (by first | assumption | (repeat (first | exact g_up_at | exact g_new_at rfl | assumption | refine g_up_of (by first | assumption | (simp only [g_new, g_up]; omega) | omega) ?_ | refine g_new_of (by first | assumption | (simp only [g_new, g_up]; omega) | omega) ?_))) 1 (by decide) q2312 rfl (by rfl) dX18_current_1 ?_
    refine V_aload_n dX18_current_4 rfl (Or.inl ⟨_, rfl⟩) ?_
    refine V_get ckX18 (by first | assumption | (repeat (first | exact g_up_at | exact g_new_at rfl | assumption | refine g_up_of (by first | assumption | (simp only [g_new, g_up]; omega) | omega) ?_ | refine g_new_of (by first | assumption | (simp only [g_new, g_up]; omega) | omega) ?_))) 0 (by decide) q2311 rfl (by rfl) dX18_current_5 ?_
    refine V_callV (q := (RJ7, TJ7, 4)) kJ7_length q2338 q667 q668 hc rfl dX18_current_8 ?_ (d' := 1) (as := []) (hst := rfl)
    refine (str_length hR ?_)
    refine V_icmp_ge 28 dX18_current_11 (by decide) (fun c11 => absurd c11 (nI_ge hl (by omega))) (fun _ => ?_)
    refine V_aload_n dX18_current_14 rfl (Or.inl ⟨_, rfl⟩) ?_
    refine V_get ckX18 (by first | assumption | (repeat (first | exact g_up_at | exact g_new_at rfl | assumption | refine g_up_of (by first | assumption | (simp only [g_new, g_up]; omega) | omega) ?_ | refine g_new_of (by first | assumption | (simp only [g_new, g_up]; omega) | omega) ?_))) 0 (by decide) q2311 rfl (by rfl) dX18_current_15 ?_
    refine V_aload_n dX18_current_18 rfl (Or.inl ⟨_, rfl⟩) ?_
    refine V_get ckX18 (by first | assumption | (repeat (first | exact g_up_at | exact g_new_at rfl | assumption | refine g_up_of (by first | assumption | (simp only [g_new, g_up]; omega) | omega) ?_ | refine g_new_of (by first | assumption | (simp only [g_new, g_up]; omega) | omega) ?_))) 1 (by decide) q2312 rfl (by rfl) dX18_current_19 ?_
    refine V_callV (q := (RJ7, TJ7, 4)) kJ7_charAt q2339 q2252 q2253 hc rfl dX18_current_22 ?_ (d' := 3) (as := [_]) (hst := rfl)
    refine (str_charAt hR (by omega) rfl hcc hC ?_)
    refine V_goto 30 dX18_current_25 (by decide) ?_
    refine V_zreturn dX18_current_30 rfl hC.nar ?_
    exact k
  · have e : curC L i = 10 := by unfold curC; rw [List.getElem?_eq_none (by omega)]; rfl
    rw [e] at k
    refine V_aload_n dX18_current_0 rfl (Or.inl ⟨_, rfl⟩) ?_
    refine V_get ckX18 (by first | assumption | (repeat (first | exact g_up_at | exact g_new_at rfl | assumption | refine g_up_of (by first | assumption | (simp only [g_new, g_up]; omega) | omega) ?_ | refine g_new_of (by first | assumption | (simp only [g_new, g_up]; omega) | omega) ?_))) 1 (by decide) q2312 rfl (by rfl) dX18_current_1 ?_
    refine V_aload_n dX18_current_4 rfl (Or.inl ⟨_, rfl⟩) ?_
    refine V_get ckX18 (by first | assumption | (repeat (first | exact g_up_at | exact g_new_at rfl | assumption | refine g_up_of (by first | assumption | (simp only [g_new, g_up]; omega) | omega) ?_ | refine g_new_of (by first | assumption | (simp only [g_new, g_up]; omega) | omega) ?_))) 0 (by decide) q2311 rfl (by rfl) dX18_current_5 ?_
    refine V_callV (q := (RJ7, TJ7, 4)) kJ7_length q2338 q667 q668 hc rfl dX18_current_8 ?_ (d' := 1) (as := []) (hst := rfl)
    refine (str_length hR ?_)
    refine V_icmp_ge 28 dX18_current_11 (by decide) (fun _ => ?_) (fun c11 => absurd (nI_le (by omega) (by omega)) c11)
    refine V_bipushv 10 dX18_current_28 (by decide) ?_
    refine V_zreturn dX18_current_30 rfl rfl ?_
    exact k
theorem pa_require {pr ta i : Nat} {L : List Int32} {b : Bool} (h : PaAt E G pr ta L i) (hf : g_fit E G 1 7) (kt : b = true → P (.returned none) G) (kf : b = false → ∀ q G', g_mod g_all G G' 1 7 → SyAt G' q (nI i) → P (.threw q) G') : g_Spc l E mX18_require 7 [.ref pr, .int (b2i b)] G P := by
  obtain ⟨hf1, hf2⟩ := hf
  have hp := h.1
  refine V_intro (plainFor_of_name plX18) (Nat.le_of_ble_eq_true rfl) ?_
  refine V_wf (fun wf hBG => ?_)
  refine V_iload_n dX18_require_0 rfl ?_
  refine V_if_ne 16 dX18_require_1 (by decide) (fun c1 => ?_) (fun c1 => ?_)
  · refine V_return dX18_require_16 rfl ?_
    exact kt (b2i_t c1)
  · refine V_new ckX19 q2469 dX18_require_4 (by first | omega | (simp only [g_new, g_up]; omega)) (by first | omega | (simp only [g_new, g_up]; omega)) ?_
    refine V_dup dX18_require_7 rfl ?_
    refine V_aload_n dX18_require_8 rfl (Or.inl ⟨_, rfl⟩) ?_
    refine V_get ckX18 (g_new_of (wf.ne hp) hp) 1 (by decide) q2312 rfl (by rfl) dX18_require_9 ?_
    refine V_callI kX19_init rfl rfl q2478 q2479 dX18_require_12 ?_ (d' := 6) (as := [_]) (hst := rfl)
    refine (syn_init (g_new_at rfl) hBG (fun v1 v2 v3 v4 v5 v6 => ?_))
    rw [g_new_up rfl]
    refine V_athrow dX18_require_15 ?_
    exact VX_out (ci := 0) (fs := []) rfl (kf (b2i_f c1) _ _ (g_mod.new1 wf) ⟨v1, v2, v3, v4, v5, v6, g_new_at rfl⟩)
theorem pa_isAtDigit {pr ta i : Nat} {L : List Int32} (h : PaAt E G pr ta L i) (hT : TxC L) (hi : i ≤ L.length) (k : P (.returned (some (.int (b2i (isb (curC L i) 48 57))))) G) : g_Spc l E mX18_isAtDigit 5 [.ref pr] G P := by
  have h0 := h
  obtain ⟨h1, h2⟩ := h
  refine V_intro (plainFor_of_name plX18) (Nat.le_of_ble_eq_true rfl) ?_
  refine V_aload_n dX18_isAtDigit_0 rfl (Or.inl ⟨_, rfl⟩) ?_
  refine V_callV (q := (RX18, TX18, 2)) kX18_current q2334 q2336 qs38 (by first | assumption | (repeat (first | exact g_up_at | exact g_new_at rfl | assumption | refine g_up_of (by first | assumption | (simp only [g_new, g_up]; omega) | omega) ?_ | refine g_new_of (by first | assumption | (simp only [g_new, g_up]; omega) | omega) ?_))) rfl dX18_isAtDigit_1 ?_ (d' := 4) (as := []) (hst := rfl)
  refine (pa_current h0 hT hi ?_)
  refine V_bipushv 48 dX18_isAtDigit_4 (by decide) ?_
  refine V_icmp_lt 22 dX18_isAtDigit_6 (by decide) (fun c6 => ?_) (fun c6 => ?_)
  · refine V_iconstv 0 dX18_isAtDigit_22 (by decide) ?_
    refine V_zreturn dX18_isAtDigit_23 rfl rfl ?_
    have e : isb (curC L i) 48 57 = false := by unfold isb; rw [decide_eq_false (Int32.not_le.mpr c6)]; rfl
    rw [e] at k
    exact k
  · refine V_aload_n dX18_isAtDigit_9 rfl (Or.inl ⟨_, rfl⟩) ?_
    refine V_callV (q := (RX18, TX18, 2)) kX18_current q2334 q2336 qs38 (by first | assumption | (repeat (first | exact g_up_at | exact g_new_at rfl | assumption | refine g_up_of (by first | assumption | (simp only [g_new, g_up]; omega) | omega) ?_ | refine g_new_of (by first | assumption | (simp only [g_new, g_up]; omega) | omega) ?_))) rfl dX18_isAtDigit_10 ?_ (d' := 4) (as := []) (hst := rfl)
    refine (pa_current h0 hT hi ?_)
    refine V_bipushv 57 dX18_isAtDigit_13 (by decide) ?_
    refine V_icmp_gt 22 dX18_isAtDigit_15 (by decide) (fun c15 => ?_) (fun c15 => ?_)
    · refine V_iconstv 0 dX18_isAtDigit_22 (by decide) ?_
      refine V_zreturn dX18_isAtDigit_23 rfl rfl ?_
      have e : isb (curC L i) 48 57 = false := by unfold isb; rw [decide_eq_false (p := curC L i ≤ 57) (Int32.not_le.mpr c15), Bool.and_false]
      rw [e] at k
      exact k
    · refine V_iconstv 1 dX18_isAtDigit_18 (by decide) ?_
      refine V_goto 23 dX18_isAtDigit_19 (by decide) ?_
      refine V_zreturn dX18_isAtDigit_23 rfl rfl ?_
      have e : isb (curC L i) 48 57 = true := by unfold isb; rw [decide_eq_true (Int32.not_lt.mp c6), decide_eq_true (p := curC L i ≤ 57) (Int32.not_lt.mp c15)]; rfl
      rw [e] at k
      exact k
/-- how a parser's step ends: at place j -/
theorem pa_number {pr ta i : Nat} {L : List Int32} {c : Int32} (h : PaAt E G pr ta L i) (hB : g_B E ≤ pr) (hT : TxC L) (hi : i ≤ L.length) (hc : c = 32 ∨ c = 47) (hf : g_fit E G 1 7) (kt : ∀ v j, rdR false L i c = (v, j, false) → j ≤ L.length → P (.returned (some (.int v))) (g_up G pr (g_ob 16 [.ref ta, .int (nI j)]))) (kf : ∀ v j, rdR false L i c = (v, j, true) → ∀ q G', g_mod (fun q => q ≠ pr) G G' 1 7 → SyAt G' q (nI j) → P (.threw q) G') : g_Spc l E mX18_numberAfter 8 [.ref pr, .int c] G P := by
  have h0 := h
  obtain ⟨h1, h2⟩ := h
  have h60 := hT.1
  have hc10 : c ≠ 10 := by rcases hc with rfl | rfl <;> decide
  have hc1 : c ≠ -1 := by rcases hc with rfl | rfl <;> decide
  refine V_intro (plainFor_of_name plX18) (Nat.le_of_ble_eq_true rfl) ?_
  have loop : ∀ f kk, kk + f = 4 → ∀ (j : Nat) (v : Int32), j ≤ L.length → numG L 4 (i + 1) 0 = numG L f j v → (∀ v' j', numG L 4 (i + 1) 0 = (v', j') → j' ≤ L.length → P (.returned (some (.int v'))) (g_up G pr (g_ob 16 [.ref ta, .int (nI j')]))) → V l E mX18_numberAfter 8 P 39 [(0, .ref pr), (2, .int v), (3, .int (nI kk))] [] (g_up G pr (g_ob 16 [.ref ta, .int (nI j)])) := by
    intro f
    induction f with
    | zero =>
      intro kk hk j v hj e k
      have ek : kk = 4 := hk
      subst ek
      refine V_iload_n dX18_numberAfter_39 rfl ?_
      refine V_iconstv 4 dX18_numberAfter_40 (by decide) ?_
      refine V_icmp_ge 87 dX18_numberAfter_41 (by decide) (fun _ => ?_) (fun c41 => absurd (by decide) c41)
      refine V_iload_n dX18_numberAfter_87 rfl ?_
      refine V_ireturn dX18_numberAfter_88 rfl ?_
      exact k v j e hj
    | succ f ih =>
      intro kk hk j v hj e k
      have hP : PaAt E (g_up G pr (g_ob 16 [.ref ta, .int (nI j)])) pr ta L j := h0.up
      obtain ⟨va, hcs, -⟩ := id hP.2
      refine V_iload_n dX18_numberAfter_39 rfl ?_
      refine V_iconstv 4 dX18_numberAfter_40 (by decide) ?_
      refine V_icmp_ge 87 dX18_numberAfter_41 (by decide) (fun c41 => absurd c41 (nI_ge (b := 4) (by omega) (by decide))) (fun _ => ?_)
      refine V_aload_n dX18_numberAfter_44 rfl (Or.inl ⟨_, rfl⟩) ?_
      refine V_callV (q := (RX18, TX18, 2)) kX18_isAtDigit q2505 q2507 qs42 hP.1 rfl dX18_numberAfter_45 ?_ (d' := 5) (as := []) (hst := rfl)
      refine (pa_isAtDigit hP hT hj ?_)
      cases hd : isb (curC L j) 48 57 with
      | false =>
        refine V_if_eq 87 dX18_numberAfter_48 (by decide) (fun _ => ?_) (fun c48 => absurd rfl c48)
        refine V_iload_n dX18_numberAfter_87 rfl ?_
        refine V_ireturn dX18_numberAfter_88 rfl ?_
        rw [cur_isD] at hd
        have e2 : numG L (f + 1) j v = (v, j) := by
          show (if isD (mkC L j) = true then _ else (v, j)) = _
          rw [hd]
          rfl
        exact k v j (e.trans e2) hj
      | true =>
        rw [cur_isD] at hd
        have hjl : j < L.length := mkC_D hd
        obtain ⟨x, hx, -⟩ := drop_at hjl
        have em : mkC L j = x := by unfold mkC; rw [hx]; rfl
        have e2 : numG L (f + 1) j v = numG L f (j + 1) (10 * v + x - 48) := by
          show (if isD (mkC L j) = true then numG L f (j + 1) (10 * v + mkC L j - 48) else (v, j)) = _
          rw [if_pos hd, em]
        refine V_if_eq 87 dX18_numberAfter_48 (by decide) (fun c48 => absurd c48 (by decide)) (fun _ => ?_)
        refine V_bipushv 10 dX18_numberAfter_51 (by decide) ?_
        refine V_iload_n dX18_numberAfter_53 rfl ?_
        refine V_imul dX18_numberAfter_54 ?_
        refine V_aload_n dX18_numberAfter_55 rfl (Or.inl ⟨_, rfl⟩) ?_
        refine V_get ckX18 hP.1 0 (by decide) q2311 rfl (by rfl) dX18_numberAfter_56 ?_
        refine V_aload_n dX18_numberAfter_59 rfl (Or.inl ⟨_, rfl⟩) ?_
        refine V_get ckX18 hP.1 1 (by decide) q2312 rfl (by rfl) dX18_numberAfter_60 ?_
        refine V_callV (q := (RJ7, TJ7, 4)) kJ7_charAt q2339 q2252 q2253 hcs rfl dX18_numberAfter_63 ?_ (d' := 3) (as := [_]) (hst := rfl)
        refine (str_charAt hP.2.R (by omega) rfl hx (hT.isC x (List.mem_of_getElem? hx)) ?_)
        refine V_iadd dX18_numberAfter_66 ?_
        refine V_bipushv 48 dX18_numberAfter_67 (by decide) ?_
        refine V_isub dX18_numberAfter_69 ?_
        refine V_istore_n dX18_numberAfter_70 (by decide) ?_
        refine V_aload_n dX18_numberAfter_71 rfl (Or.inl ⟨_, rfl⟩) ?_
        refine V_dup dX18_numberAfter_72 rfl ?_
        refine V_get ckX18 hP.1 1 (by decide) q2312 rfl (by rfl) dX18_numberAfter_73 ?_
        refine V_iconstv 1 dX18_numberAfter_76 (by decide) ?_
        refine V_iadd dX18_numberAfter_77 ?_
        refine V_put ckX18 hP.1 (by first | assumption | omega | (simp only [g_new, g_up]; omega) | (simp only [g_new, g_up, g_B] at *; omega)) 1 (by decide) q2312 rfl rfl rfl rfl (Nat.le_of_ble_eq_true rfl) dX18_numberAfter_78 ?_
        refine V_iinc dX18_numberAfter_81 rfl (by decide) ?_
        refine V_goto 39 dX18_numberAfter_84 (by decide) ?_
        rw [g_up_up]
        have e9 : nI j + 1 = nI (j + 1) := nI_1 j
        rw [e9]
        refine V_subk (ih (kk + 1) (by omega) (j + 1) (10 * v + x - 48) (by omega) (e.trans e2) k) ⟨rfl, rfl, ?_, trivial⟩
        rw [← nI_1 kk]; rfl
  have rest : ∀ b : Bool, b = decide (mkC L i = c) → V l E mX18_numberAfter 8 P 14 (lv_args 0 [.ref pr, .int c]) [.int (b2i b), .ref pr] G := by
    intro b hb
    refine V_callV (q := (RX18, TX18, 2)) kX18_require q2465 q2467 qs39 (by first | assumption | (repeat (first | exact g_up_at | exact g_new_at rfl | assumption | refine g_up_of (by first | assumption | (simp only [g_new, g_up]; omega) | omega) ?_ | refine g_new_of (by first | assumption | (simp only [g_new, g_up]; omega) | omega) ?_))) rfl dX18_numberAfter_14 ?_ (d' := 7) (as := [_]) (hst := rfl)
    refine (pa_require h0 hf (fun ht => ?_) (fun ht q G' m hs => ?_))
    · rw [hb] at ht
      have em := of_decide_eq_true ht
      have hil : i < L.length := mkC_in em hc1
      have er : rdR false L i c = nmR false L (i + 1) := by
        unfold rdR rdW
        rw [show mkW false L i = mkC L i from rfl, em, decide_eq_true rfl]
        rfl
      have hP : PaAt E (g_up G pr (g_ob 16 [.ref ta, .int (nI (i + 1))])) pr ta L (i + 1) := h0.up
      refine V_aload_n dX18_numberAfter_17 rfl (Or.inl ⟨_, rfl⟩) ?_
      refine V_dup dX18_numberAfter_18 rfl ?_
      refine V_get ckX18 (by first | assumption | (repeat (first | exact g_up_at | exact g_new_at rfl | assumption | refine g_up_of (by first | assumption | (simp only [g_new, g_up]; omega) | omega) ?_ | refine g_new_of (by first | assumption | (simp only [g_new, g_up]; omega) | omega) ?_))) 1 (by decide) q2312 rfl (by rfl) dX18_numberAfter_19 ?_
      refine V_iconstv 1 dX18_numberAfter_22 (by decide) ?_
      refine V_iadd dX18_numberAfter_23 ?_
      refine V_put ckX18 (by first | assumption | (repeat (first | exact g_up_at | exact g_new_at rfl | assumption | refine g_up_of (by first | assumption | (simp only [g_new, g_up]; omega) | omega) ?_ | refine g_new_of (by first | assumption | (simp only [g_new, g_up]; omega) | omega) ?_))) (by first | assumption | omega | (simp only [g_new, g_up]; omega) | (simp only [g_new, g_up, g_B] at *; omega)) 1 (by decide) q2312 rfl rfl rfl rfl (Nat.le_of_ble_eq_true rfl) dX18_numberAfter_24 ?_
      rw [show nI i + 1 = nI (i + 1) from nI_1 i]
      refine V_aload_n dX18_numberAfter_27 rfl (Or.inl ⟨_, rfl⟩) ?_
      refine V_aload_n dX18_numberAfter_28 rfl (Or.inl ⟨_, rfl⟩) ?_
      refine V_callV (q := (RX18, TX18, 2)) kX18_isAtDigit q2505 q2507 qs42 hP.1 rfl dX18_numberAfter_29 ?_ (d' := 5) (as := []) (hst := rfl)
      refine (pa_isAtDigit hP hT (by omega) ?_)
      refine V_callV (q := (RX18, TX18, 2)) kX18_require q2465 q2467 qs39 hP.1 rfl dX18_numberAfter_32 ?_ (d' := 7) (as := [_]) (hst := rfl)
      refine (pa_require hP ⟨hf.1, hf.2⟩ (fun hd => ?_) (fun hd q G' m hs => ?_))
      · rw [cur_isD] at hd
        refine V_iconstv 0 dX18_numberAfter_35 (by decide) ?_
        refine V_istore_n dX18_numberAfter_36 (by decide) ?_
        refine V_iconstv 0 dX18_numberAfter_37 (by decide) ?_
        refine V_istore_n dX18_numberAfter_38 (by decide) ?_
        refine V_subk (loop 4 0 rfl (i + 1) 0 (by omega) rfl (fun v' j' e hj' => ?_)) ⟨rfl, rfl, rfl, trivial⟩
        refine kt v' j' ?_ hj'
        rw [er]
        unfold nmR
        rw [show mkW false L (i + 1) = mkC L (i + 1) from rfl, hd]
        show ((numG L 4 (i + 1) 0).1, (numG L 4 (i + 1) 0).2, false) = _
        rw [e]
      · rw [cur_isD] at hd
        refine VX_out (ci := 0) (fs := []) rfl (kf 0 (i + 1) ?_ q G' ?_ hs)
        · rw [er]
          unfold nmR
          rw [show mkW false L (i + 1) = mkC L (i + 1) from rfl, hd]
          rfl
        · obtain ⟨m1, m2, m3, m4, m5⟩ := m
          exact ⟨fun z x hz hx => m1 z x trivial (g_up_of hz hx), m2, m3, m4, m5⟩
    · rw [hb] at ht
      have em := of_decide_eq_false ht
      refine VX_out (ci := 0) (fs := []) rfl (kf 0 i ?_ q G' (m.wide (fun _ _ => trivial) (Nat.le_refl _) (Nat.le_refl _)) hs)
      unfold rdR rdW
      rw [show mkW false L i = mkC L i from rfl, decide_eq_false em]
      rfl
  refine V_aload_n dX18_numberAfter_0 rfl (Or.inl ⟨_, rfl⟩) ?_
  refine V_aload_n dX18_numberAfter_1 rfl (Or.inl ⟨_, rfl⟩) ?_
  refine V_callV (q := (RX18, TX18, 2)) kX18_current q2334 q2336 qs38 (by first | assumption | (repeat (first | exact g_up_at | exact g_new_at rfl | assumption | refine g_up_of (by first | assumption | (simp only [g_new, g_up]; omega) | omega) ?_ | refine g_new_of (by first | assumption | (simp only [g_new, g_up]; omega) | omega) ?_))) rfl dX18_numberAfter_2 ?_ (d' := 4) (as := []) (hst := rfl)
  refine (pa_current h0 hT hi ?_)
  refine V_iload_n dX18_numberAfter_5 rfl ?_
  refine V_icmp_ne 13 dX18_numberAfter_6 (by decide) (fun c6 => ?_) (fun c6 => ?_)
  · refine V_iconstv 0 dX18_numberAfter_13 (by decide) ?_
    exact V_subk (rest false (decide_eq_false (fun q => c6 ((cur_mk hc10 hc1).mpr q))).symm) ⟨rfl, rfl, trivial⟩
  · refine V_iconstv 1 dX18_numberAfter_9 (by decide) ?_
    refine V_goto 14 dX18_numberAfter_10 (by decide) ?_
    exact V_subk (rest true (decide_eq_true ((cur_mk hc10 hc1).mp c6)).symm) ⟨rfl, rfl, trivial⟩
end PARSER
