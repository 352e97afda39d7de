/-! MODULE Tree: nearer; Optional -/
set_option maxRecDepth 100000
/-- c is nearer to t than b, or as near with the lesser id -/
def nrB (k : Nat) (t : Tn) (c b : Rw) : Bool := decide (dst k t c.2.1 - dst k t b.2.1 < 0) || (decide (dst k t c.2.1 - dst k t b.2.1 = 0) && decide (c.1 < b.1))
def nrM (k : Nat) (t : Tn) : Nat → Nat → List FD → FD → FD
  | _, _, [], b => b
  | 0, _, _ :: _, b => b
  | f + 1, a, c :: r, b =>
    if comb k (i_abs (tn_at t a - tn_at c.2.2.1 a)) 0 0 ≤ dst k t (nrM k t f ((a + 1) % 3) (if lfB a c.2 t = true then lfL a c r else rgL a c r) (if nrB k t c.2 b.2 = true then c else b)).2.2.1
    then nrM k t f ((a + 1) % 3) (if lfB a c.2 t = true then rgL a c r else lfL a c r) (nrM k t f ((a + 1) % 3) (if lfB a c.2 t = true then lfL a c r else rgL a c r) (if nrB k t c.2 b.2 = true then c else b))
    else nrM k t f ((a + 1) % 3) (if lfB a c.2 t = true then lfL a c r else rgL a c r) (if nrB k t c.2 b.2 = true then c else b)
theorem nrM_nil {k : Nat} {t : Tn} {f a : Nat} {b : FD} : nrM k t f a [] b = b := by cases f <;> rfl
theorem nrM_c {k : Nat} {t : Tn} {f a : Nat} {c b : FD} {r : List FD} : nrM k t (f + 1) a (c :: r) b = if comb k (i_abs (tn_at t a - tn_at c.2.2.1 a)) 0 0 ≤ dst k t (nrM k t f ((a + 1) % 3) (if lfB a c.2 t = true then lfL a c r else rgL a c r) (if nrB k t c.2 b.2 = true then c else b)).2.2.1
    then nrM k t f ((a + 1) % 3) (if lfB a c.2 t = true then rgL a c r else lfL a c r) (nrM k t f ((a + 1) % 3) (if lfB a c.2 t = true then lfL a c r else rgL a c r) (if nrB k t c.2 b.2 = true then c else b))
    else nrM k t f ((a + 1) % 3) (if lfB a c.2 t = true then lfL a c r else rgL a c r) (if nrB k t c.2 b.2 = true then c else b) := rfl
theorem nrM_mem {k : Nat} {t : Tn} : ∀ (f a : Nat) (M : List FD) (b : FD), nrM k t f a M b = b ∨ nrM k t f a M b ∈ M
  | f, a, [], b => Or.inl nrM_nil
  | 0, a, c :: r, b => Or.inl rfl
  | f + 1, a, c :: r, b => by
    rw [nrM_c]
    have h1 : (if nrB k t c.2 b.2 = true then c else b) = b ∨ (if nrB k t c.2 b.2 = true then c else b) ∈ c :: r := by
      split
      · exact Or.inr List.mem_cons_self
      · exact Or.inl rfl
    generalize (if nrB k t c.2 b.2 = true then c else b) = b1 at h1 ⊢
    have hs1 : ∀ x, x ∈ (if lfB a c.2 t = true then lfL a c r else rgL a c r) → x ∈ c :: r := by
      intro x hx
      split at hx
      · exact List.mem_cons_of_mem _ (lfL_sub hx)
      · exact List.mem_cons_of_mem _ (rgL_sub hx)
    have hs2 : ∀ x, x ∈ (if lfB a c.2 t = true then rgL a c r else lfL a c r) → x ∈ c :: r := by
      intro x hx
      split at hx
      · exact List.mem_cons_of_mem _ (rgL_sub hx)
      · exact List.mem_cons_of_mem _ (lfL_sub hx)
    generalize (if lfB a c.2 t = true then lfL a c r else rgL a c r) = M1 at hs1 ⊢
    generalize (if lfB a c.2 t = true then rgL a c r else lfL a c r) = M2 at hs2 ⊢
    have h2 : nrM k t f ((a + 1) % 3) M1 b1 = b ∨ nrM k t f ((a + 1) % 3) M1 b1 ∈ c :: r := by
      rcases nrM_mem f ((a + 1) % 3) M1 b1 with e | e
      · rw [e]; exact h1
      · exact Or.inr (hs1 _ e)
    generalize nrM k t f ((a + 1) % 3) M1 b1 = b2 at h2 ⊢
    split
    · rcases nrM_mem f ((a + 1) % 3) M2 b2 with e | e
      · rw [e]; exact h2
      · exact Or.inr (hs2 _ e)
    · exact h2
section TREE2
variable {l : Launch} {E : g_E} {P : Outcome → g_G → Prop} {G : g_G}
theorem tr_isNearer {A : Nat → Prop} {n tr k ta : Nat} {v w : Value} {c b : FD} {t : Tn} (htr : G.1 tr = some (g_ob 11 [.ref (mt_ad E k), v, w])) (hc : FndAt E A n G c.1 c.2) (hb : FndAt E A n G b.1 b.2) (ht : TintAt E A G ta t) (kk : P (.returned (some (.int (b2i (nrB k t c.2 b.2))))) G) : g_Spc l E mX13_isNearer 4 [.ref tr, .ref c.1, .ref b.1, .ref ta] G P := by
  obtain ⟨-, -, tc, hcc, htc⟩ := hc
  obtain ⟨-, -, tb, hbc, htb⟩ := hb
  unfold nrB at kk
  refine V_intro (plainFor_of_name plX13) (Nat.le_of_ble_eq_true rfl) ?_
  refine V_aload_n dX13_isNearer_0 rfl (Or.inl ⟨_, rfl⟩) ?_
  refine V_get ckX13 (by first | assumption | (repeat (first | exact g_up_at | exact g_new_at rfl | assumption | refine g_up_of (by first | assumption | (simp only [g_new, g_up]; omega) | omega) ?_ | refine g_new_of (by first | assumption | (simp only [g_new, g_up]; omega) | omega) ?_))) 0 (by decide) q1307 rfl (by rfl) dX13_isNearer_1 ?_
  refine V_aload_n dX13_isNearer_4 rfl (Or.inl ⟨_, rfl⟩) ?_
  refine V_aload_n dX13_isNearer_5 rfl (Or.inl ⟨_, rfl⟩) ?_
  refine V_getN ckX7 (by first | assumption | (repeat (first | exact g_up_at | exact g_new_at rfl | assumption | refine g_up_of (by first | assumption | (simp only [g_new, g_up]; omega) | omega) ?_ | refine g_new_of (by first | assumption | (simp only [g_new, g_up]; omega) | omega) ?_))) 2 (by decide) q505 rfl (by rfl) dX13_isNearer_6 ?_
  refine V_callSN kX1_distance q1339 q1340 dX13_isNearer_9 ?_ (d' := 3) (as := [_, _, _]) (hst := rfl)
  refine (co_distance ht htc ?_)
  refine V_aload_n dX13_isNearer_12 rfl (Or.inl ⟨_, rfl⟩) ?_
  refine V_get ckX13 (by first | assumption | (repeat (first | exact g_up_at | exact g_new_at rfl | assumption | refine g_up_of (by first | assumption | (simp only [g_new, g_up]; omega) | omega) ?_ | refine g_new_of (by first | assumption | (simp only [g_new, g_up]; omega) | omega) ?_))) 0 (by decide) q1307 rfl (by rfl) dX13_isNearer_13 ?_
  refine V_aload_n dX13_isNearer_16 rfl (Or.inl ⟨_, rfl⟩) ?_
  refine V_aload_n dX13_isNearer_17 rfl (Or.inl ⟨_, rfl⟩) ?_
  refine V_getN ckX7 (by first | assumption | (repeat (first | exact g_up_at | exact g_new_at rfl | assumption | refine g_up_of (by first | assumption | (simp only [g_new, g_up]; omega) | omega) ?_ | refine g_new_of (by first | assumption | (simp only [g_new, g_up]; omega) | omega) ?_))) 2 (by decide) q505 rfl (by rfl) dX13_isNearer_18 ?_
  refine V_callSN kX1_distance q1339 q1340 dX13_isNearer_21 ?_ (d' := 3) (as := [_, _, _]) (hst := rfl)
  refine (co_distance ht htb ?_)
  refine V_isub dX13_isNearer_24 ?_
  refine V_istore dX13_isNearer_25 (by decide) ?_
  refine V_iload dX13_isNearer_27 rfl ?_
  refine V_if_lt 48 dX13_isNearer_29 (by decide) (fun c29 => ?_) (fun c29 => ?_)
  · rw [decide_eq_true c29, Bool.true_or] at kk
    refine V_iconstv 1 dX13_isNearer_48 (by decide) ?_
    refine V_goto 53 dX13_isNearer_49 (by decide) ?_
    refine V_zreturn dX13_isNearer_53 rfl rfl ?_
    exact kk
  · rw [decide_eq_false c29, Bool.false_or] at kk
    refine V_iload dX13_isNearer_32 rfl ?_
    refine V_if_ne 52 dX13_isNearer_34 (by decide) (fun c34 => ?_) (fun c34 => ?_)
    · rw [decide_eq_false c34] at kk
      refine V_iconstv 0 dX13_isNearer_52 (by decide) ?_
      refine V_zreturn dX13_isNearer_53 rfl rfl ?_
      exact kk
    · rw [decide_eq_true c34, Bool.true_and] at kk
      refine V_aload_n dX13_isNearer_37 rfl (Or.inl ⟨_, rfl⟩) ?_
      refine V_getN ckX7 (by first | assumption | (repeat (first | exact g_up_at | exact g_new_at rfl | assumption | refine g_up_of (by first | assumption | (simp only [g_new, g_up]; omega) | omega) ?_ | refine g_new_of (by first | assumption | (simp only [g_new, g_up]; omega) | omega) ?_))) 0 (by decide) q496 rfl (by rfl) dX13_isNearer_38 ?_
      refine V_aload_n dX13_isNearer_41 rfl (Or.inl ⟨_, rfl⟩) ?_
      refine V_getN ckX7 (by first | assumption | (repeat (first | exact g_up_at | exact g_new_at rfl | assumption | refine g_up_of (by first | assumption | (simp only [g_new, g_up]; omega) | omega) ?_ | refine g_new_of (by first | assumption | (simp only [g_new, g_up]; omega) | omega) ?_))) 0 (by decide) q496 rfl (by rfl) dX13_isNearer_42 ?_
      refine V_icmp_ge 52 dX13_isNearer_45 (by decide) (fun c45 => ?_) (fun c45 => ?_)
      · rw [decide_eq_false (Int32.not_lt.mpr c45)] at kk
        refine V_iconstv 0 dX13_isNearer_52 (by decide) ?_
        refine V_zreturn dX13_isNearer_53 rfl rfl ?_
        exact kk
      · rw [decide_eq_true (Int32.not_le.mp c45)] at kk
        refine V_iconstv 1 dX13_isNearer_48 (by decide) ?_
        refine V_goto 53 dX13_isNearer_49 (by decide) ?_
        refine V_zreturn dX13_isNearer_53 rfl rfl ?_
        exact kk
theorem nd_bound {A : Nat → Prop} {n tr k ta p a : Nat} {v w x y : Value} {c : FD} {t : Tn} (htr : G.1 tr = some (g_ob 11 [.ref (mt_ad E k), v, w])) (hp : G.1 p = some (g_ob 12 [.ref c.1, .int (nI a), x, y, .ref tr])) (hc : FndAt E A n G c.1 c.2) (ha : a < 3) (ht : TintAt E A G ta t) (kk : P (.returned (some (.int (comb k (i_abs (tn_at t a - tn_at c.2.2.1 a)) 0 0)))) G) : g_Spc l E mX14_bound 3 [.ref p, .ref ta] G P := by
  obtain ⟨-, -, tc, hcc, htc⟩ := hc
  obtain ⟨pt, hpt⟩ := ht.obj
  refine V_intro (plainFor_of_name plX14) (Nat.le_of_ble_eq_true rfl) ?_
  refine V_aload_n dX14_bound_0 rfl (Or.inl ⟨_, rfl⟩) ?_
  refine V_aload_n dX14_bound_1 rfl (Or.inl ⟨_, rfl⟩) ?_
  refine V_get ckX14 (by first | assumption | (repeat (first | exact g_up_at | exact g_new_at rfl | assumption | refine g_up_of (by first | assumption | (simp only [g_new, g_up]; omega) | omega) ?_ | refine g_new_of (by first | assumption | (simp only [g_new, g_up]; omega) | omega) ?_))) 0 (by decide) q1278 rfl (by rfl) dX14_bound_2 ?_
  refine V_getN ckX7 (by first | assumption | (repeat (first | exact g_up_at | exact g_new_at rfl | assumption | refine g_up_of (by first | assumption | (simp only [g_new, g_up]; omega) | omega) ?_ | refine g_new_of (by first | assumption | (simp only [g_new, g_up]; omega) | omega) ?_))) 2 (by decide) q507 rfl (by rfl) dX14_bound_5 ?_
  refine V_aload_n dX14_bound_8 rfl (Or.inl ⟨_, rfl⟩) ?_
  refine V_get ckX14 (by first | assumption | (repeat (first | exact g_up_at | exact g_new_at rfl | assumption | refine g_up_of (by first | assumption | (simp only [g_new, g_up]; omega) | omega) ?_ | refine g_new_of (by first | assumption | (simp only [g_new, g_up]; omega) | omega) ?_))) 1 (by decide) q1280 rfl (by rfl) dX14_bound_9 ?_
  refine V_callV (q := (RX11, TX11, 1)) kX11_difference q1358 q1343 q1344 (by first | assumption | (repeat (first | exact g_up_at | exact g_new_at rfl | assumption | refine g_up_of (by first | assumption | (simp only [g_new, g_up]; omega) | omega) ?_ | refine g_new_of (by first | assumption | (simp only [g_new, g_up]; omega) | omega) ?_))) rfl dX14_bound_12 ?_ (d' := 1) (as := [_, _]) (hst := rfl)
  refine (tint_difference (k := a) ht htc rfl ha ?_)
  refine V_istore_n dX14_bound_15 (by decide) ?_
  refine V_aload_n dX14_bound_16 rfl (Or.inl ⟨_, rfl⟩) ?_
  refine V_get ckX14 (by first | assumption | (repeat (first | exact g_up_at | exact g_new_at rfl | assumption | refine g_up_of (by first | assumption | (simp only [g_new, g_up]; omega) | omega) ?_ | refine g_new_of (by first | assumption | (simp only [g_new, g_up]; omega) | omega) ?_))) 4 (by decide) q1283 rfl (by rfl) dX14_bound_17 ?_
  refine V_getN ckX13 (by first | assumption | (repeat (first | exact g_up_at | exact g_new_at rfl | assumption | refine g_up_of (by first | assumption | (simp only [g_new, g_up]; omega) | omega) ?_ | refine g_new_of (by first | assumption | (simp only [g_new, g_up]; omega) | omega) ?_))) 0 (by decide) q1308 rfl (by rfl) dX14_bound_20 ?_
  refine V_iload_n dX14_bound_23 rfl ?_
  refine V_iconstv 0 dX14_bound_24 (by decide) ?_
  refine V_iconstv 0 dX14_bound_25 (by decide) ?_
  refine V_combine q1360 dX14_bound_26 (by decide) (Nat.le_of_ble_eq_true rfl) ?_
  refine V_ireturn dX14_bound_31 rfl ?_
  exact kk
theorem nd_nearer1 {A A1 : Nat → Prop} {n tr k ta f d1 a p : Nat} {v w : Value} {t : Tn} {r : List FD} {c b : FD} (hd1 : 4 ≤ d1) (htr : G.1 tr = some (g_ob 11 [.ref (mt_ad E k), v, w])) (ht : TintAt E A1 G ta t)
    (rcr : ∀ (r1 : List FD) (c1 b1 : FD) (a1 p1 : Nat) (P1 : Outcome → g_G → Prop), r1.length < r.length → NdAt tr A G f (some p1) a1 (c1 :: r1) → (∀ x ∈ c1 :: r1, FndAt E A1 n G x.1 x.2) → FndAt E A1 n G b1.1 b1.2 → P1 (.returned (some (.ref (nrM k t f a1 (c1 :: r1) b1).1))) G → g_Spc l E mX14_nearer d1 [.ref p1, .ref b1.1, .ref ta] G P1)
    (hN : NdAt tr A G (f + 1) (some p) a (c :: r)) (hFs : ∀ x ∈ c :: r, FndAt E A1 n G x.1 x.2) (hb : FndAt E A1 n G b.1 b.2) (kk : P (.returned (some (.ref (nrM k t (f + 1) a (c :: r) b).1))) G) : g_Spc l E mX14_nearer (d1 + 1) [.ref p, .ref b.1, .ref ta] G P := by
  obtain ⟨p', y, z, e, hAp, ha, hc, hy, hz⟩ := hN
  cases e
  have hFc := hFs c List.mem_cons_self
  rw [nrM_c] at kk
  have far : ∀ (yn yf : Option Nat) (Mf : List FD) (b2 : FD), NdAt tr A G f yf ((a + 1) % 3) Mf → (∀ x ∈ Mf, x ∈ r) → Mf.length ≤ r.length → FndAt E A1 n G b2.1 b2.2 → P (.returned (some (.ref (if comb k (i_abs (tn_at t a - tn_at c.2.2.1 a)) 0 0 ≤ dst k t b2.2.2.1 then nrM k t f ((a + 1) % 3) Mf b2 else b2).1))) G → V l E mX14_nearer (d1 + 1) P 80 [(0, .ref p), (1, .ref b.1), (2, .ref ta), (3, .ref b2.1), (4, va_rf yn), (5, va_rf yf)] [] G := by
    intro yn yf Mf b2 hf hsub hlen hb2 k2
    cases Mf with
    | nil =>
      have e0 := NdAt_nil.mp hf
      subst e0
      rw [nrM_nil, ite_self] at k2
      refine V_aload dX14_nearer_80 rfl g_nv ?_
      refine V_ifnullN 116 dX14_nearer_82 (by decide) ?_
      refine V_aload_n dX14_nearer_116 rfl (Or.inl ⟨_, rfl⟩) ?_
      refine V_areturnO dX14_nearer_117 rfl ?_
      exact k2
    | cons cf rf =>
      cases f with
      | zero => exact False.elim hf
      | succ f =>
      obtain ⟨pf, y1, z1, rfl, rest⟩ := hf
      have hf2 : NdAt tr A G (f + 1) (some pf) ((a + 1) % 3) (cf :: rf) := ⟨pf, y1, z1, rfl, rest⟩
      have hb3 := hb2
      obtain ⟨-, -, tb, hbc, htb⟩ := hb3
      refine V_aload dX14_nearer_80 rfl g_rv ?_
      refine V_ifnull dX14_nearer_82 ?_
      refine V_aload_n dX14_nearer_85 rfl (Or.inl ⟨_, rfl⟩) ?_
      refine V_aload_n dX14_nearer_86 rfl (Or.inl ⟨_, rfl⟩) ?_
      refine V_callV (q := (RX14, TX14, 5)) kX14_bound q1354 q1356 qs13 (by first | assumption | (repeat (first | exact g_up_at | exact g_new_at rfl | assumption | refine g_up_of (by first | assumption | (simp only [g_new, g_up]; omega) | omega) ?_ | refine g_new_of (by first | assumption | (simp only [g_new, g_up]; omega) | omega) ?_))) rfl dX14_nearer_87 ?_ (d' := 3) (as := [_]) (hst := rfl) (hdd := (by omega))
      refine (nd_bound htr hc hFc ha ht ?_)
      refine V_aload_n dX14_nearer_90 rfl (Or.inl ⟨_, rfl⟩) ?_
      refine V_get ckX14 (by first | assumption | (repeat (first | exact g_up_at | exact g_new_at rfl | assumption | refine g_up_of (by first | assumption | (simp only [g_new, g_up]; omega) | omega) ?_ | refine g_new_of (by first | assumption | (simp only [g_new, g_up]; omega) | omega) ?_))) 4 (by decide) q1283 rfl (by rfl) dX14_nearer_91 ?_
      refine V_getN ckX13 (by first | assumption | (repeat (first | exact g_up_at | exact g_new_at rfl | assumption | refine g_up_of (by first | assumption | (simp only [g_new, g_up]; omega) | omega) ?_ | refine g_new_of (by first | assumption | (simp only [g_new, g_up]; omega) | omega) ?_))) 0 (by decide) q1308 rfl (by rfl) dX14_nearer_94 ?_
      refine V_aload_n dX14_nearer_97 rfl (Or.inl ⟨_, rfl⟩) ?_
      refine V_aload_n dX14_nearer_98 rfl (Or.inl ⟨_, rfl⟩) ?_
      refine V_getN ckX7 (by first | assumption | (repeat (first | exact g_up_at | exact g_new_at rfl | assumption | refine g_up_of (by first | assumption | (simp only [g_new, g_up]; omega) | omega) ?_ | refine g_new_of (by first | assumption | (simp only [g_new, g_up]; omega) | omega) ?_))) 2 (by decide) q507 rfl (by rfl) dX14_nearer_99 ?_
      refine V_callSN kX1_distance q1361 q1340 dX14_nearer_102 ?_ (d' := 3) (as := [_, _, _]) (hst := rfl) (hdd := (by omega))
      refine (co_distance ht htb ?_)
      refine V_icmp_gt 116 dX14_nearer_105 (by decide) (fun c105 => ?_) (fun c105 => ?_)
      · rw [if_neg (Int32.not_le.mpr c105)] at k2
        refine V_aload_n dX14_nearer_116 rfl (Or.inl ⟨_, rfl⟩) ?_
        refine V_areturnO dX14_nearer_117 rfl ?_
        exact k2
      · rw [if_pos (Int32.not_lt.mp c105)] at k2
        refine V_aload dX14_nearer_108 rfl g_rv ?_
        refine V_aload_n dX14_nearer_110 rfl (Or.inl ⟨_, rfl⟩) ?_
        refine V_aload_n dX14_nearer_111 rfl (Or.inl ⟨_, rfl⟩) ?_
        refine V_callV (q := (RX14, TX14, 5)) kX14_nearer q1353 q1332 q1333 rest.2.2.1 rfl dX14_nearer_112 ?_ (d' := d1) (as := [_, _]) (hst := rfl) (hdd := (by omega))
        refine (rcr rf cf b2 ((a + 1) % 3) pf _ (by rw [List.length_cons] at hlen; omega) hf2 (fun x hx => hFs x (List.mem_cons_of_mem _ (hsub x hx))) hb2 ?_)
        refine V_astore_n dX14_nearer_115 (Or.inl ⟨_, rfl⟩) (by decide) ?_
        refine V_aload_n dX14_nearer_116 rfl (Or.inl ⟨_, rfl⟩) ?_
        refine V_areturnO dX14_nearer_117 rfl ?_
        exact k2
  have near : ∀ (yn yf : Option Nat) (Mn Mf : List FD) (b1 : FD), NdAt tr A G f yn ((a + 1) % 3) Mn → NdAt tr A G f yf ((a + 1) % 3) Mf → (∀ x ∈ Mn, x ∈ r) → (∀ x ∈ Mf, x ∈ r) → Mn.length ≤ r.length → Mf.length ≤ r.length → FndAt E A1 n G b1.1 b1.2 → P (.returned (some (.ref (if comb k (i_abs (tn_at t a - tn_at c.2.2.1 a)) 0 0 ≤ dst k t (nrM k t f ((a + 1) % 3) Mn b1).2.2.1 then nrM k t f ((a + 1) % 3) Mf (nrM k t f ((a + 1) % 3) Mn b1) else nrM k t f ((a + 1) % 3) Mn b1).1))) G → V l E mX14_nearer (d1 + 1) P 67 [(0, .ref p), (1, .ref b.1), (2, .ref ta), (3, .ref b1.1), (4, va_rf yn), (5, va_rf yf)] [] G := by
    intro yn yf Mn Mf b1 hn hf hs1 hs2 hl1 hl2 hb1 k2
    have hres : FndAt E A1 n G (nrM k t f ((a + 1) % 3) Mn b1).1 (nrM k t f ((a + 1) % 3) Mn b1).2 := by
      rcases nrM_mem f ((a + 1) % 3) Mn b1 with e | e
      · rw [e]; exact hb1
      · exact hFs _ (List.mem_cons_of_mem _ (hs1 _ e))
    cases Mn with
    | nil =>
      have e0 := NdAt_nil.mp hn
      subst e0
      rw [nrM_nil] at k2
      refine V_aload dX14_nearer_67 rfl g_nv ?_
      refine V_ifnullN 80 dX14_nearer_69 (by decide) ?_
      exact far none yf Mf b1 hf hs2 hl2 hb1 k2
    | cons cn rn =>
      cases f with
      | zero => exact False.elim hn
      | succ f =>
      obtain ⟨pn, y1, z1, rfl, rest⟩ := hn
      have hn2 : NdAt tr A G (f + 1) (some pn) ((a + 1) % 3) (cn :: rn) := ⟨pn, y1, z1, rfl, rest⟩
      refine V_aload dX14_nearer_67 rfl g_rv ?_
      refine V_ifnull dX14_nearer_69 ?_
      refine V_aload dX14_nearer_72 rfl g_rv ?_
      refine V_aload_n dX14_nearer_74 rfl (Or.inl ⟨_, rfl⟩) ?_
      refine V_aload_n dX14_nearer_75 rfl (Or.inl ⟨_, rfl⟩) ?_
      refine V_callV (q := (RX14, TX14, 5)) kX14_nearer q1353 q1332 q1333 rest.2.2.1 rfl dX14_nearer_76 ?_ (d' := d1) (as := [_, _]) (hst := rfl) (hdd := (by omega))
      refine (rcr rn cn b1 ((a + 1) % 3) pn _ (by rw [List.length_cons] at hl1; omega) hn2 (fun x hx => hFs x (List.mem_cons_of_mem _ (hs1 x hx))) hb1 ?_)
      refine V_astore_n dX14_nearer_79 (Or.inl ⟨_, rfl⟩) (by decide) ?_
      exact V_subk (far (some pn) yf Mf _ hf hs2 hl2 hres k2) ⟨rfl, rfl, rfl, rfl, rfl, rfl, trivial⟩
  have mid : ∀ b1 : FD, b1 = (if nrB k t c.2 b.2 = true then c else b) → FndAt E A1 n G b1.1 b1.2 → V l E mX14_nearer (d1 + 1) P 24 [(0, .ref p), (1, .ref b.1), (2, .ref ta)] [.ref b1.1] G := by
    intro b1 hb1 hFb
    rw [← hb1] at kk
    have l1 : (lfL a c r).length ≤ r.length := List.length_filter_le ..
    have l2 : (rgL a c r).length ≤ r.length := List.length_filter_le ..
    refine V_astore_n dX14_nearer_24 (Or.inl ⟨_, rfl⟩) (by decide) ?_
    refine V_aload_n dX14_nearer_25 rfl (Or.inl ⟨_, rfl⟩) ?_
    refine V_aload_n dX14_nearer_26 rfl (Or.inl ⟨_, rfl⟩) ?_
    refine V_callV (q := (RX14, TX14, 5)) kX14_isLeft q1299 q1301 qs11 (by first | assumption | (repeat (first | exact g_up_at | exact g_new_at rfl | assumption | refine g_up_of (by first | assumption | (simp only [g_new, g_up]; omega) | omega) ?_ | refine g_new_of (by first | assumption | (simp only [g_new, g_up]; omega) | omega) ?_))) rfl dX14_nearer_27 ?_ (d' := 1) (as := [_]) (hst := rfl) (hdd := (by omega))
    refine (nd_isLeft hc hFc ha ht ?_)
    cases hlf : lfB a c.2 t with
    | true =>
      rw [hlf] at kk
      simp only [↓reduceIte] at kk
      refine V_if_eq 40 dX14_nearer_30 (by decide) (fun c30 => absurd c30 (by decide)) (fun _ => ?_)
      refine V_aload_n dX14_nearer_33 rfl (Or.inl ⟨_, rfl⟩) ?_
      refine V_get ckX14 (by first | assumption | (repeat (first | exact g_up_at | exact g_new_at rfl | assumption | refine g_up_of (by first | assumption | (simp only [g_new, g_up]; omega) | omega) ?_ | refine g_new_of (by first | assumption | (simp only [g_new, g_up]; omega) | omega) ?_))) 2 (by decide) q1281 rfl (by rfl) dX14_nearer_34 ?_
      refine V_goto 44 dX14_nearer_37 (by decide) ?_
      refine V_astore dX14_nearer_44 (g_rfv _) (by decide) ?_
      refine V_aload_n dX14_nearer_46 rfl (Or.inl ⟨_, rfl⟩) ?_
      refine V_aload_n dX14_nearer_47 rfl (Or.inl ⟨_, rfl⟩) ?_
      refine V_callV (q := (RX14, TX14, 5)) kX14_isLeft q1299 q1301 qs11 (by first | assumption | (repeat (first | exact g_up_at | exact g_new_at rfl | assumption | refine g_up_of (by first | assumption | (simp only [g_new, g_up]; omega) | omega) ?_ | refine g_new_of (by first | assumption | (simp only [g_new, g_up]; omega) | omega) ?_))) rfl dX14_nearer_48 ?_ (d' := 1) (as := [_]) (hst := rfl) (hdd := (by omega))
      refine (nd_isLeft hc hFc ha ht ?_)
      rw [hlf]
      refine V_if_eq 61 dX14_nearer_51 (by decide) (fun c51 => absurd c51 (by decide)) (fun _ => ?_)
      refine V_aload_n dX14_nearer_54 rfl (Or.inl ⟨_, rfl⟩) ?_
      refine V_get ckX14 (by first | assumption | (repeat (first | exact g_up_at | exact g_new_at rfl | assumption | refine g_up_of (by first | assumption | (simp only [g_new, g_up]; omega) | omega) ?_ | refine g_new_of (by first | assumption | (simp only [g_new, g_up]; omega) | omega) ?_))) 3 (by decide) q1282 rfl (by rfl) dX14_nearer_55 ?_
      refine V_goto 65 dX14_nearer_58 (by decide) ?_
      refine V_astore dX14_nearer_65 (g_rfv _) (by decide) ?_
      exact V_subk (near y z _ _ b1 hy hz (fun x hx => lfL_sub hx) (fun x hx => rgL_sub hx) l1 l2 hFb kk) ⟨(by cases y <;> cases z <;> rfl), (by cases y <;> cases z <;> rfl), (by cases y <;> cases z <;> rfl), (by cases y <;> cases z <;> rfl), (by cases y <;> cases z <;> rfl), (by cases y <;> cases z <;> rfl), trivial⟩
    | false =>
      rw [hlf] at kk
      simp only [↓reduceIte, Bool.false_eq_true] at kk
      refine V_if_eq 40 dX14_nearer_30 (by decide) (fun _ => ?_) (fun c30 => absurd rfl c30)
      refine V_aload_n dX14_nearer_40 rfl (Or.inl ⟨_, rfl⟩) ?_
      refine V_get ckX14 (by first | assumption | (repeat (first | exact g_up_at | exact g_new_at rfl | assumption | refine g_up_of (by first | assumption | (simp only [g_new, g_up]; omega) | omega) ?_ | refine g_new_of (by first | assumption | (simp only [g_new, g_up]; omega) | omega) ?_))) 3 (by decide) q1282 rfl (by rfl) dX14_nearer_41 ?_
      refine V_astore dX14_nearer_44 (g_rfv _) (by decide) ?_
      refine V_aload_n dX14_nearer_46 rfl (Or.inl ⟨_, rfl⟩) ?_
      refine V_aload_n dX14_nearer_47 rfl (Or.inl ⟨_, rfl⟩) ?_
      refine V_callV (q := (RX14, TX14, 5)) kX14_isLeft q1299 q1301 qs11 (by first | assumption | (repeat (first | exact g_up_at | exact g_new_at rfl | assumption | refine g_up_of (by first | assumption | (simp only [g_new, g_up]; omega) | omega) ?_ | refine g_new_of (by first | assumption | (simp only [g_new, g_up]; omega) | omega) ?_))) rfl dX14_nearer_48 ?_ (d' := 1) (as := [_]) (hst := rfl) (hdd := (by omega))
      refine (nd_isLeft hc hFc ha ht ?_)
      rw [hlf]
      refine V_if_eq 61 dX14_nearer_51 (by decide) (fun _ => ?_) (fun c51 => absurd rfl c51)
      refine V_aload_n dX14_nearer_61 rfl (Or.inl ⟨_, rfl⟩) ?_
      refine V_get ckX14 (by first | assumption | (repeat (first | exact g_up_at | exact g_new_at rfl | assumption | refine g_up_of (by first | assumption | (simp only [g_new, g_up]; omega) | omega) ?_ | refine g_new_of (by first | assumption | (simp only [g_new, g_up]; omega) | omega) ?_))) 2 (by decide) q1281 rfl (by rfl) dX14_nearer_62 ?_
      refine V_astore dX14_nearer_65 (g_rfv _) (by decide) ?_
      exact V_subk (near z y _ _ b1 hz hy (fun x hx => rgL_sub hx) (fun x hx => lfL_sub hx) l2 l1 hFb kk) ⟨(by cases y <;> cases z <;> rfl), (by cases y <;> cases z <;> rfl), (by cases y <;> cases z <;> rfl), (by cases y <;> cases z <;> rfl), (by cases y <;> cases z <;> rfl), (by cases y <;> cases z <;> rfl), trivial⟩
  refine V_intro (plainFor_of_name plX14) (Nat.le_of_ble_eq_true rfl) ?_
  refine V_aload_n dX14_nearer_0 rfl (Or.inl ⟨_, rfl⟩) ?_
  refine V_get ckX14 (by first | assumption | (repeat (first | exact g_up_at | exact g_new_at rfl | assumption | refine g_up_of (by first | assumption | (simp only [g_new, g_up]; omega) | omega) ?_ | refine g_new_of (by first | assumption | (simp only [g_new, g_up]; omega) | omega) ?_))) 4 (by decide) q1283 rfl (by rfl) dX14_nearer_1 ?_
  refine V_aload_n dX14_nearer_4 rfl (Or.inl ⟨_, rfl⟩) ?_
  refine V_get ckX14 (by first | assumption | (repeat (first | exact g_up_at | exact g_new_at rfl | assumption | refine g_up_of (by first | assumption | (simp only [g_new, g_up]; omega) | omega) ?_ | refine g_new_of (by first | assumption | (simp only [g_new, g_up]; omega) | omega) ?_))) 0 (by decide) q1278 rfl (by rfl) dX14_nearer_5 ?_
  refine V_aload_n dX14_nearer_8 rfl (Or.inl ⟨_, rfl⟩) ?_
  refine V_aload_n dX14_nearer_9 rfl (Or.inl ⟨_, rfl⟩) ?_
  refine V_callVN (q := (RX13, TX13, 3)) kX13_isNearer q1335 q1337 qs12 (by first | assumption | (repeat (first | exact g_up_at | exact g_new_at rfl | assumption | refine g_up_of (by first | assumption | (simp only [g_new, g_up]; omega) | omega) ?_ | refine g_new_of (by first | assumption | (simp only [g_new, g_up]; omega) | omega) ?_))) rfl dX14_nearer_10 ?_ (d' := 4) (as := [_, _, _]) (hst := rfl) (hdd := (by omega))
  refine (tr_isNearer htr hFc hb ht ?_)
  refine V_if_eq 23 dX14_nearer_13 (by decide) (fun c13 => ?_) (fun c13 => ?_)
  · refine V_aload_n dX14_nearer_23 rfl (Or.inl ⟨_, rfl⟩) ?_
    exact V_subk (mid b (by rw [b2i_f c13]; rfl) hb) ⟨rfl, rfl, rfl, trivial⟩
  · refine V_aload_n dX14_nearer_16 rfl (Or.inl ⟨_, rfl⟩) ?_
    refine V_get ckX14 (by first | assumption | (repeat (first | exact g_up_at | exact g_new_at rfl | assumption | refine g_up_of (by first | assumption | (simp only [g_new, g_up]; omega) | omega) ?_ | refine g_new_of (by first | assumption | (simp only [g_new, g_up]; omega) | omega) ?_))) 0 (by decide) q1278 rfl (by rfl) dX14_nearer_17 ?_
    refine V_goto 24 dX14_nearer_20 (by decide) ?_
    exact V_subk (mid c (by rw [b2i_t c13]; rfl) hFc) ⟨rfl, rfl, rfl, trivial⟩
theorem nd_nearer {A A1 : Nat → Prop} {n tr k ta : Nat} {v w : Value} {t : Tn} (htr : G.1 tr = some (g_ob 11 [.ref (mt_ad E k), v, w])) (ht : TintAt E A1 G ta t) : ∀ (f : Nat) (r : List FD) (c b : FD) (a p : Nat) (P : Outcome → g_G → Prop), r.length ≤ f → NdAt tr A G (f + 1) (some p) a (c :: r) → (∀ x ∈ c :: r, FndAt E A1 n G x.1 x.2) → FndAt E A1 n G b.1 b.2 → P (.returned (some (.ref (nrM k t (f + 1) a (c :: r) b).1))) G → g_Spc l E mX14_nearer (f + 5) [.ref p, .ref b.1, .ref ta] G P := by
  intro f
  induction f with
  | zero =>
    intro r c b a p P hr hN hFs hb kk
    exact nd_nearer1 (d1 := 4) (by decide) htr ht (fun _ _ _ _ _ _ h => absurd h (by omega)) hN hFs hb kk
  | succ f ih =>
    intro r c b a p P hr hN hFs hb kk
    exact nd_nearer1 (d1 := f + 5) (by omega) htr ht (fun r1 c1 b1 a1 p1 P1 h1 h2 h3 h4 h5 => ih r1 c1 b1 a1 p1 P1 (by omega) h2 h3 h4 h5) hN hFs hb kk
end TREE2
