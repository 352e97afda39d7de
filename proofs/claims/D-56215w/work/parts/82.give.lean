/-! MODULE Office: giveBack -/
set_option maxRecDepth 100000
/-- the tree's nearest is the nearest by places -/
def NearOK (o : Of) (fs : List Nat) : Prop := ∀ r ∈ o.2.1, (trN (mt_k (o.2.2 5)) r.2.1 (fs.zip (agL o))).map (fun x => x.2.1) = (nst o r.2.1).map (fun j => (rwAt o.1 j).1)
theorem trN_mem {k : Nat} {t : Tn} {M : List FD} {x : FD} (h : trN k t M = some x) : x ∈ M := by
  cases M with
  | nil => cases h
  | cons c r =>
    have h : some (nrM k t (r.length + 1) 0 (c :: r) c) = some x := h
    injection h with h
    rcases nrM_mem (k := k) (t := t) (r.length + 1) 0 (c :: r) c with e | e
    · rw [← h, e]; exact List.mem_cons_self
    · rw [← h]; exact e
section GIVE
variable {l : Launch} {E : g_E} {P : Outcome → g_G → Prop} {G : g_G}
theorem off_giveBack {A : Nat → Prop} {n a s pa al : Nat} {fs rs : List Nat} {o : Of} {rep id : Int32} (h : OffC E A n G a o s pa fs al rs) (hB : g_B E ≤ n) (hn : n ≤ G.2.1) (hi : IdO o) (hnr : NearOK o fs) (hf : g_fit E G 20 70) (kt : cgive o rep id = 0 → ∀ k j, plc rep o.2.1 = some k → plc id o.1 = some j → ∀ G', g_mod (fun q => q < n) G G' 20 70 → OffAt E A n G' a (ofGive o k j) → P (.returned (some (.int (rwAt o.2.1 k).2.2.2))) G') (kf : cgive o rep id ≠ 0 → ∀ q G', g_mod (fun q => q < n) G G' 20 70 → CfAt G' q (kOf (cgive o rep id) 101 117) → P (.threw q) G') : g_Spc l E mX2_giveBack 17 [.ref a, .int rep, .int id] G P := by
  obtain ⟨hf1, hf2⟩ := hf
  have hl := h.len
  obtain ⟨b1, b2, b3, b4⟩ := h.lt
  have k4 := h.2.2.2.1
  refine V_intro (plainFor_of_name plX2) (Nat.le_of_ble_eq_true rfl) ?_
  have thr : ∀ {pc : Nat} {L : List (Nat × Value)} {kd : Int32} {G1 : g_G}, g_mod g_all G G1 14 56 → cgive o rep id ≠ 0 → kOf (cgive o rep id) 101 117 = kd → ∀ q G', g_mod g_all G1 G' 1 7 → CfAt G' q kd → VX l E mX2_giveBack 17 P pc L q G' := by
    intro pc L kd G1 m0 hne ek q G' m hcf
    refine VX_out (ci := 0) (fs := []) rfl (kf hne q G' ((m0.trans m).wide (fun _ _ => trivial) (by decide) (by decide)) (by rw [ek]; exact hcf))
  have last : cgive o rep id = 0 → ∀ k j, plc rep o.2.1 = some k → plc id o.1 = some j → ∀ G1, g_mod g_all G G1 14 56 → ∀ nn : Int32, V l E mX2_giveBack 17 P 83 [(0, .ref a), (1, .int rep), (2, .int id), (3, .int nn)] [] G1 := by
    intro h0 k j hk hj G1 m nn
    have h1 := h.keep (m.1.mono fun _ _ => trivial)
    refine V_aload_n dX2_giveBack_83 rfl (Or.inl ⟨_, rfl⟩) ?_
    refine V_iload_n dX2_giveBack_84 rfl ?_
    refine V_iload_n dX2_giveBack_85 rfl ?_
    refine V_callV (q := (RX2, TX2, 10)) kX2_handOver q1405 q1407 qs14 h1.2.2.2.1 rfl dX2_giveBack_86 ?_ (d' := 5) (as := [_, _]) (hst := rfl)
    refine (off_handOver h1 hB hi hk hj (fun G2 e1 e2 _ hO => ?_))
    refine V_ireturn dX2_giveBack_89 rfl ?_
    have m2 : g_mod (fun q => q < n) G1 G2 0 0 := g_mod.to e2 e1
    exact kt h0 k j hk hj G2 (((m.wide (fun _ _ => trivial) (Nat.le_refl _) (Nat.le_refl _)).trans m2).wide (fun _ h => h) (by decide) (by decide)) hO
  have rest3 : ∀ k j, plc rep o.2.1 = some k → plc id o.1 = some j → ∀ G1, g_mod g_all G G1 14 56 → ∀ (c : Bool) (nn : Int32), c = (decide (nst o (rwAt o.2.1 k).2.1 = some j) && fitO o (rwAt o.2.1 k) (rwAt o.1 j)) → V l E mX2_giveBack 17 P 78 [(0, .ref a), (1, .int rep), (2, .int id), (3, .int nn)] [.int (b2i c)] G1 := by
    intro k j hk hj G1 m c nn hc
    have ec : cgive o rep id = if nst o (rwAt o.2.1 k).2.1 = some j ∧ fitO o (rwAt o.2.1 k) (rwAt o.1 j) = true then 0 else 2 := by
      unfold cgive
      rw [hk, hj]
    obtain ⟨m1, m2, m3, m4, m5⟩ := m
    refine V_bipushv 117 dX2_giveBack_78 (by decide) ?_
    refine V_callSN kX1_demand q1045 q1046 dX2_giveBack_80 ?_ (d' := 7) (as := [_, _]) (hst := rfl)
    refine (co_demand isC_117 ⟨by omega, by omega⟩ (fun hb => ?_) (fun hb q G' mm _ hcf => ?_))
    · rw [hc, Bool.and_eq_true] at hb
      exact last (by rw [ec, if_pos ⟨of_decide_eq_true hb.1, hb.2⟩]) k j hk hj G1 ⟨m1, m2, m3, m4, m5⟩ nn
    · have e2 : cgive o rep id = 2 := by
        rw [ec, if_neg]
        intro ⟨q1, q2⟩
        rw [hc, decide_eq_true q1, q2] at hb
        cases hb
      exact thr ⟨m1, m2, m3, m4, m5⟩ (by rw [e2]; decide) (by rw [e2]; rfl) q G' mm hcf
  have rest2 : ∀ k j, plc rep o.2.1 = some k → plc id o.1 = some j → ∀ G1, g_mod g_all G G1 14 56 → ∀ (c : Bool), c = decide (nst o (rwAt o.2.1 k).2.1 = some j) → V l E mX2_giveBack 17 P 59 (lv_args 0 [.ref a, .int rep, .int id]) [.int (b2i c)] G1 := by
    intro k j hk hj G1 m c hc
    have h1 := h.keep (m.1.mono fun _ _ => trivial)
    refine V_istore_n dX2_giveBack_59 (by decide) ?_
    refine V_iload_n dX2_giveBack_60 rfl ?_
    cases c with
    | false =>
      refine V_if_eq 77 dX2_giveBack_61 (by decide) (fun _ => ?_) (fun c61 => absurd rfl c61)
      refine V_iconstv 0 dX2_giveBack_77 (by decide) ?_
      exact V_subk (rest3 k j hk hj G1 m false 0 (by rw [← hc]; rfl)) ⟨rfl, rfl, rfl, rfl, trivial⟩
    | true =>
      refine V_if_eq 77 dX2_giveBack_61 (by decide) (fun c61 => absurd c61 (by decide)) (fun _ => ?_)
      refine V_aload_n dX2_giveBack_64 rfl (Or.inl ⟨_, rfl⟩) ?_
      refine V_iload_n dX2_giveBack_65 rfl ?_
      refine V_iload_n dX2_giveBack_66 rfl ?_
      refine V_callV (q := (RX2, TX2, 10)) kX2_fits q1388 q1389 q1390 h1.2.2.2.1 rfl dX2_giveBack_67 ?_ (d' := 6) (as := [_, _]) (hst := rfl)
      refine (off_fits h1 hi hk hj ?_)
      refine V_if_eq 77 dX2_giveBack_70 (by decide) (fun c70 => ?_) (fun c70 => ?_)
      · refine V_iconstv 0 dX2_giveBack_77 (by decide) ?_
        exact V_subk (rest3 k j hk hj G1 m false 1 (by rw [← hc, b2i_f c70]; rfl)) ⟨rfl, rfl, rfl, rfl, trivial⟩
      · refine V_iconstv 1 dX2_giveBack_73 (by decide) ?_
        refine V_goto 78 dX2_giveBack_74 (by decide) ?_
        exact V_subk (rest3 k j hk hj G1 m true 1 (by rw [← hc, b2i_t c70]; rfl)) ⟨rfl, rfl, rfl, rfl, trivial⟩
  have rest1 : ∀ c, c = ((plc rep o.2.1).isSome && (plc id o.1).isSome) → V l E mX2_giveBack 17 P 21 (lv_args 0 [.ref a, .int rep, .int id]) [.int (b2i c)] G := by
    intro c hcc
    refine V_bipushv 101 dX2_giveBack_21 (by decide) ?_
    refine V_callSN kX1_demand q1045 q1046 dX2_giveBack_23 ?_ (d' := 7) (as := [_, _]) (hst := rfl)
    refine (co_demand isC_101 ⟨by omega, by omega⟩ (fun hb => ?_) (fun hb q G' m _ hcf => ?_))
    · rw [hcc, Bool.and_eq_true] at hb
      obtain ⟨k, hk⟩ := Option.isSome_iff_exists.mp hb.1
      obtain ⟨j, hj⟩ := Option.isSome_iff_exists.mp hb.2
      refine V_aload_n dX2_giveBack_26 rfl (Or.inl ⟨_, rfl⟩) ?_
      refine V_callV (q := (RX2, TX2, 10)) kX2_tree q1242 q1243 q1244 (by first | assumption | (repeat (first | exact g_up_at | exact g_new_at rfl | assumption | refine g_up_of (by first | assumption | (simp only [g_new, g_up]; omega) | omega) ?_ | refine g_new_of (by first | assumption | (simp only [g_new, g_up]; omega) | omega) ?_))) rfl dX2_giveBack_27 ?_ (d' := 15) (as := []) (hst := rfl)
      refine (off_tree h ⟨by omega, by omega⟩ (fun G1 tr A' m hT => ?_))
      have h1 := h.keep (m.1.mono fun _ _ => trivial)
      have hT0 := hT
      obtain ⟨root, htc, -⟩ := hT0
      obtain ⟨m1, m2, m3, m4, m5⟩ := m
      obtain ⟨c0, hc0, hcid⟩ := plc_some hj
      refine V_aload_n dX2_giveBack_30 rfl (Or.inl ⟨_, rfl⟩) ?_
      refine V_iload_n dX2_giveBack_31 rfl ?_
      refine V_callV (q := (RX2, TX2, 10)) kX2_report q1318 q1319 q1320 h1.2.2.2.1 rfl dX2_giveBack_32 ?_ (d' := 4) (as := [_]) (hst := rfl)
      refine (off_report h1 hi hk (fun q r _ hr hq => ?_))
      obtain ⟨-, ta, hqc, ht⟩ := hq
      refine V_getN ckX12 (by first | assumption | (repeat (first | exact g_up_at | exact g_new_at rfl | assumption | refine g_up_of (by first | assumption | (simp only [g_new, g_up]; omega) | omega) ?_ | refine g_new_of (by first | assumption | (simp only [g_new, g_up]; omega) | omega) ?_))) 1 (by decide) q1116 rfl (by rfl) dX2_giveBack_35 ?_
      have er := rwAt_of hr
      have hz10 : (fs.zip (agL o)).length ≤ 10 := by
        rw [List.length_zip]
        omega
      refine V_callV (q := (RX13, TX13, 3)) kX13_nearest q1322 q1323 q1324 htc rfl dX2_giveBack_38 ?_ (d' := 16) (as := [_]) (hst := rfl)
      refine (tr_nearest hT h1.2.2.2.2.2.1.zip hz10 ht ⟨by omega, by omega⟩ (fun G2 x m' hop => ?_))
      have hn9 := hnr r (List.mem_of_getElem? hr)
      have hne : trN (mt_k (o.2.2 5)) r.2.1 (fs.zip (agL o)) ≠ none := by
        intro e0
        rw [e0] at hn9
        cases hx : nst o r.2.1 with
        | some j => rw [hx] at hn9; cases hn9
        | none =>
          unfold trN at e0
          split at e0
          · rename_i hz
            have h0 : (fs.zip (agL o)).length = 0 := by rw [hz]; rfl
            have := plc_lt hj
            rw [List.length_zip] at h0
            have h7 : (agL o).length = o.1.length := List.length_map ..
            omega
          · cases e0
      obtain ⟨y, hy⟩ := Option.ne_none_iff_exists'.mp hne
      rw [hy] at hop hn9
      have m3' := m'
      obtain ⟨n1, n2, n3, n4, n5⟩ := m'
      have h2 := h1.keep (n1.mono fun _ _ => trivial)
      obtain ⟨-, -, ty, hyc, -⟩ := h2.2.2.2.2.2.1.zip y (trN_mem hy)
      have key : decide (y.2.1 = id) = decide (nst o (rwAt o.2.1 k).2.1 = some j) := by
        rw [er]
        have hn9 : some y.2.1 = (nst o r.2.1).map (fun j => (rwAt o.1 j).1) := hn9
        cases hx : nst o r.2.1 with
        | none => rw [hx] at hn9; cases hn9
        | some j0 =>
          rw [hx] at hn9
          injection hn9 with hn9
          have hn9 : y.2.1 = (rwAt o.1 j0).1 := hn9
          have hj0 := nst_lt hx
          obtain ⟨c1, hc1, -⟩ := drop_at hj0
          rw [rwAt_of hc1] at hn9
          rw [hn9]
          by_cases e : c1.1 = id
          · rw [decide_eq_true e]
            have ej : j0 = j := by
              have hl0 : j0 < (o.1.map (·.1)).length := by rw [List.length_map]; exact hj0
              refine (List.getElem?_inj hl0 hi.1).mp ?_
              rw [List.getElem?_map, List.getElem?_map, hc1, hc0]
              show some c1.1 = some c0.1
              rw [e, hcid]
            rw [ej, decide_eq_true rfl]
          · rw [decide_eq_false e, decide_eq_false]
            intro q
            injection q with q
            subst q
            rw [hc1] at hc0
            cases hc0
            exact e hcid
      refine V_callVR (q := (RJ24, TJ24, 1)) kJ24_get q1378 q1379 q1380 hop rfl dX2_giveBack_41 ?_ (d' := 0) (as := []) (hst := rfl)
      refine (opt_get hop ?_)
      refine V_castS (q := (RX7, TX7, 4)) hyc rfl q1091 dX2_giveBack_44 ?_
      refine V_getN ckX7 hyc 0 (by decide) q498 rfl (by rfl) dX2_giveBack_47 ?_
      refine V_iload_n dX2_giveBack_50 rfl ?_
      have mm : g_mod g_all G G2 14 56 := (g_mod.trans (c := 13) (s := 55) ⟨m1, m2, m3, m4, m5⟩ m3').wide (fun _ h => h) (by decide) (by decide)
      refine V_icmp_ne 58 dX2_giveBack_51 (by decide) (fun c51 => ?_) (fun c51 => ?_)
      · refine V_iconstv 0 dX2_giveBack_58 (by decide) ?_
        exact V_subk (rest2 k j hk hj G2 mm false (by rw [← key, decide_eq_false c51])) ⟨rfl, rfl, rfl, trivial⟩
      · refine V_iconstv 1 dX2_giveBack_54 (by decide) ?_
        refine V_goto 59 dX2_giveBack_55 (by decide) ?_
        exact V_subk (rest2 k j hk hj G2 mm true (by rw [← key, decide_eq_true c51])) ⟨rfl, rfl, rfl, trivial⟩
    · have e1 : cgive o rep id = 1 := by
        unfold cgive
        rw [hcc] at hb
        cases hx : plc rep o.2.1 with
        | none => rfl
        | some i =>
          cases hy : plc id o.1 with
          | none => rfl
          | some j =>
            rw [hx, hy] at hb
            cases hb
      exact thr (g_mod.refl.wide (fun _ h => h) (by decide) (by decide)) (by rw [e1]; decide) (by rw [e1]; rfl) q G' m hcf
  refine V_aload_n dX2_giveBack_0 rfl (Or.inl ⟨_, rfl⟩) ?_
  refine V_iload_n dX2_giveBack_1 rfl ?_
  refine V_callV (q := (RX2, TX2, 10)) kX2_hasReport q1139 q1140 q1141 (by first | assumption | (repeat (first | exact g_up_at | exact g_new_at rfl | assumption | refine g_up_of (by first | assumption | (simp only [g_new, g_up]; omega) | omega) ?_ | refine g_new_of (by first | assumption | (simp only [g_new, g_up]; omega) | omega) ?_))) rfl dX2_giveBack_2 ?_ (d' := 4) (as := [_]) (hst := rfl)
  refine (off_hasReport h hi ?_)
  refine V_if_eq 20 dX2_giveBack_5 (by decide) (fun c5 => ?_) (fun c5 => ?_)
  · refine V_iconstv 0 dX2_giveBack_20 (by decide) ?_
    refine rest1 false ?_
    rw [b2i_f c5]
    rfl
  · refine V_aload_n dX2_giveBack_8 rfl (Or.inl ⟨_, rfl⟩) ?_
    refine V_iload_n dX2_giveBack_9 rfl ?_
    refine V_callV (q := (RX2, TX2, 10)) kX2_hasColour q1174 q1175 q1176 (by first | assumption | (repeat (first | exact g_up_at | exact g_new_at rfl | assumption | refine g_up_of (by first | assumption | (simp only [g_new, g_up]; omega) | omega) ?_ | refine g_new_of (by first | assumption | (simp only [g_new, g_up]; omega) | omega) ?_))) rfl dX2_giveBack_10 ?_ (d' := 1) (as := [_]) (hst := rfl)
    refine (off_hasColour h hi ?_)
    refine V_if_eq 20 dX2_giveBack_13 (by decide) (fun c13 => ?_) (fun c13 => ?_)
    · refine V_iconstv 0 dX2_giveBack_20 (by decide) ?_
      refine rest1 false ?_
      rw [b2i_t c5, b2i_f c13]
      rfl
    · refine V_iconstv 1 dX2_giveBack_16 (by decide) ?_
      refine V_goto 21 dX2_giveBack_17 (by decide) ?_
      refine rest1 true ?_
      rw [b2i_t c5, b2i_t c13]
      rfl
end GIVE
