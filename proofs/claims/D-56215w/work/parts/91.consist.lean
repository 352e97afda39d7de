/-! MODULE Office: areNearestAlike arePalettesAlike isConsistent -/
set_option maxRecDepth 100000
theorem bsF_lt {o : Of} {z : Int32} : ∀ (q S b : Nat) (e : Int32), b < S + q → bsF o z q S b e < S + q
  | 0, S, b, e, h => h
  | q + 1, S, b, e, h => by
    have h2 := bsF_lt (o := o) (z := z) q (S + 1) (if ownC o z S < e ∨ (ownC o z S = e ∧ ownC o z S < 1000000 ∧ hlB (nI S) (nI b) = true) then S else b) (i_min e (ownC o z S)) (by split <;> omega)
    have h3 : bsF o z (q + 1) S b e = bsF o z q (S + 1) (if ownC o z S < e ∨ (ownC o z S = e ∧ ownC o z S < 1000000 ∧ hlB (nI S) (nI b) = true) then S else b) (i_min e (ownC o z S)) := rfl
    omega
theorem bsC_lt {o : Of} {z : Int32} : bsC o z < 2 ^ o.1.length := by
  have p0 : 0 < 2 ^ o.1.length := Nat.pow_pos (by decide)
  have h := bsF_lt (o := o) (z := z) (2 ^ o.1.length - 1) 1 0 1000000 (by omega)
  have h9 : bsC o z = bsF o z (2 ^ o.1.length - 1) 1 0 1000000 := rfl
  omega
def NLok (o : Of) (fs : List Nat) : Prop := ∀ r ∈ o.2.1, trN (mt_k (o.2.2 5)) r.2.1 (fs.zip (agL o)) = nlM (mt_k (o.2.2 5)) r.2.1 none (fs.zip (agL o))
def PLok (o : Of) : Prop := ∀ z : Nat, 1 ≤ z → z ≤ 3 → z ≤ o.1.length → errC o (bsC o (nI z)) = srF o o.1.length 0 0 z 1000000
theorem pm_gt4 {y : Int32} : i_min 3 y < nI 4 := by
  unfold i_min
  split
  · rename_i h
    exact Int32.lt_trans h (by decide)
  · decide
theorem pm_gtn {i n : Nat} (h : n < i) (hi : i < 2 ^ 31) : i_min 3 (nI n) < nI i := by
  unfold i_min
  split
  · exact nI_lt h hi
  · rename_i h3
    by_cases e : 3 < i
    · exact nI_lt (a := 3) e hi
    · exact absurd (nI_lt (a := n) (b := 3) (by omega) (by decide)) h3
theorem pm_ge {i n : Nat} (h3 : i ≤ 3) (hn : i ≤ n) (hb : n < 2 ^ 31) : ¬ i_min 3 (nI n) < nI i := by
  unfold i_min
  split
  · exact nI_nlt hn hb
  · exact nI_nlt (a := 3) h3 (by decide)
theorem TreeAt.keep {E : g_E} {A : Nat → Prop} {G G' : g_G} {tr k s : Nat} {M : List FD} (h : TreeAt E A G tr k s M) (hk : g_ke g_all G G') : TreeAt E A G' tr k s M := by
  obtain ⟨root, h1, h2⟩ := h
  exact ⟨root, hk _ _ trivial h1, NdAt.ke hk _ _ _ _ (fun _ _ _ _ _ => trivial) h2⟩
theorem lgc_self (x : Int64) : lg_cmp x x = 0 := by
  unfold lg_cmp
  simp
section CONS
variable {l : Launch} {E : g_E} {P : Outcome → g_G → Prop} {G : g_G}
theorem off_alike {A : Nat → Prop} {n a s pa al : Nat} {fs rs : List Nat} {o : Of} (h : OffC E A n G a o s pa fs al rs) (hNL : NLok o fs) (hf : g_fit E G 100 200) (kk : ∀ G', g_mod g_all G G' 100 200 → P (.returned (some (.int 1))) G') : g_Spc l E mX2_areNearestAlike 17 [.ref a] G P := by
  obtain ⟨hf1, hf2⟩ := hf
  have hl := h.len
  have k4 := h.2.2.2.1
  have hz10 : (fs.zip (agL o)).length ≤ 10 := by
    rw [List.length_zip]
    omega
  have h7 : (agL o).length = o.1.length := List.length_map ..
  refine V_intro (plainFor_of_name plX2) (Nat.le_of_ble_eq_true rfl) ?_
  refine V_aload_n dX2_areNearestAlike_0 rfl (Or.inl ⟨_, rfl⟩) ?_
  refine V_callV (q := (RX2, TX2, 10)) kX2_tree q1242 q1243 q1244 (by first | assumption | (repeat (first | exact g_up_at | exact g_new_at rfl | assumption | refine g_up_of (by first | assumption | (simp only [g_new, g_up]; omega) | omega) ?_ | refine g_new_of (by first | assumption | (simp only [g_new, g_up]; omega) | omega) ?_))) rfl dX2_areNearestAlike_1 ?_ (d' := 15) (as := []) (hst := rfl)
  refine (off_tree h ⟨by omega, by omega⟩ (fun G1 tr A' m hT => ?_))
  refine V_astore_n dX2_areNearestAlike_4 (Or.inl ⟨_, rfl⟩) (by decide) ?_
  refine V_iconstv 1 dX2_areNearestAlike_5 (by decide) ?_
  refine V_istore_n dX2_areNearestAlike_6 (by decide) ?_
  refine V_iconstv 0 dX2_areNearestAlike_7 (by decide) ?_
  refine V_istore_n dX2_areNearestAlike_8 (by decide) ?_
  have loop : ∀ i, i ≤ o.2.1.length → ∀ (G2 : g_G), g_mod g_all G G2 (13 + 12 * i) (55 + 13 * i) → TreeAt E A' G2 tr (mt_k (o.2.2 5)) s (fs.zip (agL o)) → V l E mX2_areNearestAlike 17 P 9 [(0, .ref a), (1, .ref tr), (2, .int 1), (3, .int (nI i))] [] G2 := by
    refine down _ ?_ ?_
    · intro G2 m2 hT2
      have h2 := h.keep (m2.1.mono fun _ _ => trivial)
      obtain ⟨mc, ar, hc⟩ := h2.2.2.2.2.2.2.1.cell
      have c4 := h2.2.2.2.1
      refine V_iload_n dX2_areNearestAlike_9 rfl ?_
      refine V_aload_n dX2_areNearestAlike_10 rfl (Or.inl ⟨_, rfl⟩) ?_
      refine V_get ckX2 (by first | assumption | (repeat (first | exact g_up_at | exact g_new_at rfl | assumption | refine g_up_of (by first | assumption | (simp only [g_new, g_up]; omega) | omega) ?_ | refine g_new_of (by first | assumption | (simp only [g_new, g_up]; omega) | omega) ?_))) 1 (by decide) q225 rfl (by rfl) dX2_areNearestAlike_11 ?_
      refine V_callF (q := (RJ2, TJ2, 3)) (x := ⟨"java/util/List", "size", "()I"⟩) kJ2_size q526 ⟨by decide +kernel, by decide +kernel⟩ q528 q527 q533 q531 q529 (by decide +kernel) q532 q530 hc rfl dX2_areNearestAlike_14 ?_ (d' := 0) (as := []) (hst := rfl)
      refine (h2.2.2.2.2.2.2.1.size ?_)
      refine V_icmp_ge 99 dX2_areNearestAlike_19 (by decide) (fun _ => ?_) (fun c19 => absurd (by rw [hl.2.1]; exact Int32.le_refl _) c19)
      refine V_iload_n dX2_areNearestAlike_99 rfl ?_
      refine V_zreturn dX2_areNearestAlike_100 rfl rfl ?_
      exact kk _ (m2.wide (fun _ _ => trivial) (by omega) (by omega))
    · intro i hi ih G2 m2 hT2
      have h2 := h.keep (m2.1.mono fun _ _ => trivial)
      obtain ⟨mc, ar, hc⟩ := h2.2.2.2.2.2.2.1.cell
      have c4 := h2.2.2.2.1
      have hks := h2.2.2.2.2.1.2.2.2.2.1
      obtain ⟨r, hr, -⟩ := drop_at hi
      have hT0 := hT2
      obtain ⟨root, htc, -⟩ := hT0
      obtain ⟨q, hq, hqr⟩ := h2.2.2.2.2.2.2.2.1.at hr
      obtain ⟨-, tq, hqc, htq⟩ := hqr
      refine V_iload_n dX2_areNearestAlike_9 rfl ?_
      refine V_aload_n dX2_areNearestAlike_10 rfl (Or.inl ⟨_, rfl⟩) ?_
      refine V_get ckX2 (by first | assumption | (repeat (first | exact g_up_at | exact g_new_at rfl | assumption | refine g_up_of (by first | assumption | (simp only [g_new, g_up]; omega) | omega) ?_ | refine g_new_of (by first | assumption | (simp only [g_new, g_up]; omega) | omega) ?_))) 1 (by decide) q225 rfl (by rfl) dX2_areNearestAlike_11 ?_
      refine V_callF (q := (RJ2, TJ2, 3)) (x := ⟨"java/util/List", "size", "()I"⟩) kJ2_size q526 ⟨by decide +kernel, by decide +kernel⟩ q528 q527 q533 q531 q529 (by decide +kernel) q532 q530 hc rfl dX2_areNearestAlike_14 ?_ (d' := 0) (as := []) (hst := rfl)
      refine (h2.2.2.2.2.2.2.1.size ?_)
      refine V_icmp_ge 99 dX2_areNearestAlike_19 (by decide) (fun c19 => absurd c19 (nI_ge (by omega) (by omega))) (fun _ => ?_)
      refine V_aload_n dX2_areNearestAlike_22 rfl (Or.inl ⟨_, rfl⟩) ?_
      refine V_get ckX2 (by first | assumption | (repeat (first | exact g_up_at | exact g_new_at rfl | assumption | refine g_up_of (by first | assumption | (simp only [g_new, g_up]; omega) | omega) ?_ | refine g_new_of (by first | assumption | (simp only [g_new, g_up]; omega) | omega) ?_))) 0 (by decide) q223 rfl (by rfl) dX2_areNearestAlike_23 ?_
      refine V_callV (q := (RX3, TX3, 2)) kX3_count q1073 q1074 q1075 hks rfl dX2_areNearestAlike_26 ?_ (d' := 0) (as := []) (hst := rfl)
      refine (shf_count hks ?_)
      by_cases hC0 : o.1.length = 0
      · have e0 : nI fs.length = 0 := by
          rw [hl.1, hC0]
          rfl
        refine V_if_le 99 dX2_areNearestAlike_29 (by decide) (fun _ => ?_) (fun c29 => absurd (by rw [e0]; exact Int32.le_refl _) c29)
        refine V_iload_n dX2_areNearestAlike_99 rfl ?_
        refine V_zreturn dX2_areNearestAlike_100 rfl rfl ?_
        exact kk _ (m2.wide (fun _ _ => trivial) (by omega) (by omega))
      · obtain ⟨m21, m22, m23, m24, m25⟩ := m2
        have hne : trN (mt_k (o.2.2 5)) r.2.1 (fs.zip (agL o)) ≠ none := by
          intro e0
          unfold trN at e0
          split at e0
          · rename_i hz
            have h0 : (fs.zip (agL o)).length = 0 := by rw [hz]; rfl
            rw [List.length_zip] at h0
            omega
          · cases e0
        obtain ⟨y, hy⟩ := Option.ne_none_iff_exists'.mp hne
        have hnl := hNL r (List.mem_of_getElem? hr)
        rw [hy] at hnl
        refine V_if_le 99 dX2_areNearestAlike_29 (by decide) (fun c29 => absurd c29 (by rw [hl.1]; exact fun q9 => absurd (nI_lt (a := 0) (Nat.pos_of_ne_zero hC0) (by omega)) (Int32.not_lt.mpr q9))) (fun _ => ?_)
        refine V_aload_n dX2_areNearestAlike_32 rfl (Or.inl ⟨_, rfl⟩) ?_
        refine V_get ckX2 (by first | assumption | (repeat (first | exact g_up_at | exact g_new_at rfl | assumption | refine g_up_of (by first | assumption | (simp only [g_new, g_up]; omega) | omega) ?_ | refine g_new_of (by first | assumption | (simp only [g_new, g_up]; omega) | omega) ?_))) 1 (by decide) q225 rfl (by rfl) dX2_areNearestAlike_33 ?_
        refine V_iload_n dX2_areNearestAlike_36 rfl ?_
        refine V_callF (q := (RJ2, TJ2, 3)) (x := ⟨"java/util/List", "get", "(I)Ljava/lang/Object;"⟩) kJ2_get q542 ⟨by decide +kernel, by decide +kernel⟩ q544 q543 q548 q546 q529 (by decide +kernel) q547 q545 hc rfl dX2_areNearestAlike_37 ?_ (d' := 2) (as := [_]) (hst := rfl)
        refine (als_get (k := i) h2.2.2.2.2.2.2.1 rfl hq ?_)
        refine V_castS (q := (RX12, TX12, 4)) (by first | assumption | (repeat (first | exact g_up_at | exact g_new_at rfl | assumption | refine g_up_of (by first | assumption | (simp only [g_new, g_up]; omega) | omega) ?_ | refine g_new_of (by first | assumption | (simp only [g_new, g_up]; omega) | omega) ?_))) rfl q836 dX2_areNearestAlike_42 ?_
        refine V_getN ckX12 (by first | assumption | (repeat (first | exact g_up_at | exact g_new_at rfl | assumption | refine g_up_of (by first | assumption | (simp only [g_new, g_up]; omega) | omega) ?_ | refine g_new_of (by first | assumption | (simp only [g_new, g_up]; omega) | omega) ?_))) 1 (by decide) q1116 rfl (by rfl) dX2_areNearestAlike_45 ?_
        refine V_astore dX2_areNearestAlike_48 (Or.inl ⟨_, rfl⟩) (by decide) ?_
        refine V_iload_n dX2_areNearestAlike_50 rfl ?_
        refine V_if_eq 91 dX2_areNearestAlike_51 (by decide) (fun c51 => absurd c51 (by decide)) (fun _ => ?_)
        refine V_aload_n dX2_areNearestAlike_54 rfl (Or.inl ⟨_, rfl⟩) ?_
        refine V_aload dX2_areNearestAlike_55 rfl (Or.inl ⟨_, rfl⟩) ?_
        refine V_callV (q := (RX13, TX13, 3)) kX13_nearest q1322 q1323 q1324 htc rfl dX2_areNearestAlike_57 ?_ (d' := 16) (as := [_]) (hst := rfl)
        refine (tr_nearest hT2 h2.2.2.2.2.2.1.zip hz10 htq ⟨by omega, by omega⟩ (fun G3 x m' hop => ?_))
        rw [hy] at hop
        have hop : OpAt E G3 x (some y.1) := hop
        have h3 := h2.keep (m'.1.mono fun _ _ => trivial)
        obtain ⟨-, -, ty, hyc, -⟩ := h3.2.2.2.2.2.1.zip y (trN_mem hy)
        have hT3 := hT2.keep m'.1
        have hT30 := hT3
        obtain ⟨root3, htc3, -⟩ := hT30
        obtain ⟨n1, n2, n3, n4, n5⟩ := m'
        have htq3 := htq.keep (n1.mono fun _ _ => trivial)
        refine V_callVR (q := (RJ24, TJ24, 1)) kJ24_get q1378 q1379 q1380 hop rfl dX2_areNearestAlike_60 ?_ (d' := 0) (as := []) (hst := rfl)
        refine (opt_get hop ?_)
        refine V_castS (q := (RX7, TX7, 4)) (by first | assumption | (repeat (first | exact g_up_at | exact g_new_at rfl | assumption | refine g_up_of (by first | assumption | (simp only [g_new, g_up]; omega) | omega) ?_ | refine g_new_of (by first | assumption | (simp only [g_new, g_up]; omega) | omega) ?_))) rfl q1091 dX2_areNearestAlike_63 ?_
        refine V_getN ckX7 (by first | assumption | (repeat (first | exact g_up_at | exact g_new_at rfl | assumption | refine g_up_of (by first | assumption | (simp only [g_new, g_up]; omega) | omega) ?_ | refine g_new_of (by first | assumption | (simp only [g_new, g_up]; omega) | omega) ?_))) 0 (by decide) q498 rfl (by rfl) dX2_areNearestAlike_66 ?_
        refine V_aload_n dX2_areNearestAlike_69 rfl (Or.inl ⟨_, rfl⟩) ?_
        refine V_aload dX2_areNearestAlike_70 rfl (Or.inl ⟨_, rfl⟩) ?_
        refine V_callV (q := (RX13, TX13, 3)) kX13_nearestByLooking q1655 q1656 q1657 htc3 rfl dX2_areNearestAlike_72 ?_ (d' := 5) (as := [_]) (hst := rfl)
        refine (tr_looking hT3 h3.2.2.2.2.1 h3.2.2.2.2.2.1 htq3 ⟨by omega, by omega⟩ (fun G4 x4 m4 hop4 => ?_))
        rw [← hnl] at hop4
        have hop4 : OpAt E G4 x4 (some y.1) := hop4
        have hyc4 := m4.1 _ _ trivial hyc
        have hT4 := hT3.keep m4.1
        obtain ⟨o1, o2, o3, o4, o5⟩ := m4
        refine V_callVR (q := (RJ24, TJ24, 1)) kJ24_get q1378 q1379 q1380 hop4 rfl dX2_areNearestAlike_75 ?_ (d' := 0) (as := []) (hst := rfl)
        refine (opt_get hop4 ?_)
        refine V_castS (q := (RX7, TX7, 4)) (by first | assumption | (repeat (first | exact g_up_at | exact g_new_at rfl | assumption | refine g_up_of (by first | assumption | (simp only [g_new, g_up]; omega) | omega) ?_ | refine g_new_of (by first | assumption | (simp only [g_new, g_up]; omega) | omega) ?_))) rfl q1091 dX2_areNearestAlike_78 ?_
        refine V_getN ckX7 (by first | assumption | (repeat (first | exact g_up_at | exact g_new_at rfl | assumption | refine g_up_of (by first | assumption | (simp only [g_new, g_up]; omega) | omega) ?_ | refine g_new_of (by first | assumption | (simp only [g_new, g_up]; omega) | omega) ?_))) 0 (by decide) q498 rfl (by rfl) dX2_areNearestAlike_81 ?_
        refine V_icmp_ne 91 dX2_areNearestAlike_84 (by decide) (fun c84 => absurd c84 (fun qq => qq rfl)) (fun _ => ?_)
        refine V_iconstv 1 dX2_areNearestAlike_87 (by decide) ?_
        refine V_goto 92 dX2_areNearestAlike_88 (by decide) ?_
        refine V_istore_n dX2_areNearestAlike_92 (by decide) ?_
        refine V_iinc dX2_areNearestAlike_93 rfl (by decide) ?_
        refine V_goto 9 dX2_areNearestAlike_96 (by decide) ?_
        refine V_subk (ih G4 ⟨fun z x _ hx => o1 z x trivial (n1 z x trivial (m21 z x trivial hx)), by omega, by omega, by omega, by omega⟩ hT4) ⟨rfl, rfl, rfl, ?_, trivial⟩
        rw [← nI_1 i]; rfl
  exact V_subk (loop 0 (Nat.zero_le _) G1 m hT) ⟨rfl, rfl, rfl, rfl, trivial⟩
theorem off_palettes {A : Nat → Prop} {n a s pa al : Nat} {fs rs : List Nat} {o : Of} (h : OffC E A n G a o s pa fs al rs) (hPL : PLok o) (hf : g_fit E G 2 103) (kk : ∀ G', g_mod g_all G G' 2 103 → P (.returned (some (.int 1))) G') : g_Spc l E mX2_arePalettesAlike 16 [.ref a] G P := by
  obtain ⟨hf1, hf2⟩ := hf
  have hl := h.len
  have p10 := sb_p10 hl.2.2.1
  refine V_intro (plainFor_of_name plX2) (Nat.le_of_ble_eq_true rfl) ?_
  refine V_wf (fun wf hBG => ?_)
  have k0 := g_ke.new (A := g_all) wf (g_ob 15 [.int 0, .null, .int 0]) 3
  have h1 := h.keep (k0.mono fun _ _ => trivial)
  refine V_new ckX17 q1669 dX2_arePalettesAlike_0 (by first | omega | (simp only [g_new, g_up]; omega)) (by first | omega | (simp only [g_new, g_up]; omega)) ?_
  refine V_dup dX2_arePalettesAlike_3 rfl ?_
  refine V_aload_n dX2_arePalettesAlike_4 rfl (Or.inl ⟨_, rfl⟩) ?_
  refine V_get ckX2 h1.2.2.2.1 0 (by decide) q223 rfl (by rfl) dX2_arePalettesAlike_5 ?_
  refine V_aload_n dX2_arePalettesAlike_8 rfl (Or.inl ⟨_, rfl⟩) ?_
  refine V_callV (q := (RX2, TX2, 10)) kX2_metric q1248 q1249 q1250 h1.2.2.2.1 rfl dX2_arePalettesAlike_9 ?_ (d' := 1) (as := []) (hst := rfl)
  refine (off_metric h1 ?_)
  refine V_callI kX17_init rfl rfl q1671 q1672 dX2_arePalettesAlike_12 ?_ (d' := 4) (as := [_, _]) (hst := rfl)
  refine (pl_init h wf k0 (Nat.le_refl _) (g_new_at rfl) hBG ⟨by simp only [g_new]; omega, by simp only [g_new]; omega⟩ (fun G1 m hP => ?_))
  refine V_astore_n dX2_arePalettesAlike_15 (Or.inl ⟨_, rfl⟩) (by decide) ?_
  refine V_iconstv 1 dX2_arePalettesAlike_16 (by decide) ?_
  refine V_istore_n dX2_arePalettesAlike_17 (by decide) ?_
  obtain ⟨m1, m2, m3, m4, m5⟩ := m
  simp only [g_new] at m2 m3 m4 m5
  have kG1 : g_mod g_all G G1 2 103 := ⟨fun q x _ hx => m1 q x (wf _ _ hx) (k0 q x trivial hx), by omega, by omega, by omega, by omega⟩
  have loop : ∀ j i, i + j = 4 → 1 ≤ i → ∀ (G2 : g_G) (e : Int32), g_mod g_all G G2 2 103 → PalAt E G2 G.2.1 o e → V l E mX2_arePalettesAlike 16 P 20 [(0, .ref a), (1, .ref G.2.1), (2, .int 1), (3, .int (nI i))] [] G2 := by
    intro j
    induction j with
    | zero =>
      intro i hi h1i G2 e m2 hP2
      have h2 := h.keep (m2.1.mono fun _ _ => trivial)
      have c4 := h2.2.2.2.1
      have hks := h2.2.2.2.2.1.2.2.2.2.1
      have e4 : i = 4 := by omega
      subst e4
      refine V_iload_n dX2_arePalettesAlike_20 rfl ?_
      refine V_iconstv 3 dX2_arePalettesAlike_21 (by decide) ?_
      refine V_aload_n dX2_arePalettesAlike_22 rfl (Or.inl ⟨_, rfl⟩) ?_
      refine V_get ckX2 (by first | assumption | (repeat (first | exact g_up_at | exact g_new_at rfl | assumption | refine g_up_of (by first | assumption | (simp only [g_new, g_up]; omega) | omega) ?_ | refine g_new_of (by first | assumption | (simp only [g_new, g_up]; omega) | omega) ?_))) 0 (by decide) q223 rfl (by rfl) dX2_arePalettesAlike_23 ?_
      refine V_callV (q := (RX3, TX3, 2)) kX3_count q1073 q1074 q1075 hks rfl dX2_arePalettesAlike_26 ?_ (d' := 0) (as := []) (hst := rfl)
      refine (shf_count hks ?_)
      refine V_callS kJ17_min q1487 q630 dX2_arePalettesAlike_29 ?_ (d' := 0) (as := [_, _]) (hst := rfl)
      refine (math_min ?_)
      refine V_icmp_gt 68 dX2_arePalettesAlike_32 (by decide) (fun _ => ?_) (fun c32 => absurd (by rw [hl.1]; exact pm_gt4) c32)
      refine V_iload_n dX2_arePalettesAlike_68 rfl ?_
      refine V_zreturn dX2_arePalettesAlike_69 rfl rfl ?_
      exact kk _ m2
    | succ j ih =>
      intro i hi h1i G2 e m2 hP2
      have h2 := h.keep (m2.1.mono fun _ _ => trivial)
      have c4 := h2.2.2.2.1
      have hks := h2.2.2.2.2.1.2.2.2.2.1
      obtain ⟨da, df, hpc, -⟩ := id hP2
      by_cases hic : i ≤ o.1.length
      · have e9 := hPL i h1i (by omega) hic
        refine V_iload_n dX2_arePalettesAlike_20 rfl ?_
        refine V_iconstv 3 dX2_arePalettesAlike_21 (by decide) ?_
        refine V_aload_n dX2_arePalettesAlike_22 rfl (Or.inl ⟨_, rfl⟩) ?_
        refine V_get ckX2 (by first | assumption | (repeat (first | exact g_up_at | exact g_new_at rfl | assumption | refine g_up_of (by first | assumption | (simp only [g_new, g_up]; omega) | omega) ?_ | refine g_new_of (by first | assumption | (simp only [g_new, g_up]; omega) | omega) ?_))) 0 (by decide) q223 rfl (by rfl) dX2_arePalettesAlike_23 ?_
        refine V_callV (q := (RX3, TX3, 2)) kX3_count q1073 q1074 q1075 hks rfl dX2_arePalettesAlike_26 ?_ (d' := 0) (as := []) (hst := rfl)
        refine (shf_count hks ?_)
        refine V_callS kJ17_min q1487 q630 dX2_arePalettesAlike_29 ?_ (d' := 0) (as := [_, _]) (hst := rfl)
        refine (math_min ?_)
        refine V_icmp_gt 68 dX2_arePalettesAlike_32 (by decide) (fun c32 => absurd c32 (by rw [hl.1]; exact pm_ge (by omega) (by omega) (by omega))) (fun _ => ?_)
        refine V_iload_n dX2_arePalettesAlike_35 rfl ?_
        refine V_if_eq 60 dX2_arePalettesAlike_36 (by decide) (fun c36 => absurd c36 (by decide)) (fun _ => ?_)
        refine V_aload_n dX2_arePalettesAlike_39 rfl (Or.inl ⟨_, rfl⟩) ?_
        refine V_aload_n dX2_arePalettesAlike_40 rfl (Or.inl ⟨_, rfl⟩) ?_
        refine V_iload_n dX2_arePalettesAlike_41 rfl ?_
        refine V_callV (q := (RX17, TX17, 3)) kX17_best q1688 q1689 q1690 hpc rfl dX2_arePalettesAlike_42 ?_ (d' := 3) (as := [_]) (hst := rfl)
        refine (pl_best hP2 hl.2.2.1 ?_)
        refine V_callV (q := (RX17, TX17, 3)) kX17_error q1707 q1696 q1697 hpc rfl dX2_arePalettesAlike_45 ?_ (d' := 2) (as := [_]) (hst := rfl)
        refine (pl_error hP2 hl.2.2.1 rfl (by have := bsC_lt (o := o) (z := nI i); omega) ?_)
        refine V_aload_n dX2_arePalettesAlike_48 rfl (Or.inl ⟨_, rfl⟩) ?_
        refine V_iload_n dX2_arePalettesAlike_49 rfl ?_
        refine V_callV (q := (RX17, TX17, 3)) kX17_leastError q1708 q1709 q1710 hpc rfl dX2_arePalettesAlike_50 ?_ (d' := 15) (as := [_]) (hst := rfl)
        refine (pl_least hP2 hl.2.2.1 hBG (by omega) (fun G3 e3 q1 q2 hP3 => ?_))
        have m3 : g_mod g_all G G3 2 103 := by
          obtain ⟨m21, m22, m23, m24, m25⟩ := m2
          exact ⟨fun z x _ hx => q2 z x (Nat.ne_of_lt (wf _ _ hx)) (m21 z x trivial hx), by rw [q1]; exact m22, by rw [q1]; exact m23, by rw [q1]; exact m24, by rw [q1]; exact m25⟩
        refine V_icmp_ne 60 dX2_arePalettesAlike_53 (by decide) (fun c53 => absurd c53 (fun qq => qq e9)) (fun _ => ?_)
        refine V_iconstv 1 dX2_arePalettesAlike_56 (by decide) ?_
        refine V_goto 61 dX2_arePalettesAlike_57 (by decide) ?_
        refine V_istore_n dX2_arePalettesAlike_61 (by decide) ?_
        refine V_iinc dX2_arePalettesAlike_62 rfl (by decide) ?_
        refine V_goto 20 dX2_arePalettesAlike_65 (by decide) ?_
        refine V_subk (ih (i + 1) (by omega) (by omega) G3 e3 m3 hP3) ⟨rfl, rfl, rfl, ?_, trivial⟩
        rw [← nI_1 i]; rfl
      · refine V_iload_n dX2_arePalettesAlike_20 rfl ?_
        refine V_iconstv 3 dX2_arePalettesAlike_21 (by decide) ?_
        refine V_aload_n dX2_arePalettesAlike_22 rfl (Or.inl ⟨_, rfl⟩) ?_
        refine V_get ckX2 (by first | assumption | (repeat (first | exact g_up_at | exact g_new_at rfl | assumption | refine g_up_of (by first | assumption | (simp only [g_new, g_up]; omega) | omega) ?_ | refine g_new_of (by first | assumption | (simp only [g_new, g_up]; omega) | omega) ?_))) 0 (by decide) q223 rfl (by rfl) dX2_arePalettesAlike_23 ?_
        refine V_callV (q := (RX3, TX3, 2)) kX3_count q1073 q1074 q1075 hks rfl dX2_arePalettesAlike_26 ?_ (d' := 0) (as := []) (hst := rfl)
        refine (shf_count hks ?_)
        refine V_callS kJ17_min q1487 q630 dX2_arePalettesAlike_29 ?_ (d' := 0) (as := [_, _]) (hst := rfl)
        refine (math_min ?_)
        refine V_icmp_gt 68 dX2_arePalettesAlike_32 (by decide) (fun _ => ?_) (fun c32 => absurd (by rw [hl.1]; exact pm_gtn (by omega) (by omega)) c32)
        refine V_iload_n dX2_arePalettesAlike_68 rfl ?_
        refine V_zreturn dX2_arePalettesAlike_69 rfl rfl ?_
        exact kk _ m2
  refine V_iconstv 1 dX2_arePalettesAlike_18 (by decide) ?_
  refine V_istore_n dX2_arePalettesAlike_19 (by decide) ?_
  exact V_subk (loop 3 1 rfl (Nat.le_refl _) G1 0 kG1 hP) ⟨rfl, rfl, rfl, rfl, trivial⟩
/-- what isConsistent asks -/
def ConOK (o : Of) (fs : List Nat) : Prop := NLok o fs ∧ PLok o ∧ DisOK o ∧ o.2.2 6 = o.2.2 8 - o.2.2 9 ∧ clA o 1000000 o.1.length = clS (mt_k (o.2.2 5)) 1000000 (srt o.1 []) ∧ bTL o o.2.1 0 = bYL o o.2.1 0
theorem off_consistent {A : Nat → Prop} {n a s pa al : Nat} {fs rs : List Nat} {o : Of} (h : OffC E A n G a o s pa fs al rs) (hA : ∀ q, G.2.1 ≤ q → A q) (hc : ConOK o fs) (hf : g_fit E G 130 1600) (kk : ∀ G', g_mod g_all G G' 130 1600 → P (.returned (some (.int 1))) G') : g_Spc l E mX2_isConsistent 18 [.ref a] G P := by
  obtain ⟨c1, c2, c3, c4, c5, c6⟩ := hc
  obtain ⟨hf1, hf2⟩ := hf
  have hl := h.len
  have k4 := h.2.2.2.1
  refine V_intro (plainFor_of_name plX2) (Nat.le_of_ble_eq_true rfl) ?_
  refine V_aload_n dX2_isConsistent_0 rfl (Or.inl ⟨_, rfl⟩) ?_
  refine V_callV (q := (RX2, TX2, 10)) kX2_settlement q1413 q1414 q1415 (by first | assumption | (repeat (first | exact g_up_at | exact g_new_at rfl | assumption | refine g_up_of (by first | assumption | (simp only [g_new, g_up]; omega) | omega) ?_ | refine g_new_of (by first | assumption | (simp only [g_new, g_up]; omega) | omega) ?_))) rfl dX2_isConsistent_1 ?_ (d' := 5) (as := []) (hst := rfl)
  refine (off_settlement h ⟨by omega, by omega⟩ (fun G1 p m1 hS => ?_))
  refine V_astore_n dX2_isConsistent_4 (Or.inl ⟨_, rfl⟩) (by decide) ?_
  refine V_aload_n dX2_isConsistent_5 rfl (Or.inl ⟨_, rfl⟩) ?_
  have h1 := h.keep (m1.1.mono fun _ _ => trivial)
  have m1' := m1
  obtain ⟨a1, a2, a3, a4, a5⟩ := m1'
  refine V_callV (q := (RX2, TX2, 10)) kX2_areNearestAlike q1651 q1653 qs21 h1.2.2.2.1 rfl dX2_isConsistent_6 ?_ (d' := 17) (as := []) (hst := rfl)
  refine (off_alike h1 c1 ⟨by omega, by omega⟩ (fun G2 m2 => ?_))
  refine V_if_eq 34 dX2_isConsistent_9 (by decide) (fun c9 => absurd c9 (by decide)) (fun _ => ?_)
  refine V_aload_n dX2_isConsistent_12 rfl (Or.inl ⟨_, rfl⟩) ?_
  have h2 := h1.keep (m2.1.mono fun _ _ => trivial)
  have m2' := m2
  obtain ⟨b1, b2, b3, b4, b5⟩ := m2'
  refine V_callV (q := (RX2, TX2, 10)) kX2_arePalettesAlike q1665 q1667 qs22 h2.2.2.2.1 rfl dX2_isConsistent_13 ?_ (d' := 16) (as := []) (hst := rfl)
  refine (off_palettes h2 c2 ⟨by omega, by omega⟩ (fun G3 m3 => ?_))
  refine V_if_eq 34 dX2_isConsistent_16 (by decide) (fun c16 => absurd c16 (by decide)) (fun _ => ?_)
  refine V_aload_n dX2_isConsistent_19 rfl (Or.inl ⟨_, rfl⟩) ?_
  have h3 := h2.keep (m3.1.mono fun _ _ => trivial)
  have k3 := h3.2.2.2.1
  have hS3 := (hS.keep m2.1).keep m3.1
  have m3' := m3
  obtain ⟨d1, d2, d3, d4, d5⟩ := m3'
  refine V_get ckX2 (by first | assumption | (repeat (first | exact g_up_at | exact g_new_at rfl | assumption | refine g_up_of (by first | assumption | (simp only [g_new, g_up]; omega) | omega) ?_ | refine g_new_of (by first | assumption | (simp only [g_new, g_up]; omega) | omega) ?_))) 6 (by decide) q233 rfl (by rfl) dX2_isConsistent_20 ?_
  refine V_aload_n dX2_isConsistent_23 rfl (Or.inl ⟨_, rfl⟩) ?_
  refine V_callV (q := (RX2, TX2, 10)) kX2_coinsByAccounts q1720 q1636 q1637 (by first | assumption | (repeat (first | exact g_up_at | exact g_new_at rfl | assumption | refine g_up_of (by first | assumption | (simp only [g_new, g_up]; omega) | omega) ?_ | refine g_new_of (by first | assumption | (simp only [g_new, g_up]; omega) | omega) ?_))) rfl dX2_isConsistent_24 ?_ (d' := 0) (as := []) (hst := rfl)
  refine (off_coins h3 ?_)
  refine V_icmp_ne 34 dX2_isConsistent_27 (by decide) (fun c27 => absurd c27 (fun qq => qq c4)) (fun _ => ?_)
  refine V_iconstv 1 dX2_isConsistent_30 (by decide) ?_
  refine V_goto 35 dX2_isConsistent_31 (by decide) ?_
  refine V_istore_n dX2_isConsistent_35 (by decide) ?_
  refine V_iload_n dX2_isConsistent_36 rfl ?_
  refine V_if_eq 55 dX2_isConsistent_37 (by decide) (fun c37 => absurd c37 (by decide)) (fun _ => ?_)
  refine V_aload_n dX2_isConsistent_40 rfl (Or.inl ⟨_, rfl⟩) ?_
  refine V_callV (q := (RX2, TX2, 10)) kX2_closestDistance q1721 q1722 q1723 (by first | assumption | (repeat (first | exact g_up_at | exact g_new_at rfl | assumption | refine g_up_of (by first | assumption | (simp only [g_new, g_up]; omega) | omega) ?_ | refine g_new_of (by first | assumption | (simp only [g_new, g_up]; omega) | omega) ?_))) rfl dX2_isConsistent_41 ?_ (d' := 4) (as := []) (hst := rfl)
  refine (off_closest h3 ?_)
  refine V_aload_n dX2_isConsistent_44 rfl (Or.inl ⟨_, rfl⟩) ?_
  refine V_callV (q := (RX2, TX2, 10)) kX2_closestDistanceBySorting q1726 q1727 q1728 (by first | assumption | (repeat (first | exact g_up_at | exact g_new_at rfl | assumption | refine g_up_of (by first | assumption | (simp only [g_new, g_up]; omega) | omega) ?_ | refine g_new_of (by first | assumption | (simp only [g_new, g_up]; omega) | omega) ?_))) rfl dX2_isConsistent_45 ?_ (d' := 8) (as := []) (hst := rfl)
  refine (off_closestSort h3 (fun q hq => hA q (by omega)) ⟨by omega, by omega⟩ (fun G4 m4 => ?_))
  refine V_icmp_ne 55 dX2_isConsistent_48 (by decide) (fun c48 => absurd c48 (fun qq => qq c5)) (fun _ => ?_)
  refine V_iconstv 1 dX2_isConsistent_51 (by decide) ?_
  refine V_goto 56 dX2_isConsistent_52 (by decide) ?_
  refine V_istore_n dX2_isConsistent_56 (by decide) ?_
  refine V_iload_n dX2_isConsistent_57 rfl ?_
  refine V_if_eq 79 dX2_isConsistent_58 (by decide) (fun c58 => absurd c58 (by decide)) (fun _ => ?_)
  have hS4 := hS3.keep m4.1
  have m4' := m4
  obtain ⟨e1, e2, e3, e4, e5⟩ := m4'
  obtain ⟨ra9, da9, rf9, df9, hsx, -⟩ := id hS4
  refine V_aload_n dX2_isConsistent_61 rfl (Or.inl ⟨_, rfl⟩) ?_
  refine V_callV (q := (RX15, TX15, 4)) kX15_best q1809 q1449 q1450 hsx rfl dX2_isConsistent_62 ?_ (d' := 3) (as := []) (hst := rfl)
  refine (st_best hS4 hl.2.2.1 hl.2.2.2 c3 ⟨by omega, by omega⟩ (fun G5 m5 => ?_))
  have hS5 := hS4.keep m5.1
  have hsx5 := m5.1 _ _ trivial hsx
  refine V_aload_n dX2_isConsistent_65 rfl (Or.inl ⟨_, rfl⟩) ?_
  refine V_iconstv 0 dX2_isConsistent_66 (by decide) ?_
  refine V_iconstv 0 dX2_isConsistent_67 (by decide) ?_
  refine V_callV (q := (RX15, TX15, 4)) kX15_bestByTrying q1810 q1607 q1608 hsx5 rfl dX2_isConsistent_68 ?_ (d' := (o.2.1.length + 1)) (as := [_, _]) (hst := rfl) (hdd := (by omega))
  refine (st_trying hS5 hl.2.2.1 hl.2.2.2 c3 o.2.1.length 0 0 0 0 _ (Nat.zero_add _) rfl rfl (Nat.pow_pos (by decide)) ?_)
  refine V_lcmp dX2_isConsistent_71 ?_
  rw [show bYL o (o.2.1.drop 0) 0 = bTL o o.2.1 0 from c6.symm, show lg_cmp (bTL o o.2.1 0) (bTL o o.2.1 0) = 0 from lgc_self _]
  refine V_if_ne 79 dX2_isConsistent_72 (by decide) (fun c72 => absurd c72 (fun qq => qq rfl)) (fun _ => ?_)
  refine V_iconstv 1 dX2_isConsistent_75 (by decide) ?_
  refine V_goto 80 dX2_isConsistent_76 (by decide) ?_
  refine V_zreturn dX2_isConsistent_80 rfl rfl ?_
  exact kk _ ((((((m1.trans m2).trans m3).trans m4).trans m5)).wide (fun _ _ => trivial) (by omega) (by omega))
end CONS
