/-! MODULE Office: settle -/
set_option maxRecDepth 100000
theorem gv1_ids {o : Of} {p : Int32 × Int32} (h : IdO o) : IdO (gv1 o p) := by
  unfold gv1
  split
  · exact ⟨h.1.sublist ((List.eraseIdx_sublist ..).map _), h.2.sublist ((List.eraseIdx_sublist ..).map _)⟩
  · exact h
theorem gvOK_at : ∀ (L : List (Int32 × Int32)) (o : Of) (i : Nat) (p : Int32 × Int32), gvOK o L → L[i]? = some p → ∃ k j, plc p.1 (gvL o (L.take i)).2.1 = some k ∧ plc p.2 (gvL o (L.take i)).1 = some j
  | [], _, _, _, _, h => by cases h
  | q :: t, o, 0, p, hg, h => by
    cases h
    exact hg.1
  | q :: t, o, i + 1, p, hg, h => by
    have h9 := gvOK_at t (gv1 o q) i p hg.2 h
    exact h9
theorem gvL_take {L : List (Int32 × Int32)} {o : Of} {i : Nat} {p : Int32 × Int32} (h : L[i]? = some p) : gvL o (L.take (i + 1)) = gv1 (gvL o (L.take i)) p := by
  unfold gvL
  rw [take_push h, List.foldl_append]
  rfl
theorem gvL_ids {o : Of} (h : IdO o) : ∀ (L : List (Int32 × Int32)), IdO (gvL o L) := by
  intro L
  induction L generalizing o with
  | nil => exact h
  | cons p t ih => exact ih (gv1_ids h)
section SALL
variable {l : Launch} {E : g_E} {P : Outcome → g_G → Prop} {G : g_G}
theorem off_settle {A : Nat → Prop} {n a s pa al : Nat} {fs rs : List Nat} {o : Of} (h : OffC E A n G a o s pa fs al rs) (hB : g_B E ≤ n) (hn : n ≤ G.2.1) (hi : IdO o) (hD : DisOK o) (hch : ∀ k, k < o.2.1.length → chC o k = chA o k) (hgv : gvOK o (prs o)) (hf : g_fit E G 20 7300) (kk : ∀ G', g_mod (fun q => q < n) G G' 20 7300 → OffAt E A n G' a (gvL o (prs o)) → P (.returned (some (.int (nI (prs o).length)))) G') : g_Spc l E mX2_settle 6 [.ref a] G P := by
  obtain ⟨hf1, hf2⟩ := hf
  have hl := h.len
  have k4 := h.2.2.2.1
  have hpl : ∀ k, (prA o k).length ≤ k := fun k => prA_len
  refine V_intro (plainFor_of_name plX2) (Nat.le_of_ble_eq_true rfl) ?_
  refine V_aload_n dX2_settle_0 rfl (Or.inl ⟨_, rfl⟩) ?_
  refine V_callV (q := (RX2, TX2, 10)) kX2_settlement q1413 q1414 q1415 (by first | assumption | (repeat (first | exact g_up_at | exact g_new_at rfl | assumption | refine g_up_of (by first | assumption | (simp only [g_new, g_up]; omega) | omega) ?_ | refine g_new_of (by first | assumption | (simp only [g_new, g_up]; omega) | omega) ?_))) rfl dX2_settle_1 ?_ (d' := 5) (as := []) (hst := rfl)
  refine (off_settlement h ⟨by omega, by omega⟩ (fun G1 p m hS => ?_))
  refine V_callV (q := (RX15, TX15, 4)) kX15_colours q1444 q1445 q1446 (hS.choose_spec.choose_spec.choose_spec.choose_spec.1) rfl dX2_settle_4 ?_ (d' := 4) (as := []) (hst := rfl)
  refine (st_colours hS hl.2.2.1 hl.2.2.2 hD ⟨by obtain ⟨m1, m2, m3, m4, m5⟩ := m; omega, by obtain ⟨m1, m2, m3, m4, m5⟩ := m; omega⟩ (fun G2 g gf m' hgn hg hgf => ?_))
  obtain ⟨m1, m2, m3, m4, m5⟩ := m
  obtain ⟨n1, n2, n3, n4, n5⟩ := m'
  have kG2 : g_ke g_all G G2 := m1.trans n1
  refine V_wf (fun wf2 hBG2 => ?_)
  have hgl := wf2 _ _ hg
  have hlr := hl.2.1
  have e2 : ∀ c : Nat, (2 : Int32) * nI c = nI (2 * c) := fun c => by rw [← nI_mul]; rfl
  refine V_astore_n dX2_settle_7 (Or.inl ⟨_, rfl⟩) (by decide) ?_
  refine V_iconstv 2 dX2_settle_8 (by decide) ?_
  refine V_aload_n dX2_settle_9 rfl (Or.inl ⟨_, rfl⟩) ?_
  refine V_alen_i (by first | assumption | (repeat (first | exact g_up_at | exact g_new_at rfl | assumption | refine g_up_of (by first | assumption | (simp only [g_new, g_up]; omega) | omega) ?_ | refine g_new_of (by first | assumption | (simp only [g_new, g_up]; omega) | omega) ?_))) q388 dX2_settle_10 ?_
  refine V_imul dX2_settle_11 ?_
  rw [e2]
  have back : ∀ i, i ≤ (prs o).length → ∀ (G3 : g_G) (pf : Nat → Int32), g_ke (fun q => q < n) G G3 → G3.2.1 = G2.2.1 + 1 → G3.2.2 = G2.2.2 + 2 * o.2.1.length → G3.1 G2.2.1 = some (g_ai E (2 * o.2.1.length) pf) → (∀ j q, (prs o)[j]? = some q → pf (2 * j) = q.1 ∧ pf (2 * j + 1) = q.2) → OffAt E A n G3 a (gvL o ((prs o).take i)) → V l E mX2_settle 6 P 90 [(0, .ref a), (2, .ref G2.2.1), (3, .int (nI (prs o).length)), (4, .int (nI i))] [] G3 := by
    have hpr := hpl o.2.1.length
    have hpr : (prs o).length ≤ o.2.1.length := hpr
    refine down _ ?_ ?_
    · intro G3 pf e1 e3 e4 e5 e6 hO
      rw [List.take_length] at hO
      refine V_iload dX2_settle_90 rfl ?_
      refine V_iload_n dX2_settle_92 rfl ?_
      refine V_icmp_ge 121 dX2_settle_93 (by decide) (fun _ => ?_) (fun c93 => absurd (Int32.le_refl _) c93)
      refine V_iload_n dX2_settle_121 rfl ?_
      refine V_ireturn dX2_settle_122 rfl ?_
      exact kk G3 ⟨e1, by omega, by omega, by omega, by omega⟩ hO
    · intro i hii ih G3 pf e1 e3 e4 e5 e6 hO
      obtain ⟨q, hq, -⟩ := drop_at hii
      obtain ⟨hp1, hp2⟩ := e6 i q hq
      obtain ⟨k, j, hk, hj⟩ := gvOK_at _ _ _ _ hgv hq
      have hids := gvL_ids hi ((prs o).take i)
      obtain ⟨s', pa', fs', al', rs', hC3⟩ := hO
      have hin1 : vp_in (nI (2 * i)) (2 * o.2.1.length) := vp_in_nI (by omega) (by omega)
      have hin2 : vp_in (nI (2 * i + 1)) (2 * o.2.1.length) := vp_in_nI (by omega) (by omega)
      refine V_iload dX2_settle_90 rfl ?_
      refine V_iload_n dX2_settle_92 rfl ?_
      refine V_icmp_ge 121 dX2_settle_93 (by decide) (fun c93 => absurd c93 (nI_ge hii (by omega))) (fun _ => ?_)
      refine V_aload_n dX2_settle_96 rfl (Or.inl ⟨_, rfl⟩) ?_
      refine V_aload_n dX2_settle_97 rfl (Or.inl ⟨_, rfl⟩) ?_
      refine V_iconstv 2 dX2_settle_98 (by decide) ?_
      refine V_iload dX2_settle_99 rfl ?_
      refine V_imul dX2_settle_101 ?_
      rw [e2]
      refine V_iaload (by first | assumption | (repeat (first | exact g_up_at | exact g_new_at rfl | assumption | refine g_up_of (by first | assumption | (simp only [g_new, g_up]; omega) | omega) ?_ | refine g_new_of (by first | assumption | (simp only [g_new, g_up]; omega) | omega) ?_))) (by first | assumption | exact g_in (by decide)) q388 dX2_settle_102 ?_
      rw [nI_clamp (by omega), hp1]
      refine V_aload_n dX2_settle_103 rfl (Or.inl ⟨_, rfl⟩) ?_
      refine V_iconstv 2 dX2_settle_104 (by decide) ?_
      refine V_iload dX2_settle_105 rfl ?_
      refine V_imul dX2_settle_107 ?_
      rw [e2]
      refine V_iconstv 1 dX2_settle_108 (by decide) ?_
      refine V_iadd dX2_settle_109 ?_
      rw [show nI (2 * i) + 1 = nI (2 * i + 1) from nI_1 _]
      refine V_iaload (by first | assumption | (repeat (first | exact g_up_at | exact g_new_at rfl | assumption | refine g_up_of (by first | assumption | (simp only [g_new, g_up]; omega) | omega) ?_ | refine g_new_of (by first | assumption | (simp only [g_new, g_up]; omega) | omega) ?_))) (by first | assumption | exact g_in (by decide)) q388 dX2_settle_110 ?_
      rw [nI_clamp (by omega), hp2]
      refine V_callV (q := (RX2, TX2, 10)) kX2_handOver q1405 q1407 qs14 hC3.2.2.2.1 rfl dX2_settle_111 ?_ (d' := 5) (as := [_, _]) (hst := rfl)
      refine (off_handOver hC3 hB hids hk hj (fun G4 f1 f2 fT hO4 => ?_))
      refine V_pop dX2_settle_114 rfl ?_
      refine V_iinc dX2_settle_115 rfl (by decide) ?_
      refine V_goto 90 dX2_settle_118 (by decide) ?_
      have eg : gvL o ((prs o).take (i + 1)) = ofGive (gvL o ((prs o).take i)) k j := by
        rw [gvL_take hq]
        unfold gv1
        rw [hk, hj]
      refine V_subk (ih G4 pf (e1.trans f2) (by rw [f1]; exact e3) (by rw [f1]; exact e4) (fT _ _ rfl e5) e6 ?_) ⟨rfl, rfl, rfl, ?_, trivial⟩
      · rw [eg]
        exact hO4
      · rw [← nI_1 i]; rfl
  have front : ∀ k, k ≤ o.2.1.length → ∀ (G3 : g_G) (pf : Nat → Int32), g_ke g_all G2 G3 → G3.2.1 = G2.2.1 + 1 → G3.2.2 = G2.2.2 + 2 * o.2.1.length → G3.1 G2.2.1 = some (g_ai E (2 * o.2.1.length) pf) → (∀ j q, (prA o k)[j]? = some q → pf (2 * j) = q.1 ∧ pf (2 * j + 1) = q.2) → V l E mX2_settle 6 P 20 [(0, .ref a), (1, .ref g), (2, .ref G2.2.1), (3, .int (nI (prA o k).length)), (4, .int (nI k))] [] G3 := by
    refine down _ ?_ ?_
    · intro G3 pf e1 e3 e4 e5 e6
      have hC3 := h.keep ((kG2.trans e1).mono fun _ _ => trivial)
      refine V_iload dX2_settle_20 rfl ?_
      refine V_aload_n dX2_settle_22 rfl (Or.inl ⟨_, rfl⟩) ?_
      refine V_alen_i (e1 _ _ trivial hg) q388 dX2_settle_23 ?_
      refine V_icmp_ge 87 dX2_settle_24 (by decide) (fun _ => ?_) (fun c24 => absurd (Int32.le_refl _) c24)
      refine V_iconstv 0 dX2_settle_87 (by decide) ?_
      refine V_istore dX2_settle_88 (by decide) ?_
      exact V_subk (back 0 (Nat.zero_le _) G3 pf ((kG2.trans e1).mono fun _ _ => trivial) e3 e4 e5 e6 ⟨s, pa, fs, al, rs, hC3⟩) ⟨rfl, rfl, rfl, rfl, trivial⟩
    · intro k hk ih G3 pf e1 e3 e4 e5 e6
      have hC3 := h.keep ((kG2.trans e1).mono fun _ _ => trivial)
      have hpk := hpl k
      obtain ⟨r, hr, -⟩ := drop_at hk
      have er := rwAt_of hr
      have hink : vp_in (nI k) o.2.1.length := vp_in_nI hk (by omega)
      have hgk := hgf k hk
      rw [hch k hk] at hgk
      have es : prA o (k + 1) = prA o k ++ (match chA o k with | none => [] | some j => [((rwAt o.2.1 k).1, (rwAt o.1 j).1)]) := rfl
      refine V_iload dX2_settle_20 rfl ?_
      refine V_aload_n dX2_settle_22 rfl (Or.inl ⟨_, rfl⟩) ?_
      refine V_alen_i (e1 _ _ trivial hg) q388 dX2_settle_23 ?_
      refine V_icmp_ge 87 dX2_settle_24 (by decide) (fun c24 => absurd c24 (nI_ge hk (by omega))) (fun _ => ?_)
      refine V_aload_n dX2_settle_27 rfl (Or.inl ⟨_, rfl⟩) ?_
      refine V_iload dX2_settle_28 rfl ?_
      refine V_iaload (e1 _ _ trivial hg) (by first | assumption | exact g_in (by decide)) q388 dX2_settle_30 ?_
      rw [nI_clamp (by omega), hgk]
      cases hx : chA o k with
      | none =>
        rw [hx] at es
        have es : prA o (k + 1) = prA o k := es.trans (List.append_nil _)
        refine V_iconstv (-1) dX2_settle_31 (by decide) ?_
        refine V_icmp_eq 81 dX2_settle_32 (by decide) (fun _ => ?_) (fun c32 => absurd (show plI none = -1 from rfl) c32)
        refine V_iinc dX2_settle_81 rfl (by decide) ?_
        refine V_goto 20 dX2_settle_84 (by decide) ?_
        refine V_subk (ih G3 pf e1 e3 e4 e5 (by rw [es]; exact e6)) ⟨rfl, rfl, rfl, ?_, ?_, trivial⟩
        · rw [es]; rfl
        · rw [← nI_1 k]; rfl
      | some j =>
        rw [hx] at es
        have es : prA o (k + 1) = prA o k ++ [((rwAt o.2.1 k).1, (rwAt o.1 j).1)] := es
        have hcc := hch k hk
        rw [hx] at hcc
        obtain ⟨hjl, c, hc, -⟩ := chC_lt hcc
        have ec := rwAt_of hc
        rw [er, ec] at es
        have hk2 : gf k = nI j := by rw [hgk, hx]; rfl
        obtain ⟨mc, ar, hcl⟩ := hC3.2.2.2.2.2.2.1.cell
        obtain ⟨q, hq, -, tq, hqc, -⟩ := hC3.2.2.2.2.2.2.2.1.at hr
        obtain ⟨q2, hq2, hF2⟩ := hC3.2.2.2.2.2.1.at (agL_at hc)
        obtain ⟨tb, hqc2, -⟩ := TintAt.ag hF2
        have hq2l : q2 < G2.2.1 := by
          obtain ⟨-, -, t9, h9, -⟩ := (h.keep (kG2.mono fun _ _ => trivial)).2.2.2.2.2.1.2.2 j q2 _ hq2 (agL_at hc)
          exact wf2 _ _ h9
        have hin1 : vp_in (nI (2 * (prA o k).length)) (2 * o.2.1.length) := vp_in_nI (by omega) (by omega)
        have hin2 : vp_in (nI (2 * (prA o k).length + 1)) (2 * o.2.1.length) := vp_in_nI (by omega) (by omega)
        have kU : ∀ pf', g_ke g_all G2 (g_up G3 G2.2.1 (g_ai E (2 * o.2.1.length) pf')) := fun pf' z x _ hx => g_up_of (wf2.ne hx) (e1 z x trivial hx)
        have hC4 := fun pf' => h.keep ((kG2.trans (kU pf')).mono fun _ _ => trivial)
        have hBn : g_B E ≤ G2.2.1 := hBG2
        refine V_iconstv (-1) dX2_settle_31 (by decide) ?_
        refine V_icmp_eq 81 dX2_settle_32 (by decide) (fun c32 => absurd c32 (fun q => absurd (show nI j < 0 by rw [show nI j = -1 from q]; decide) (nI_pos (by omega)))) (fun _ => ?_)
        refine V_aload_n dX2_settle_35 rfl (Or.inl ⟨_, rfl⟩) ?_
        refine V_iconstv 2 dX2_settle_36 (by decide) ?_
        refine V_iload_n dX2_settle_37 rfl ?_
        refine V_imul dX2_settle_38 ?_
        rw [e2]
        refine V_aload_n dX2_settle_39 rfl (Or.inl ⟨_, rfl⟩) ?_
        refine V_get ckX2 hC3.2.2.2.1 1 (by decide) q225 rfl (by rfl) dX2_settle_40 ?_
        refine V_iload dX2_settle_43 rfl ?_
        refine V_callF (q := (RJ2, TJ2, 3)) (x := ⟨"java/util/List", "get", "(I)Ljava/lang/Object;"⟩) kJ2_get q542 ⟨by decide +kernel, by decide +kernel⟩ q544 q543 q548 q546 q529 (by decide +kernel) q547 q545 hcl rfl dX2_settle_45 ?_ (d' := 2) (as := [_]) (hst := rfl)
        refine (als_get (k := k) hC3.2.2.2.2.2.2.1 rfl hq ?_)
        refine V_castS (q := (RX12, TX12, 4)) (by first | assumption | (repeat (first | exact g_up_at | exact g_new_at rfl | assumption | refine g_up_of (by first | assumption | (simp only [g_new, g_up]; omega) | omega) ?_ | refine g_new_of (by first | assumption | (simp only [g_new, g_up]; omega) | omega) ?_))) rfl q836 dX2_settle_50 ?_
        refine V_getN ckX12 (by first | assumption | (repeat (first | exact g_up_at | exact g_new_at rfl | assumption | refine g_up_of (by first | assumption | (simp only [g_new, g_up]; omega) | omega) ?_ | refine g_new_of (by first | assumption | (simp only [g_new, g_up]; omega) | omega) ?_))) 0 (by decide) q1112 rfl (by rfl) dX2_settle_53 ?_
        refine V_iastore e5 (by first | assumption | omega | (simp only [g_new, g_up]; omega) | (simp only [g_new, g_up, g_B] at *; omega)) (by first | assumption | exact g_in (by decide)) q388 dX2_settle_56 ?_
        rw [nI_clamp (by omega)]
        refine V_aload_n dX2_settle_57 rfl (Or.inl ⟨_, rfl⟩) ?_
        refine V_iconstv 2 dX2_settle_58 (by decide) ?_
        refine V_iload_n dX2_settle_59 rfl ?_
        refine V_imul dX2_settle_60 ?_
        rw [e2]
        refine V_iconstv 1 dX2_settle_61 (by decide) ?_
        refine V_iadd dX2_settle_62 ?_
        rw [show nI (2 * (prA o k).length) + 1 = nI (2 * (prA o k).length + 1) from nI_1 _]
        refine V_aload_n dX2_settle_63 rfl (Or.inl ⟨_, rfl⟩) ?_
        refine V_get ckX2 (hC4 _).2.2.2.1 0 (by decide) q223 rfl (by rfl) dX2_settle_64 ?_
        refine V_aload_n dX2_settle_67 rfl (Or.inl ⟨_, rfl⟩) ?_
        refine V_iload dX2_settle_68 rfl ?_
        refine V_iaload (kU _ _ _ trivial hg) (by first | assumption | exact g_in (by decide)) q388 dX2_settle_70 ?_
        rw [nI_clamp (by omega), hk2]
        refine V_callV (q := (RX3, TX3, 2)) kX3_at q1400 q1401 q1402 (hC4 _).2.2.2.2.1.2.2.2.2.1 rfl dX2_settle_71 ?_ (d' := 0) (as := [_]) (hst := rfl)
        refine (shf_at (k := j) (hC4 _).2.2.2.2.1 rfl hq2 ?_)
        refine V_getN ckX7 (g_up_of (Nat.ne_of_lt hq2l) hqc2) 0 (by decide) q498 rfl (by rfl) dX2_settle_74 ?_
        refine V_iastore g_up_at (by first | assumption | omega | (simp only [g_new, g_up]; omega) | (simp only [g_new, g_up, g_B] at *; omega)) (by first | assumption | exact g_in (by decide)) q388 dX2_settle_77 ?_
        rw [nI_clamp (by omega), g_up_up]
        refine V_iinc dX2_settle_78 rfl (by decide) ?_
        refine V_iinc dX2_settle_81 rfl (by decide) ?_
        refine V_goto 20 dX2_settle_84 (by decide) ?_
        refine V_subk (ih _ (upd (upd pf (2 * (prA o k).length) r.1) (2 * (prA o k).length + 1) c.1) (kU _) e3 e4 g_up_at (fun i q hq => ?_)) ⟨rfl, rfl, rfl, ?_, ?_, trivial⟩
        · rw [es] at hq
          rcases at_push hq with e | ⟨e1', e2'⟩
          · have hil := lt_of_at e
            rw [pk_un (by omega), pk_un (by omega), pk_un (by omega), pk_un (by omega)]
            exact e6 i q e
          · subst e1'
            subst e2'
            exact ⟨by rw [pk_un (by omega), pk_us], pk_us⟩
        · rw [es, List.length_append, show [(r.1, c.1)].length = 1 from rfl, ← nI_1]
          rfl
        · rw [← nI_1 k]; rfl
  refine V_newarray_int (2 * o.2.1.length) rfl (by omega) q388 dX2_settle_12 (by first | omega | (simp only [g_new, g_up]; omega)) (by first | omega | (simp only [g_new, g_up]; omega)) ?_
  refine V_astore_n dX2_settle_14 (Or.inl ⟨_, rfl⟩) (by decide) ?_
  refine V_iconstv 0 dX2_settle_15 (by decide) ?_
  refine V_istore_n dX2_settle_16 (by decide) ?_
  refine V_iconstv 0 dX2_settle_17 (by decide) ?_
  refine V_istore dX2_settle_18 (by decide) ?_
  refine V_subk (front 0 (Nat.zero_le _) _ (fun _ => 0) (g_ke.new wf2 _ _) rfl rfl (g_new_at rfl) (fun j q hq => by cases hq)) ⟨rfl, rfl, rfl, rfl, rfl, trivial⟩
end SALL
