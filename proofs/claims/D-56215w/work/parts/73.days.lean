/-! MODULE Office: passDays greyCount brightness -/
set_option maxRecDepth 100000
/-- a colour a day later, as the component does it -/
def fadeD (day : Int32) (c : Rw) : Rw := if rm (day - c.2.2.2) c.2.2.1 = 0 then (c.1, fdT c.2.1, c.2.2) else c
def pass1D (o : Of) : Of := (o.1.map (fadeD (o.2.2 4 + 1)), o.2.1, upd o.2.2 4 (o.2.2 4 + 1))
def passND : Nat → Of → Of
  | 0, o => o
  | n + 1, o => pass1D (passND n o)
def isGr (c : Rw) : Bool := decide (c.2.1 = (50, 50, 50))
theorem sub_add1 (a b : Int32) : a - b + 1 = a + 1 - b := by
  rw [Int32.sub_eq_add_neg, Int32.sub_eq_add_neg, Int32.add_assoc, Int32.add_assoc, Int32.add_comm (-b)]
theorem agd_pass {o : Of} {c : Rw} : agd (pass1D o) (fadeD (o.2.2 4 + 1) c) = pdR (agd o c) := by
  have e4 : (pass1D o).2.2 4 = o.2.2 4 + 1 := rfl
  unfold agd pdR fadeD
  rw [e4]
  dsimp only
  rw [sub_add1]
  by_cases h : rm (o.2.2 4 + 1 - c.2.2.2) c.2.2.1 = 0
  · rw [if_pos h, if_pos h]
  · rw [if_neg h, if_neg h]
theorem agL_pass {o : Of} : agL (pass1D o) = (agL o).map pdR := by
  show (o.1.map (fadeD (o.2.2 4 + 1))).map (agd (pass1D o)) = (o.1.map (agd o)).map pdR
  rw [List.map_map, List.map_map]
  apply List.map_congr_left
  intro c _
  exact agd_pass
theorem pass1D_ne {o : Of} (h : ∀ c ∈ o.1, c.2.2.1 ≠ 0) : ∀ c ∈ (pass1D o).1, c.2.2.1 ≠ 0 := by
  intro c hc
  obtain ⟨b, hb, rfl⟩ := List.mem_map.mp (show c ∈ o.1.map (fadeD (o.2.2 4 + 1)) from hc)
  have hb2 := h b hb
  unfold fadeD
  split
  · exact hb2
  · exact hb2
section DAYS
variable {l : Launch} {E : g_E} {P : Outcome → g_G → Prop} {G : g_G}
theorem FsAt.set {A : Nat → Prop} {n k q : Nat} {fs : List Nat} {L : List Rw} {r : Rw} {G' : g_G} (h : FsAt E A n G fs L) (hk : g_ke (fun z => z ≠ q) G G') (hq : fs[k]? = some q) (hr : FndAt E A n G' q r) (hk9 : k < L.length) : FsAt E A n G' fs (L.set k r) := by
  obtain ⟨h1, h2, h3⟩ := h
  refine ⟨by rw [List.length_set]; exact h1, h2, fun i b c hb hc => ?_⟩
  obtain ⟨-, -, tq, hqc, -⟩ := h3 k q _ hq (List.getElem?_eq_getElem hk9)
  by_cases e : i = k
  · subst e
    rw [hq] at hb
    cases hb
    rw [List.getElem?_set_self hk9] at hc
    cases hc
    exact hr
  · rw [List.getElem?_set_ne (fun q => e q.symm)] at hc
    refine (h3 i b c hb hc).ke2 hk (fun eb => ?_) (fun z y hy hi ez => ?_)
    · subst eb
      have hl1 := lt_of_at hb
      have hl2 := lt_of_at hq
      exact e ((List.getElem?_inj hl1 h2).mp (hb.trans hq.symm))
    · subst ez
      rw [hqc] at hy
      cases hy
      cases (show false = true from hi)
theorem off_greyCount {A : Nat → Prop} {n a s pa al : Nat} {fs rs : List Nat} {o : Of} (h : OffC E A n G a o s pa fs al rs) (hf : g_fit E G 1 2) (kk : ∀ G', g_mod g_all G G' 1 2 → P (.returned (some (.int (nI (o.1.countP isGr))))) G') : g_Spc l E mX2_greyCount 3 [.ref a] G P := by
  obtain ⟨hf1, hf2⟩ := hf
  have hl := h.len
  have k4 := h.2.2.2.1
  refine V_intro (plainFor_of_name plX2) (Nat.le_of_ble_eq_true rfl) ?_
  refine V_wf (fun wf hBG => ?_)
  have loop : ∀ i, i ≤ o.1.length → ∀ (G1 : g_G) (c : Nat), g_ke g_all G G1 → G1.2.1 = G.2.1 + 1 → G1.2.2 = G.2.2 + 2 → G1.1 G.2.1 = some (g_ob 5 [.int (nI i), .ref s]) → (∀ G', g_mod g_all G G' 1 2 → P (.returned (some (.int (nI (c + (o.1.drop i).countP isGr))))) G') → V l E mX2_greyCount 3 P 10 [(0, .ref a), (1, .int (nI c)), (2, .ref G.2.1)] [] G1 := by
    refine down _ ?_ ?_
    · intro G1 c e2 e3 e4 e5 k
      have hC1 := h.keep (e2.mono fun _ _ => trivial)
      rw [List.drop_eq_nil_of_le (Nat.le_refl _)] at k
      refine V_aload_n dX2_greyCount_10 rfl (Or.inl ⟨_, rfl⟩) ?_
      refine V_callF (q := (RX6, TX6, 2)) (x := ⟨"java/util/Iterator", "hasNext", "()Z"⟩) kX6_hasNext q1513 ⟨by decide +kernel, by decide +kernel⟩ q392 q391 q397 q395 q393 (by decide +kernel) q396 q394 e5 rfl dX2_greyCount_11 ?_ (d' := 0) (as := []) (hst := rfl)
      refine (wlk_hasNext e5 hC1.2.2.2.2.1.2.2.2.2.1 (by omega) (by omega) ?_)
      rw [decide_eq_false (show ¬ o.1.length < fs.length by omega)]
      refine V_if_eq 50 dX2_greyCount_16 (by decide) (fun _ => ?_) (fun c16 => absurd rfl c16)
      refine V_iload_n dX2_greyCount_50 rfl ?_
      refine V_ireturn dX2_greyCount_51 rfl ?_
      exact k _ ⟨e2, by omega, by omega, by omega, by omega⟩
    · intro i hi ih G1 c e2 e3 e4 e5 k
      have hC1 := h.keep (e2.mono fun _ _ => trivial)
      obtain ⟨r, hr, ed⟩ := drop_at hi
      rw [ed] at k
      obtain ⟨q, hq, hF⟩ := hC1.2.2.2.2.2.1.at (agL_at hr)
      obtain ⟨ta, hqc, ht⟩ := TintAt.ag hF
      have hqw : q ≠ G.2.1 := g_apart hqc e5 (by intro e; cases e)
      have k1 : g_ke (fun q => q ≠ G.2.1) G1 (g_up G1 G.2.1 (g_ob 5 [.int (nI (i + 1)), .ref s])) := g_ke.up (fun q => q rfl) _
      have ht1 := ht.ke2 k1 (fun z y hy hi e => by
        subst e
        rw [e5] at hy
        cases hy
        cases (show false = true from hi))
      obtain ⟨pt, hpt⟩ := ht1.obj
      refine V_aload_n dX2_greyCount_10 rfl (Or.inl ⟨_, rfl⟩) ?_
      refine V_callF (q := (RX6, TX6, 2)) (x := ⟨"java/util/Iterator", "hasNext", "()Z"⟩) kX6_hasNext q1513 ⟨by decide +kernel, by decide +kernel⟩ q392 q391 q397 q395 q393 (by decide +kernel) q396 q394 e5 rfl dX2_greyCount_11 ?_ (d' := 0) (as := []) (hst := rfl)
      refine (wlk_hasNext e5 hC1.2.2.2.2.1.2.2.2.2.1 (by omega) (by omega) ?_)
      rw [decide_eq_true (show i < fs.length by omega)]
      refine V_if_eq 50 dX2_greyCount_16 (by decide) (fun c16 => absurd c16 (by decide)) (fun _ => ?_)
      refine V_aload_n dX2_greyCount_19 rfl (Or.inl ⟨_, rfl⟩) ?_
      refine V_callF (q := (RX6, TX6, 2)) (x := ⟨"java/util/Iterator", "next", "()Ljava/lang/Object;"⟩) kX6_next q1515 ⟨by decide +kernel, by decide +kernel⟩ q402 q401 q406 q404 q393 (by decide +kernel) q405 q403 e5 rfl dX2_greyCount_20 ?_ (d' := 2) (as := []) (hst := rfl)
      refine (wlk_next hBG e5 hC1.2.2.2.2.1 hq ?_)
      refine V_castS (q := (RX7, TX7, 4)) (g_up_of hqw hqc) rfl q1091 dX2_greyCount_25 ?_
      refine V_astore_n dX2_greyCount_28 (Or.inl ⟨_, rfl⟩) (by decide) ?_
      refine V_iload_n dX2_greyCount_29 rfl ?_
      refine V_aload_n dX2_greyCount_30 rfl (Or.inl ⟨_, rfl⟩) ?_
      refine V_getN ckX7 (g_up_of hqw hqc) 2 (by decide) q508 rfl (by rfl) dX2_greyCount_31 ?_
      refine V_callV (q := (RX11, TX11, 1)) kX11_isGrey q1516 q1497 q1498 (by first | assumption | (repeat (first | exact g_up_at | exact g_new_at rfl | assumption | refine g_up_of (by first | assumption | (simp only [g_new, g_up]; omega) | omega) ?_ | refine g_new_of (by first | assumption | (simp only [g_new, g_up]; omega) | omega) ?_))) rfl dX2_greyCount_34 ?_ (d' := 0) (as := []) (hst := rfl)
      refine (tint_isGrey ht1 ?_)
      have kG : g_ke g_all G (g_up G1 G.2.1 (g_ob 5 [.int (nI (i + 1)), .ref s])) := fun z y _ hy => g_up_of (wf.ne hy) (e2 z y trivial hy)
      have key : ∀ c', c' = c + (if isGr r = true then 1 else 0) → V l E mX2_greyCount 3 P 10 [(0, .ref a), (1, .int (nI c')), (2, .ref G.2.1)] [] (g_up G1 G.2.1 (g_ob 5 [.int (nI (i + 1)), .ref s])) := by
        intro c' hc'
        refine ih _ c' kG e3 e4 g_up_at ?_
        intro G' m
        have k9 := k G' m
        rw [List.countP_cons] at k9
        rw [hc', show c + (if isGr r = true then 1 else 0) + (o.1.drop (i + 1)).countP isGr = c + ((o.1.drop (i + 1)).countP isGr + (if isGr r = true then 1 else 0)) from by omega]
        exact k9
      refine V_if_eq 44 dX2_greyCount_37 (by decide) (fun c37 => ?_) (fun c37 => ?_)
      · refine V_iconstv 0 dX2_greyCount_44 (by decide) ?_
        refine V_iadd dX2_greyCount_45 ?_
        have e0 : isGr r = false := b2i_f c37
        rw [Int32.add_zero]
        refine V_istore_n dX2_greyCount_46 (by decide) ?_
        refine V_goto 10 dX2_greyCount_47 (by decide) ?_
        exact V_subk (key c (by rw [e0]; rfl)) ⟨rfl, rfl, rfl, trivial⟩
      · refine V_iconstv 1 dX2_greyCount_40 (by decide) ?_
        refine V_goto 45 dX2_greyCount_41 (by decide) ?_
        refine V_iadd dX2_greyCount_45 ?_
        have e0 : isGr r = true := b2i_t c37
        rw [show nI c + 1 = nI (c + 1) from nI_1 c]
        refine V_istore_n dX2_greyCount_46 (by decide) ?_
        refine V_goto 10 dX2_greyCount_47 (by decide) ?_
        exact V_subk (key (c + 1) (by rw [e0]; rfl)) ⟨rfl, rfl, rfl, trivial⟩
  refine V_iconstv 0 dX2_greyCount_0 (by decide) ?_
  refine V_istore_n dX2_greyCount_1 (by decide) ?_
  refine V_aload_n dX2_greyCount_2 rfl (Or.inl ⟨_, rfl⟩) ?_
  refine V_get ckX2 (by first | assumption | (repeat (first | exact g_up_at | exact g_new_at rfl | assumption | refine g_up_of (by first | assumption | (simp only [g_new, g_up]; omega) | omega) ?_ | refine g_new_of (by first | assumption | (simp only [g_new, g_up]; omega) | omega) ?_))) 0 (by decide) q223 rfl (by rfl) dX2_greyCount_3 ?_
  refine V_callV (q := (RX3, TX3, 2)) kX3_iterator q1511 q372 q373 h.2.2.2.2.1.2.2.2.2.1 rfl dX2_greyCount_6 ?_ (d' := 2) (as := []) (hst := rfl)
  refine (shf_iterator h.2.2.2.2.1.2.2.2.2.1 ⟨by omega, by omega⟩ ?_)
  refine V_astore_n dX2_greyCount_9 (Or.inl ⟨_, rfl⟩) (by decide) ?_
  refine V_subk (loop 0 (Nat.zero_le _) _ 0 (g_ke.new wf _ _) rfl rfl (g_new_at rfl) (fun G' m => ?_)) ⟨rfl, rfl, rfl, trivial⟩
  rw [List.drop_zero, Nat.zero_add]
  exact kk G' m
end DAYS
