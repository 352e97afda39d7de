/-! MODULE Office: passDays, brightness, coins -/
set_option maxRecDepth 100000
theorem mapTo_sL {g : Rw → Rw} {k : Nat} {L : List Rw} {c : Rw} (h : L[k]? = some c) : mapTo g (k + 1) L = (mapTo g k L).set k (g c) := mapTo_s h
section DAYS2
variable {l : Launch} {E : g_E} {P : Outcome → g_G → Prop} {G : g_G}
/-- an office whose colours' ages are told apart from its day -/
def OffL (E : g_E) (A : Nat → Prop) (n : Nat) (G : g_G) (a : Nat) (o : Of) (L : List Rw) (s pa : Nat) (fs : List Nat) (al : Nat) (rs : List Nat) : Prop :=
  n ≤ a ∧ A a ∧ isC (o.2.2 5) ∧ G.1 a = some (offO o s al) ∧ ShfS E A n G s pa fs ∧ FsAt E A n G fs L ∧ AlsAt E A n G al rs ∧ RsAt E A G rs o.2.1 ∧ rs.length ≤ 6 ∧ AlsNo G al pa
theorem OffL.day {A : Nat → Prop} {n a s pa al k q : Nat} {fs rs : List Nat} {o : Of} {L : List Rw} {r : Rw} {G' : g_G} (h : OffL E A n G a o L s pa fs al rs) (hk : g_ke (fun z => z ≠ q) G G') (hq : fs[k]? = some q) (hk9 : k < L.length) (hr : FndAt E A n G' q r) : OffL E A n G' a o (L.set k r) s pa fs al rs := by
  obtain ⟨k1, k2, k3, k4, k5, k6, k7, k8, k9, k10⟩ := h
  obtain ⟨-, -, tq, hqc, -⟩ := k6.2.2 k q _ hq (List.getElem?_eq_getElem hk9)
  obtain ⟨mc, ar, hcell⟩ := k7.cell
  have k5' := k5
  obtain ⟨-, -, -, -, j5, -, f, j7, -⟩ := k5'
  have hal : al ≠ q := g_apart hcell hqc (by intro e; cases e)
  refine ⟨k1, k2, k3, hk _ _ (g_apart k4 hqc (by intro e; cases e)) k4, k5.ke2 hk (g_apart j5 hqc (by intro e; cases e)) (g_apart j7 hqc (by intro e; cases e)), k6.set hk hq hr hk9, k7.ke2 hk hal (fun z hz => ?_), ⟨k8.1, fun i b c hb hc => ?_⟩, k9, AlsNo.back k7 (fun x hx => hk _ _ hal hx) k10⟩
  · obtain ⟨-, -, cap, g, hg⟩ := hz
    exact g_apart hg hqc (by intro e; cases e)
  · have hR := k8.2 i b c hb hc
    obtain ⟨-, ta, hbc, -⟩ := k8.2 i b c hb hc
    refine hR.ke2 hk (g_apart hbc hqc (by intro e; cases e)) (fun z y hy hi e => ?_)
    subst e
    rw [hqc] at hy
    cases hy
    cases (show false = true from hi)
theorem passND_ne {o : Of} (h : ∀ c ∈ o.1, c.2.2.1 ≠ 0) (k : Nat) : ∀ c ∈ (passND k o).1, c.2.2.1 ≠ 0 := by
  induction k with
  | zero => exact h
  | succ k ih => exact pass1D_ne ih
theorem passND_len {o : Of} (k : Nat) : (passND k o).1.length = o.1.length := by
  induction k with
  | zero => rfl
  | succ k ih =>
    show ((passND k o).1.map _).length = _
    rw [List.length_map, ih]
theorem off_passDays {A : Nat → Prop} {n a s pa al : Nat} {fs rs : List Nat} {o : Of} {x : Int32} (h : OffC E A n G a o s pa fs al rs) (hB : g_B E ≤ n) (hn : n ≤ G.2.1) (hA : ∀ q, G.2.1 ≤ q → A q) (hne : ∀ c ∈ o.1, c.2.2.1 ≠ 0) (hf : g_fit E G 2000 4000) (kt : isb x 1 99 = true → ∀ G', g_mod (fun q => q < n) G G' 2000 4000 → OffAt E A n G' a (passND x.toNatClampNeg o) → P (.returned (some (.int (nI ((passND x.toNatClampNeg o).1.countP isGr))))) G') (kf : isb x 1 99 = false → ∀ q G', g_mod (fun q => q < n) G G' 2000 4000 → CfAt G' q 97 → P (.threw q) G') : g_Spc l E mX2_passDays 8 [.ref a, .int x] G P := by
  obtain ⟨hf1, hf2⟩ := hf
  have hl := h.len
  obtain ⟨b1, b2, b3, b4⟩ := h.lt
  refine V_intro (plainFor_of_name plX2) (Nat.le_of_ble_eq_true rfl) ?_
  refine V_iload_n dX2_passDays_0 rfl ?_
  refine V_iconstv 1 dX2_passDays_1 (by decide) ?_
  refine V_bipushv 99 dX2_passDays_2 (by decide) ?_
  refine V_callSN kX1_isBetween q1044 q1042 dX2_passDays_4 ?_ (d' := 0) (as := [_, _, _]) (hst := rfl)
  refine (co_isBetween ?_)
  refine V_bipushv 97 dX2_passDays_7 (by decide) ?_
  refine V_callSN kX1_demand q1045 q1046 dX2_passDays_9 ?_ (d' := 7) (as := [_, _]) (hst := rfl)
  refine (co_demand isC_97 ⟨by omega, by omega⟩ (fun hb => ?_) (fun hb q G' m _ hcf => ?_))
  case refine_2 =>
    obtain ⟨m1, m2, m3, m4, m5⟩ := m
    exact VX_out (ci := 0) (fs := []) rfl (kf hb q G' ⟨m1.mono fun _ _ => trivial, by omega, by omega, by omega, by omega⟩ hcf)
  have hx : ∃ N, N ≤ 99 ∧ x = nI N := by
    unfold isb at hb
    rw [Bool.and_eq_true, decide_eq_true_eq, decide_eq_true_eq] at hb
    obtain ⟨h1, h2⟩ := hb
    have h1' := Int32.le_iff_toInt_le.mp h1
    have h2' := Int32.le_iff_toInt_le.mp h2
    have e1 : (1 : Int32).toInt = 1 := by decide
    have e2 : (99 : Int32).toInt = 99 := by decide
    rw [e1] at h1'
    rw [e2] at h2'
    refine ⟨x.toInt.toNat, by omega, ?_⟩
    apply Int32.toInt_inj.mp
    rw [nI_toInt (by omega)]
    omega
  obtain ⟨N, hN, rfl⟩ := hx
  rw [nI_clamp (by omega)] at kt
  have inner : ∀ (d : Nat), d < N → ∀ j, j ≤ o.1.length → ∀ (G1 : g_G), g_ke (fun q => q < n) G G1 → G.2.1 ≤ G1.2.1 → G1.2.1 ≤ G.2.1 + 20 * d + 2 * j → G.2.2 ≤ G1.2.2 → G1.2.2 ≤ G.2.2 + 40 * d + 4 * j → OffL E A n G1 a (pass1D (passND d o)) (mapTo pdR j (agL (passND d o))) s pa fs al rs →
      (∀ (G2 : g_G), g_ke (fun q => q < n) G G2 → G.2.1 ≤ G2.2.1 → G2.2.1 ≤ G.2.1 + 20 * (d + 1) → G.2.2 ≤ G2.2.2 → G2.2.2 ≤ G.2.2 + 40 * (d + 1) → OffC E A n G2 a (passND (d + 1) o) s pa fs al rs → V l E mX2_passDays 8 P 14 [(0, .ref a), (1, .int (nI N)), (2, .int (nI (d + 1)))] [] G2) →
      V l E mX2_passDays 8 P 31 [(0, .ref a), (1, .int (nI N)), (2, .int (nI d)), (3, .int (nI j))] [] G1 := by
    intro d hd
    have hlen := passND_len (o := o) d
    have hagl : (agL (passND d o)).length = o.1.length := by rw [← hlen]; exact List.length_map ..
    refine down _ ?_ ?_
    · intro G1 e1 e2 e3 e4 e5 hO k
      refine V_iload_n dX2_passDays_31 rfl ?_
      refine V_aload_n dX2_passDays_32 rfl (Or.inl ⟨_, rfl⟩) ?_
      refine V_get ckX2 hO.2.2.2.1 0 (by decide) q223 rfl (by rfl) dX2_passDays_33 ?_
      refine V_callV (q := (RX3, TX3, 2)) kX3_count q1073 q1074 q1075 hO.2.2.2.2.1.2.2.2.2.1 rfl dX2_passDays_36 ?_ (d' := 0) (as := []) (hst := rfl)
      refine (shf_count hO.2.2.2.2.1.2.2.2.2.1 ?_)
      refine V_icmp_ge 59 dX2_passDays_39 (by decide) (fun _ => ?_) (fun c39 => absurd (by rw [hl.1]; exact Int32.le_refl _) c39)
      refine V_iinc dX2_passDays_59 rfl (by decide) ?_
      refine V_goto 14 dX2_passDays_62 (by decide) ?_
      refine V_subk (k G1 e1 e2 (by omega) e4 (by omega) ?_) ⟨rfl, rfl, ?_, trivial⟩
      · have e9 : mapTo pdR o.1.length (agL (passND d o)) = agL (passND (d + 1) o) := by
          rw [← hagl, mapTo_n]
          exact agL_pass.symm
        rw [e9] at hO
        exact hO
      · rw [← nI_1 d]; rfl
    · intro j hj ih G1 e1 e2 e3 e4 e5 hO k
      have hjl : j < (agL (passND d o)).length := by omega
      obtain ⟨r, hr, -⟩ := drop_at hjl
      have hm : (mapTo pdR j (agL (passND d o)))[j]? = some r := (mapTo_at hjl).trans hr
      have hmL : j < (mapTo pdR j (agL (passND d o))).length := by rw [mapTo_len]; exact hjl
      obtain ⟨q, hq, hF⟩ := hO.2.2.2.2.2.1.at hm
      have hF0 := hF
      obtain ⟨-, -, ta, hqc, -⟩ := hF0
      have hrne : r.2.2.1 ≠ 0 := by
        have hr2 : ((passND d o).1.map (agd (passND d o)))[j]? = some r := hr
        rw [List.getElem?_map] at hr2
        obtain ⟨c, hc, rfl⟩ := Option.map_eq_some_iff.mp hr2
        exact passND_ne hne d c (List.mem_of_getElem? hc)
      refine V_iload_n dX2_passDays_31 rfl ?_
      refine V_aload_n dX2_passDays_32 rfl (Or.inl ⟨_, rfl⟩) ?_
      refine V_get ckX2 hO.2.2.2.1 0 (by decide) q223 rfl (by rfl) dX2_passDays_33 ?_
      refine V_callV (q := (RX3, TX3, 2)) kX3_count q1073 q1074 q1075 hO.2.2.2.2.1.2.2.2.2.1 rfl dX2_passDays_36 ?_ (d' := 0) (as := []) (hst := rfl)
      refine (shf_count hO.2.2.2.2.1.2.2.2.2.1 ?_)
      refine V_icmp_ge 59 dX2_passDays_39 (by decide) (fun c39 => absurd c39 (nI_ge (by omega) (by omega))) (fun _ => ?_)
      refine V_aload_n dX2_passDays_42 rfl (Or.inl ⟨_, rfl⟩) ?_
      refine V_get ckX2 hO.2.2.2.1 0 (by decide) q223 rfl (by rfl) dX2_passDays_43 ?_
      refine V_iload_n dX2_passDays_46 rfl ?_
      refine V_callV (q := (RX3, TX3, 2)) kX3_at q1400 q1401 q1402 hO.2.2.2.2.1.2.2.2.2.1 rfl dX2_passDays_47 ?_ (d' := 0) (as := [_]) (hst := rfl)
      refine (shf_at (k := j) hO.2.2.2.2.1 rfl hq ?_)
      refine V_callV (q := (RX7, TX7, 4)) kX7_passDay q1492 q1493 q1494 (by first | assumption | (repeat (first | exact g_up_at | exact g_new_at rfl | assumption | refine g_up_of (by first | assumption | (simp only [g_new, g_up]; omega) | omega) ?_ | refine g_new_of (by first | assumption | (simp only [g_new, g_up]; omega) | omega) ?_))) rfl dX2_passDays_50 ?_ (d' := 3) (as := []) (hst := rfl)
      refine (fnd_passDay hF hB (fun z hz => hA z (by omega)) hrne ⟨by omega, by omega⟩ (fun G2 m hr2 => ?_))
      obtain ⟨m1, m2, m3, m4, m5⟩ := m
      refine V_iinc dX2_passDays_53 rfl (by decide) ?_
      refine V_goto 31 dX2_passDays_56 (by decide) ?_
      have hnq : n ≤ q := hr2.1
      refine V_subk (ih G2 (e1.trans (m1.mono fun z hz => by have hz : z < n := hz; omega)) (by omega) (by omega) (by omega) (by omega) ?_ k) ⟨rfl, rfl, rfl, ?_, trivial⟩
      · rw [mapTo_sL hr]
        exact hO.day m1 hq hmL hr2
      · rw [← nI_1 j]; rfl
  have outer : ∀ d, d ≤ N → ∀ (G1 : g_G), g_ke (fun q => q < n) G G1 → G.2.1 ≤ G1.2.1 → G1.2.1 ≤ G.2.1 + 20 * d → G.2.2 ≤ G1.2.2 → G1.2.2 ≤ G.2.2 + 40 * d → OffC E A n G1 a (passND d o) s pa fs al rs → V l E mX2_passDays 8 P 14 [(0, .ref a), (1, .int (nI N)), (2, .int (nI d))] [] G1 := by
    refine down _ ?_ ?_
    · intro G1 e1 e2 e3 e4 e5 hO
      refine V_iload_n dX2_passDays_14 rfl ?_
      refine V_iload_n dX2_passDays_15 rfl ?_
      refine V_icmp_ge 65 dX2_passDays_16 (by decide) (fun _ => ?_) (fun c16 => absurd (Int32.le_refl _) c16)
      refine V_aload_n dX2_passDays_65 rfl (Or.inl ⟨_, rfl⟩) ?_
      refine V_callV (q := (RX2, TX2, 10)) kX2_greyCount q1507 q1508 q1509 hO.2.2.2.1 rfl dX2_passDays_66 ?_ (d' := 3) (as := []) (hst := rfl)
      refine (off_greyCount hO ⟨by omega, by omega⟩ (fun G2 m => ?_))
      obtain ⟨m1, m2, m3, m4, m5⟩ := m
      refine V_ireturn dX2_passDays_69 rfl ?_
      exact kt hb G2 ⟨e1.trans (m1.mono fun _ _ => trivial), by omega, by omega, by omega, by omega⟩ ⟨s, pa, fs, al, rs, hO.keep (m1.mono fun _ _ => trivial)⟩
    · intro d hd ih G1 e1 e2 e3 e4 e5 hO
      have c4 := hO.2.2.2.1
      refine V_iload_n dX2_passDays_14 rfl ?_
      refine V_iload_n dX2_passDays_15 rfl ?_
      refine V_icmp_ge 65 dX2_passDays_16 (by decide) (fun c16 => absurd c16 (nI_ge hd (by omega))) (fun _ => ?_)
      refine V_aload_n dX2_passDays_19 rfl (Or.inl ⟨_, rfl⟩) ?_
      refine V_dup dX2_passDays_20 rfl ?_
      refine V_get ckX2 (by first | assumption | (repeat (first | exact g_up_at | exact g_new_at rfl | assumption | refine g_up_of (by first | assumption | (simp only [g_new, g_up]; omega) | omega) ?_ | refine g_new_of (by first | assumption | (simp only [g_new, g_up]; omega) | omega) ?_))) 5 (by decide) q231 rfl (by rfl) dX2_passDays_21 ?_
      refine V_iconstv 1 dX2_passDays_24 (by decide) ?_
      refine V_iadd dX2_passDays_25 ?_
      refine V_put ckX2 (by first | assumption | (repeat (first | exact g_up_at | exact g_new_at rfl | assumption | refine g_up_of (by first | assumption | (simp only [g_new, g_up]; omega) | omega) ?_ | refine g_new_of (by first | assumption | (simp only [g_new, g_up]; omega) | omega) ?_))) (by first | assumption | omega | (simp only [g_new, g_up]; omega) | (simp only [g_new, g_up, g_B] at *; omega)) 5 (by decide) q231 rfl rfl rfl rfl (Nat.le_of_ble_eq_true rfl) dX2_passDays_26 ?_
      refine V_iconstv 0 dX2_passDays_29 (by decide) ?_
      refine V_istore_n dX2_passDays_30 (by decide) ?_
      have kA : g_ke (fun q => q ≠ a) G1 (g_up G1 a (offO (pass1D (passND d o)) s al)) := g_ke.up (fun q => q rfl) _
      have hO2 : OffC E A n (g_up G1 a (offO ((passND d o).1, (passND d o).2.1, (passND d o).2.2) s al)) a (passND d o) s pa fs al rs := hO.chgO (g_ke.up (fun q => q rfl) _) hO.2.2.1 g_up_at rfl rfl
      have hO1 : OffL E A n (g_up G1 a (offO (pass1D (passND d o)) s al)) a (pass1D (passND d o)) (mapTo pdR 0 (agL (passND d o))) s pa fs al rs := by
        rw [mapTo_0]
        obtain ⟨k1, k2, k3, k4, k5, k6, k7, k8, k9, k10⟩ := hO
        obtain ⟨mc, ar, hcell⟩ := k7.cell
        have k5' := k5
        obtain ⟨-, -, -, -, j5, -, f, j7, -⟩ := k5'
        have hal : al ≠ a := g_apart hcell k4 (by intro e; cases e)
        have nF : ∀ q x, G1.1 q = some x → isF x = true → q ≠ a := fun q x hx hi e => by
          subst e
          rw [k4] at hx
          cases hx
          cases (show false = true from hi)
        refine ⟨k1, k2, k3, g_up_at, k5.ke2 kA (g_apart j5 k4 (by intro e; cases e)) (g_apart j7 k4 (by intro e; cases e)), k6.ke3 kA nF, k7.ke2 kA hal (fun z hz => ?_), k8.ke3 kA nF, k9, AlsNo.back k7 (fun x hx => kA _ _ hal hx) k10⟩
        obtain ⟨-, -, cap, g, hg⟩ := hz
        exact g_apart hg k4 (by intro e; cases e)
      refine V_subk (inner d hd 0 (Nat.zero_le _) (g_up G1 a (offO (pass1D (passND d o)) s al)) (e1.trans (kA.mono fun q hq => by have hq : q < n := hq; omega)) e2 (by simp only [g_up]; omega) e4 (by simp only [g_up]; omega) hO1 ih) ⟨rfl, rfl, rfl, rfl, trivial⟩
  refine V_iconstv 0 dX2_passDays_12 (by decide) ?_
  refine V_istore_n dX2_passDays_13 (by decide) ?_
  exact V_subk (outer 0 (Nat.zero_le _) G g_ke.refl (Nat.le_refl _) (by omega) (Nat.le_refl _) (by omega) h) ⟨rfl, rfl, rfl, trivial⟩
end DAYS2
