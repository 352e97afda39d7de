/-! MODULE Office: changes of its parts -/
set_option maxRecDepth 100000
section CHG
variable {l : Launch} {E : g_E} {P : Outcome → g_G → Prop} {G : g_G}
/-- a change of the shelf and of the office's own cell -/
theorem OffC.chgS {A : Nat → Prop} {n a s pa al : Nat} {fs fs' rs : List Nat} {o o' : Of} {G' : g_G} (h : OffC E A n G a o s pa fs al rs) (hk : g_ke (fun q => q ≠ s ∧ q ≠ pa ∧ q ≠ a) G G') (hc : isC (o'.2.2 5)) (h4 : G'.1 a = some (offO o' s al)) (h5 : ShfS E A n G' s pa fs') (h6 : FsAt E A n G' fs' (agL o')) (h8 : o'.2.1 = o.2.1) : OffC E A n G' a o' s pa fs' al rs := by
  obtain ⟨k1, k2, k3, k4, k5, k6, k7, k8, k9, k10⟩ := h
  obtain ⟨mc, ar, hcell⟩ := k7.cell
  obtain ⟨-, -, -, -, j5, -, f, j7, -⟩ := k5
  have hal : al ≠ s ∧ al ≠ pa ∧ al ≠ a := ⟨g_apart hcell j5 (by intro e; cases e), g_apart hcell j7 (by intro e; cases e), g_apart hcell k4 (by intro e; cases e)⟩
  have kal : ∀ x, G.1 al = some x → G'.1 al = some x := fun x hx => hk _ _ hal hx
  refine ⟨k1, k2, hc, h4, h5, h6, k7.ke2 hk hal (fun q hq => ⟨?_, ?_, ?_⟩), ?_, k9, AlsNo.back k7 kal k10⟩
  · obtain ⟨-, -, cap, g, hg⟩ := hq
    exact g_apart hg j5 (by intro e; cases e)
  · intro e
    subst e
    exact AlsNo.ar k10 hq
  · obtain ⟨-, -, cap, g, hg⟩ := hq
    exact g_apart hg k4 (by intro e; cases e)
  · rw [h8]
    refine k8.ke3 hk (fun q x hx hi => ⟨?_, ?_, ?_⟩)
    · intro e
      subst e
      rw [hx] at j5
      cases j5
      cases (show false = true from hi)
    · intro e
      subst e
      rw [hx] at j7
      cases j7
      cases (show false = true from hi)
    · intro e
      subst e
      rw [hx] at k4
      cases k4
      cases (show false = true from hi)
/-- a change of the list and of the office's own cell -/
theorem OffC.chgR {A : Nat → Prop} {n a s pa al : Nat} {fs rs rs' : List Nat} {o o' : Of} {G' : g_G} (h : OffC E A n G a o s pa fs al rs) (hk : g_ke (fun q => q ≠ al ∧ ¬ AlsAr E n G al q ∧ q ≠ a) G G') (hc : isC (o'.2.2 5)) (h4 : G'.1 a = some (offO o' s al)) (h7 : AlsAt E A n G' al rs') (h8 : RsAt E A G' rs' o'.2.1) (h9 : rs'.length ≤ 6) (h10 : AlsNo G' al pa) (h6 : agL o' = agL o) : OffC E A n G' a o' s pa fs al rs' := by
  obtain ⟨k1, k2, k3, k4, k5, k6, k7, k8, k9, k10⟩ := h
  obtain ⟨mc, ar, hcell⟩ := k7.cell
  have k5' := k5
  obtain ⟨-, -, -, -, j5, -, f, j7, -⟩ := k5'
  refine ⟨k1, k2, hc, h4, k5.ke2 hk ⟨g_apart j5 hcell (by intro e; cases e), ?_, g_apart j5 k4 (by intro e; cases e)⟩ ⟨g_apart j7 hcell (by intro e; cases e), AlsNo.ar k10, g_apart j7 k4 (by intro e; cases e)⟩, ?_, h7, h8, h9, h10⟩
  · intro ⟨_, _, cap, g, hg⟩
    exact absurd rfl (g_apart hg j5 (by intro e; cases e))
  · rw [h6]
    refine k6.ke3 hk (fun q x hx hi => ⟨?_, ?_, ?_⟩)
    · intro e
      subst e
      rw [hx] at hcell
      cases hcell
      cases (show false = true from hi)
    · intro ⟨_, _, cap, g, hg⟩
      rw [hx] at hg
      cases hg
      cases (show false = true from hi)
    · intro e
      subst e
      rw [hx] at k4
      cases k4
      cases (show false = true from hi)
/-- a change of the office's own cell alone -/
theorem OffC.chgO {A : Nat → Prop} {n a s pa al : Nat} {fs rs : List Nat} {o o' : Of} {G' : g_G} (h : OffC E A n G a o s pa fs al rs) (hk : g_ke (fun q => q ≠ a) G G') (hc : isC (o'.2.2 5)) (h4 : G'.1 a = some (offO o' s al)) (h8 : o'.2.1 = o.2.1) (h6 : agL o' = agL o) : OffC E A n G' a o' s pa fs al rs := by
  have k5 := h.2.2.2.2.1
  have k6 := h.2.2.2.2.2.1
  have k4 := h.2.2.2.1
  obtain ⟨-, -, -, -, j5, -, f, j7, -⟩ := h.2.2.2.2.1
  refine h.chgS (hk.mono fun q hq => hq.2.2) hc h4 (k5.ke2 hk (g_apart j5 k4 (by intro e; cases e)) (g_apart j7 k4 (by intro e; cases e))) ?_ h8
  rw [h6]
  refine k6.ke3 hk (fun q x hx hi e => ?_)
  subst e
  rw [hx] at k4
  cases k4
  cases (show false = true from hi)
theorem OffC.lt {A : Nat → Prop} {n a s pa al : Nat} {fs rs : List Nat} {o : Of} (h : OffC E A n G a o s pa fs al rs) : n ≤ a ∧ n ≤ s ∧ n ≤ pa ∧ n ≤ al := ⟨h.1, h.2.2.2.2.1.1, h.2.2.2.2.1.2.1, h.2.2.2.2.2.2.1.1⟩
theorem g_mod.to {A : Nat → Prop} {G G' : g_G} {c s : Nat} (hk : g_ke A G G') (h : G'.2 = G.2) : g_mod A G G' c s := ⟨hk, by rw [h]; exact Nat.le_refl _, by rw [h]; exact Nat.le_add_right _ _, by rw [h]; exact Nat.le_refl _, by rw [h]; exact Nat.le_add_right _ _⟩
/-- a new colour -/
theorem off_add {A : Nat → Prop} {n a s pa al ta : Nat} {fs rs : List Nat} {o : Of} {t : Tn} {f : Int32} (h : OffC E A n G a o s pa fs al rs) (hB : g_B E ≤ n) (hn : n ≤ G.2.1) (hA : ∀ q, G.2.1 ≤ q → A q) (h10 : o.1.length < 10) (ht : TintAt E A G ta t) (hf : g_fit E G 1 4) (kk : ∀ G', g_mod (fun q => q < n) G G' 1 4 → OffAt E A n G' a (ofAdd o t f) → P (.returned (some (.int (o.2.2 2)))) G') : g_Spc l E mX2_add 3 [.ref a, .ref ta, .int f] G P := by
  obtain ⟨hf1, hf2⟩ := hf
  have h0 := h
  have hl := h.len
  obtain ⟨b1, b2, b3, b4⟩ := h.lt
  obtain ⟨k1, k2, k3, k4, k5, k6, k7, k8, k9, k10⟩ := h
  have k5' := k5
  obtain ⟨-, -, -, -, j5, -, ff, j7, -⟩ := k5'
  have has : a ≠ s ∧ a ≠ pa := ⟨g_apart k4 j5 (by intro e; cases e), g_apart k4 j7 (by intro e; cases e)⟩
  refine V_intro (plainFor_of_name plX2) (Nat.le_of_ble_eq_true rfl) ?_
  refine V_wf (fun wf hBG => ?_)
  have hk1 : g_ke g_all G (g_new G (g_ob 6 [.int (o.2.2 2), .int f, .ref ta, .int 0]) 4) := g_ke.new wf _ _
  have hs1 : ShfS E A n (g_new G (g_ob 6 [.int (o.2.2 2), .int f, .ref ta, .int 0]) 4) s pa fs := k5.ke2 hk1 trivial trivial
  refine V_aload_n dX2_add_0 rfl (Or.inl ⟨_, rfl⟩) ?_
  refine V_get ckX2 (by first | assumption | (repeat (first | exact g_up_at | exact g_new_at rfl | assumption | refine g_up_of (by first | assumption | (simp only [g_new, g_up]; omega) | omega) ?_ | refine g_new_of (by first | assumption | (simp only [g_new, g_up]; omega) | omega) ?_))) 0 (by decide) q223 rfl (by rfl) dX2_add_1 ?_
  refine V_new ckX7 q1091 dX2_add_4 (by first | omega | (simp only [g_new, g_up]; omega)) (by first | omega | (simp only [g_new, g_up]; omega)) ?_
  refine V_dup dX2_add_7 rfl ?_
  refine V_aload_n dX2_add_8 rfl (Or.inl ⟨_, rfl⟩) ?_
  refine V_get ckX2 (g_new_of (wf.ne k4) k4) 3 (by decide) q229 rfl (by rfl) dX2_add_9 ?_
  refine V_aload_n dX2_add_12 rfl (Or.inl ⟨_, rfl⟩) ?_
  refine V_iload_n dX2_add_13 rfl ?_
  refine V_callI kX7_init_2 rfl rfl q1092 q1093 dX2_add_14 ?_ (d' := 2) (as := [_, _, _]) (hst := rfl)
  refine (fnd_init2 (g_new_at rfl) hBG ?_)
  rw [g_new_up rfl]
  refine V_callV (q := (RX3, TX3, 2)) kX3_add q1095 q522 q523 hs1.2.2.2.2.1 rfl dX2_add_17 ?_ (d' := 0) (as := [_]) (hst := rfl)
  refine (shf_add hs1 hB (by omega) (g_new_at rfl) (fun G2 e1 e2 e3 => ?_))
  have c2 : G2.1 a = some (offO o s al) := e2 _ _ has (g_new_of (wf.ne k4) k4)
  have hz1 : G2.2.1 = G.2.1 + 1 := by rw [e1]; rfl
  have hz2 : G2.2.2 = G.2.2 + 4 := by rw [e1]; rfl
  refine V_aload_n dX2_add_20 rfl (Or.inl ⟨_, rfl⟩) ?_
  refine V_dup dX2_add_21 rfl ?_
  refine V_get ckX2 (by first | assumption | (repeat (first | exact g_up_at | exact g_new_at rfl | assumption | refine g_up_of (by first | assumption | (simp only [g_new, g_up]; omega) | omega) ?_ | refine g_new_of (by first | assumption | (simp only [g_new, g_up]; omega) | omega) ?_))) 3 (by decide) q229 rfl (by rfl) dX2_add_22 ?_
  refine V_iconstv 1 dX2_add_25 (by decide) ?_
  refine V_iadd dX2_add_26 ?_
  refine V_put ckX2 (by first | assumption | (repeat (first | exact g_up_at | exact g_new_at rfl | assumption | refine g_up_of (by first | assumption | (simp only [g_new, g_up]; omega) | omega) ?_ | refine g_new_of (by first | assumption | (simp only [g_new, g_up]; omega) | omega) ?_))) (by first | assumption | omega | (simp only [g_new, g_up]; omega) | (simp only [g_new, g_up, g_B] at *; omega)) 3 (by decide) q229 rfl rfl rfl rfl (Nat.le_of_ble_eq_true rfl) dX2_add_27 ?_
  refine V_aload_n dX2_add_30 rfl (Or.inl ⟨_, rfl⟩) ?_
  refine V_get ckX2 (by first | assumption | (repeat (first | exact g_up_at | exact g_new_at rfl | assumption | refine g_up_of (by first | assumption | (simp only [g_new, g_up]; omega) | omega) ?_ | refine g_new_of (by first | assumption | (simp only [g_new, g_up]; omega) | omega) ?_))) 3 (by decide) q229 rfl (by rfl) dX2_add_31 ?_
  refine V_iconstv 1 dX2_add_34 (by decide) ?_
  refine V_isub dX2_add_35 ?_
  rw [Int32.add_sub_cancel]
  refine V_ireturn dX2_add_36 rfl ?_
  have kS : g_ke (fun q => q ≠ s ∧ q ≠ pa ∧ q ≠ a) G (g_up G2 a (offO (ofAdd o t f) s al)) := fun q x hq hx => g_up_of hq.2.2 (e2 q x ⟨hq.1, hq.2.1⟩ (hk1 q x trivial hx))
  have kA : g_ke (fun q => q ≠ a) G2 (g_up G2 a (offO (ofAdd o t f) s al)) := g_ke.up (fun q => q rfl) _
  refine kk (g_up G2 a (offO (ofAdd o t f) s al)) ⟨kS.mono (fun q hq => by have hq : q < n := hq; omega), by simp only [g_up]; omega, by simp only [g_up]; omega, by simp only [g_up]; omega, by simp only [g_up]; omega⟩ ⟨s, pa, _, al, rs, h0.chgS kS k3 g_up_at (e3.ke2 kA has.1.symm has.2.symm) ?_ rfl⟩
  have eag : agL (ofAdd o t f) = agL o ++ [(o.2.2 2, t, f, 0)] := by
    show (o.1 ++ [(o.2.2 2, t, f, o.2.2 4)]).map (agd (ofAdd o t f)) = o.1.map (agd o) ++ _
    rw [List.map_append]
    congr 1
    show [(o.2.2 2, t, f, o.2.2 4 - o.2.2 4)] = _
    rw [Int32.sub_self]
  rw [eag]
  have nF : ∀ q x, G2.1 q = some x → isF x = true → q ≠ a := fun q x hx hi e => by
    subst e
    rw [c2] at hx
    cases hx
    cases (show false = true from hi)
  have nF1 : ∀ q x, (g_new G (g_ob 6 [.int (o.2.2 2), .int f, .ref ta, .int 0]) 4).1 q = some x → isF x = true → q ≠ s ∧ q ≠ pa := fun q x hx hi => hs1.no hx hi
  refine FsAt.push ((((k6.ke3 hk1 (fun _ _ _ _ => trivial)).ke3 e2 nF1)).ke3 kA nF) ⟨by omega, hA _ (Nat.le_refl _), ta, ?_, ?_⟩ ?_
  · exact g_up_of (wf.ne k4).symm (e2 _ _ ⟨(wf.ne j5).symm, (wf.ne j7).symm⟩ (g_new_at rfl))
  · exact ((ht.ke2 hk1 (fun _ _ _ _ => trivial)).ke2 e2 (fun q x hx hi => nF1 q x hx (isF_T hi))).ke2 kA (fun q x hx hi => nF q x hx (isF_T hi))
  · intro hm
    obtain ⟨k, hk⟩ := List.mem_iff_getElem?.mp hm
    have hkl := lt_of_at hk
    have hkl2 : k < (agL o).length := by rw [← k6.1]; exact hkl
    obtain ⟨-, -, tb, hb, -⟩ := k6.2.2 k _ _ hk (List.getElem?_eq_getElem hkl2)
    exact absurd (wf _ _ hb) (Nat.lt_irrefl _)
end CHG
