/-! MODULE Office: addColour addReport withdraw discard handOver mix -/
set_option maxRecDepth 100000
theorem isC_97 : isC 97 := ⟨97, by decide, by decide⟩
theorem isC_101 : isC 101 := ⟨101, by decide, by decide⟩
theorem isC_115 : isC 115 := ⟨115, by decide, by decide⟩
theorem isC_117 : isC 117 := ⟨117, by decide, by decide⟩
theorem okF3 {f : Nat → Int32} : okFrom f 3 0 true = (isb (f 0) 0 99 && isb (f 1) 0 99 && isb (f 2) 0 99) := by
  show (((true && isb (f 0) 0 99) && isb (f 1) 0 99) && isb (f 2) 0 99) = _
  rw [Bool.true_and]
section CHG2
variable {l : Launch} {E : g_E} {P : Outcome → g_G → Prop} {G : g_G}
theorem off_addColour {A : Nat → Prop} {n a s pa al : Nat} {fs rs : List Nat} {o : Of} {r g b f : Int32} (h : OffC E A n G a o s pa fs al rs) (hB : g_B E ≤ n) (hn : n ≤ G.2.1) (hA : ∀ q, G.2.1 ≤ q → A q) (hf : g_fit E G 5 20) (kt : cadd o r g b f = 0 → ∀ G', g_mod (fun q => q < n) G G' 5 20 → OffAt E A n G' a (ofAdd o (r, g, b) f) → P (.returned (some (.int (o.2.2 2)))) G') (kf : cadd o r g b f ≠ 0 → ∀ q G', g_mod (fun q => q < n) G G' 5 20 → CfAt G' q (kOf (cadd o r g b f) 97 115) → P (.threw q) G') : g_Spc l E mX2_addColour 8 [.ref a, .int r, .int g, .int b, .int f] G P := by
  obtain ⟨hf1, hf2⟩ := hf
  have hl := h.len
  have k4 := h.2.2.2.1
  refine V_intro (plainFor_of_name plX2) (Nat.le_of_ble_eq_true rfl) ?_
  refine V_wf (fun wf hBG => ?_)
  have hk1 : ∀ y m, g_ke g_all G (g_new G y m) := fun y m => g_ke.new wf _ _
  have wf1 : ∀ y m, g_wf (g_new G y m) := fun y m => wf.new y m
  generalize hF : upd (upd (upd (fun _ => (0 : Int32)) (Int32.toNatClampNeg 0) r) (Int32.toNatClampNeg 1) g) (Int32.toNatClampNeg 2) b = F
  have hF3 : ∀ k, k < 3 → F k = tn_at (r, g, b) k := fun k hk => by rw [← hF]; exact upd3 hk
  have hC1 : OffC E A n (g_new G (g_ai E 3 F) 3) a o s pa fs al rs := h.keep ((hk1 _ _).mono fun _ _ => trivial)
  have thr : ∀ {pc : Nat} {L : List (Nat × Value)} {kd : Int32}, cadd o r g b f ≠ 0 → kOf (cadd o r g b f) 97 115 = kd → ∀ q G', g_mod g_all (g_new G (g_ai E 3 F) 3) G' 1 7 → CfAt G' q kd → VX l E mX2_addColour 8 P pc L q G' := by
    intro pc L kd hne ek q G' m hc
    obtain ⟨m1, m2, m3, m4, m5⟩ := m
    refine VX_out (ci := 0) (fs := []) rfl (kf hne q G' ⟨((hk1 _ _).trans m1).mono fun _ _ => trivial, ?_, ?_, ?_, ?_⟩ (by rw [ek]; exact hc))
    · simp only [g_new] at m2; omega
    · simp only [g_new] at m3; omega
    · simp only [g_new] at m4; omega
    · simp only [g_new] at m5; omega
  have last : cadd o r g b f = 0 → o.1.length < 10 → V l E mX2_addColour 8 P 64 (lv_args 0 [.ref a, .int r, .int g, .int b, .int f]) [] (g_new G (g_ai E 3 F) 3) := by
    intro h0 h10
    have hC5 : ∀ x, OffC E A n (g_up (g_new (g_new (g_new G (g_ai E 3 F) 3) (g_ob 9 [.null]) 1) (g_ai E 3 F) 3) (g_new G (g_ai E 3 F) 3).2.1 x) a o s pa fs al rs := fun x => by
      refine hC1.keep (fun q y _ hy => ?_)
      have hq : q < G.2.1 + 1 := wf1 _ _ _ _ hy
      repeat (first | exact g_up_at | exact g_new_at rfl | assumption | refine g_up_of (by first | assumption | (simp only [g_new, g_up]; omega) | omega) ?_ | refine g_new_of (by first | assumption | (simp only [g_new, g_up]; omega) | omega) ?_)
    refine V_aload_n dX2_addColour_64 rfl (Or.inl ⟨_, rfl⟩) ?_
    refine V_new ckX11 q1077 dX2_addColour_65 (by first | omega | (simp only [g_new, g_up]; omega)) (by first | omega | (simp only [g_new, g_up]; omega)) ?_
    refine V_dup dX2_addColour_68 rfl ?_
    refine V_iconstv 3 dX2_addColour_69 (by decide) ?_
    refine V_newarray_int 3 rfl (by decide) q388 dX2_addColour_70 (by first | omega | (simp only [g_new, g_up]; omega)) (by first | omega | (simp only [g_new, g_up]; omega)) ?_
    refine V_dup dX2_addColour_72 rfl ?_
    refine V_iconstv 0 dX2_addColour_73 (by decide) ?_
    refine V_iload_n dX2_addColour_74 rfl ?_
    refine V_iastore (by first | assumption | (repeat (first | exact g_up_at | exact g_new_at rfl | assumption | refine g_up_of (by first | assumption | (simp only [g_new, g_up]; omega) | omega) ?_ | refine g_new_of (by first | assumption | (simp only [g_new, g_up]; omega) | omega) ?_))) (by first | assumption | omega | (simp only [g_new, g_up]; omega) | (simp only [g_new, g_up, g_B] at *; omega)) (by first | assumption | exact g_in (by decide)) q388 dX2_addColour_75 ?_
    rw [g_new_up rfl]
    refine V_dup dX2_addColour_76 rfl ?_
    refine V_iconstv 1 dX2_addColour_77 (by decide) ?_
    refine V_iload_n dX2_addColour_78 rfl ?_
    refine V_iastore (by first | assumption | (repeat (first | exact g_up_at | exact g_new_at rfl | assumption | refine g_up_of (by first | assumption | (simp only [g_new, g_up]; omega) | omega) ?_ | refine g_new_of (by first | assumption | (simp only [g_new, g_up]; omega) | omega) ?_))) (by first | assumption | omega | (simp only [g_new, g_up]; omega) | (simp only [g_new, g_up, g_B] at *; omega)) (by first | assumption | exact g_in (by decide)) q388 dX2_addColour_79 ?_
    rw [g_new_up rfl]
    refine V_dup dX2_addColour_80 rfl ?_
    refine V_iconstv 2 dX2_addColour_81 (by decide) ?_
    refine V_iload_n dX2_addColour_82 rfl ?_
    refine V_iastore (by first | assumption | (repeat (first | exact g_up_at | exact g_new_at rfl | assumption | refine g_up_of (by first | assumption | (simp only [g_new, g_up]; omega) | omega) ?_ | refine g_new_of (by first | assumption | (simp only [g_new, g_up]; omega) | omega) ?_))) (by first | assumption | omega | (simp only [g_new, g_up]; omega) | (simp only [g_new, g_up, g_B] at *; omega)) (by first | assumption | exact g_in (by decide)) q388 dX2_addColour_83 ?_
    rw [g_new_up rfl, hF]
    refine V_callI kX11_init rfl rfl q1079 q1080 dX2_addColour_84 ?_ (d' := 1) (as := [_]) (hst := rfl)
    refine (tint_init (by repeat (first | exact g_up_at | exact g_new_at rfl | assumption | refine g_up_of (by first | assumption | (simp only [g_new, g_up]; omega) | omega) ?_ | refine g_new_of (by first | assumption | (simp only [g_new, g_up]; omega) | omega) ?_)) (by first | assumption | omega | (simp only [g_new, g_up]; omega) | (simp only [g_new, g_up, g_B] at *; omega)) ?_)
    refine V_iload dX2_addColour_87 rfl ?_
    refine V_callV (q := (RX2, TX2, 10)) kX2_add q1087 q1089 qs9 (hC5 _).2.2.2.1 rfl dX2_addColour_89 ?_ (d' := 3) (as := [_, _]) (hst := rfl)
    refine (off_add (t := (r, g, b)) (hC5 _) hB (by simp only [g_up, g_new]; omega) (fun q hq => hA q (by simp only [g_up, g_new] at hq; omega)) h10 ⟨hA _ (by simp only [g_new]; omega), (g_new G (g_ai E 3 F) 3).2.1 + 1, F, hA _ (by simp only [g_new]; omega), (by repeat (first | exact g_up_at | exact g_new_at rfl | assumption | refine g_up_of (by first | assumption | (simp only [g_new, g_up]; omega) | omega) ?_ | refine g_new_of (by first | assumption | (simp only [g_new, g_up]; omega) | omega) ?_)), (by repeat (first | exact g_up_at | exact g_new_at rfl | assumption | refine g_up_of (by first | assumption | (simp only [g_new, g_up]; omega) | omega) ?_ | refine g_new_of (by first | assumption | (simp only [g_new, g_up]; omega) | omega) ?_)), hF3⟩ ⟨by simp only [g_up, g_new]; omega, by simp only [g_up, g_new]; omega⟩ (fun G' m hO => ?_))
    refine V_ireturn dX2_addColour_92 rfl ?_
    obtain ⟨m1, m2, m3, m4, m5⟩ := m
    refine kt h0 G' ⟨fun q x hq hx => m1 q x hq ?_, ?_, ?_, ?_, ?_⟩ hO
    · have hq2 := wf _ _ hx
      repeat (first | exact g_up_at | exact g_new_at rfl | assumption | refine g_up_of (by first | assumption | (simp only [g_new, g_up]; omega) | omega) ?_ | refine g_new_of (by first | assumption | (simp only [g_new, g_up]; omega) | omega) ?_)
    · simp only [g_up, g_new] at m2; omega
    · simp only [g_up, g_new] at m3; omega
    · simp only [g_up, g_new] at m4; omega
    · simp only [g_up, g_new] at m5; omega
  have rest2 : (isb r 0 99 && isb g 0 99 && isb b 0 99 && isb f 1 9) = true → ∀ c, c = decide (o.1.length < 10) → V l E mX2_addColour 8 P 59 (lv_args 0 [.ref a, .int r, .int g, .int b, .int f]) [.int (b2i c)] (g_new G (g_ai E 3 F) 3) := by
    intro hok c hc
    have ec : cadd o r g b f = if o.1.length = 10 then 2 else 0 := by unfold cadd; rw [if_pos hok]
    refine V_bipushv 115 dX2_addColour_59 (by decide) ?_
    refine V_callSN kX1_demand q1045 q1046 dX2_addColour_61 ?_ (d' := 7) (as := [_, _]) (hst := rfl)
    refine (co_demand isC_115 ⟨by simp only [g_new]; omega, by simp only [g_new]; omega⟩ (fun hb => ?_) (fun hb q G' m _ hcf => ?_))
    · rw [hc] at hb
      have h10 := of_decide_eq_true hb
      exact last (by rw [ec, if_neg (by omega)]) h10
    · rw [hc] at hb
      have h10 := of_decide_eq_false hb
      have e2 : cadd o r g b f = 2 := by rw [ec, if_pos (by omega)]
      exact thr (by rw [e2]; decide) (by rw [e2]; rfl) q G' m hcf
  have rest1 : ∀ c, c = (isb r 0 99 && isb g 0 99 && isb b 0 99 && isb f 1 9) → V l E mX2_addColour 8 P 37 (lv_args 0 [.ref a, .int r, .int g, .int b, .int f]) [.int (b2i c)] (g_new G (g_ai E 3 F) 3) := by
    intro c hc
    refine V_bipushv 97 dX2_addColour_37 (by decide) ?_
    refine V_callSN kX1_demand q1045 q1046 dX2_addColour_39 ?_ (d' := 7) (as := [_, _]) (hst := rfl)
    refine (co_demand isC_97 ⟨by simp only [g_new]; omega, by simp only [g_new]; omega⟩ (fun hb => ?_) (fun hb q G' m _ hcf => ?_))
    · rw [hc] at hb
      refine V_aload_n dX2_addColour_42 rfl (Or.inl ⟨_, rfl⟩) ?_
      refine V_get ckX2 hC1.2.2.2.1 0 (by decide) q223 rfl (by rfl) dX2_addColour_43 ?_
      refine V_callV (q := (RX3, TX3, 2)) kX3_count q1073 q1074 q1075 hC1.2.2.2.2.1.2.2.2.2.1 rfl dX2_addColour_46 ?_ (d' := 0) (as := []) (hst := rfl)
      refine (shf_count hC1.2.2.2.2.1.2.2.2.2.1 ?_)
      refine V_bipushv 10 dX2_addColour_49 (by decide) ?_
      refine V_icmp_ge 58 dX2_addColour_51 (by decide) (fun c51 => ?_) (fun c51 => ?_)
      · refine V_iconstv 0 dX2_addColour_58 (by decide) ?_
        have e : decide (o.1.length < 10) = false := decide_eq_false fun q => absurd c51 (nI_ge (a := fs.length) (b := 10) (by omega) (by decide))
        exact rest2 hb false e.symm
      · refine V_iconstv 1 dX2_addColour_54 (by decide) ?_
        refine V_goto 59 dX2_addColour_55 (by decide) ?_
        have e : decide (o.1.length < 10) = true := decide_eq_true (by
          rw [← hl.1]
          exact Nat.not_le.mp fun q => c51 (nI_le q (by omega)))
        exact rest2 hb true e.symm
    · have e1 : cadd o r g b f = 1 := by
        unfold cadd
        rw [if_neg (by rw [← hc, hb]; decide)]
      exact thr (by rw [e1]; decide) (by rw [e1]; rfl) q G' m hcf
  refine V_iconstv 3 dX2_addColour_0 (by decide) ?_
  refine V_newarray_int 3 rfl (by decide) q388 dX2_addColour_1 (by first | omega | (simp only [g_new, g_up]; omega)) (by first | omega | (simp only [g_new, g_up]; omega)) ?_
  refine V_dup dX2_addColour_3 rfl ?_
  refine V_iconstv 0 dX2_addColour_4 (by decide) ?_
  refine V_iload_n dX2_addColour_5 rfl ?_
  refine V_iastore (by first | assumption | (repeat (first | exact g_up_at | exact g_new_at rfl | assumption | refine g_up_of (by first | assumption | (simp only [g_new, g_up]; omega) | omega) ?_ | refine g_new_of (by first | assumption | (simp only [g_new, g_up]; omega) | omega) ?_))) (by first | assumption | omega | (simp only [g_new, g_up]; omega) | (simp only [g_new, g_up, g_B] at *; omega)) (by first | assumption | exact g_in (by decide)) q388 dX2_addColour_6 ?_
  rw [g_new_up rfl]
  refine V_dup dX2_addColour_7 rfl ?_
  refine V_iconstv 1 dX2_addColour_8 (by decide) ?_
  refine V_iload_n dX2_addColour_9 rfl ?_
  refine V_iastore (by first | assumption | (repeat (first | exact g_up_at | exact g_new_at rfl | assumption | refine g_up_of (by first | assumption | (simp only [g_new, g_up]; omega) | omega) ?_ | refine g_new_of (by first | assumption | (simp only [g_new, g_up]; omega) | omega) ?_))) (by first | assumption | omega | (simp only [g_new, g_up]; omega) | (simp only [g_new, g_up, g_B] at *; omega)) (by first | assumption | exact g_in (by decide)) q388 dX2_addColour_10 ?_
  rw [g_new_up rfl]
  refine V_dup dX2_addColour_11 rfl ?_
  refine V_iconstv 2 dX2_addColour_12 (by decide) ?_
  refine V_iload_n dX2_addColour_13 rfl ?_
  refine V_iastore (by first | assumption | (repeat (first | exact g_up_at | exact g_new_at rfl | assumption | refine g_up_of (by first | assumption | (simp only [g_new, g_up]; omega) | omega) ?_ | refine g_new_of (by first | assumption | (simp only [g_new, g_up]; omega) | omega) ?_))) (by first | assumption | omega | (simp only [g_new, g_up]; omega) | (simp only [g_new, g_up, g_B] at *; omega)) (by first | assumption | exact g_in (by decide)) q388 dX2_addColour_14 ?_
  rw [g_new_up rfl, hF]
  refine V_callSN kX1_areParts q1038 q1039 dX2_addColour_15 ?_ (d' := 1) (as := [_]) (hst := rfl)
  refine (co_areParts (g_new_at rfl) ?_)
  rw [okF3, hF3 0 (by decide), hF3 1 (by decide), hF3 2 (by decide)]
  refine V_if_eq 36 dX2_addColour_18 (by decide) (fun c18 => ?_) (fun c18 => ?_)
  · refine V_iconstv 0 dX2_addColour_36 (by decide) ?_
    have e := b2i_f c18
    refine rest1 false ?_
    rw [show (isb r 0 99 && isb g 0 99 && isb b 0 99) = false from e]
    rfl
  · have e : (isb r 0 99 && isb g 0 99 && isb b 0 99) = true := b2i_t c18
    refine V_iload dX2_addColour_21 rfl ?_
    refine V_iconstv 1 dX2_addColour_23 (by decide) ?_
    refine V_bipushv 9 dX2_addColour_24 (by decide) ?_
    refine V_callSN kX1_isBetween q1044 q1042 dX2_addColour_26 ?_ (d' := 0) (as := [_, _, _]) (hst := rfl)
    refine (co_isBetween ?_)
    refine V_if_eq 36 dX2_addColour_29 (by decide) (fun c29 => ?_) (fun c29 => ?_)
    · refine V_iconstv 0 dX2_addColour_36 (by decide) ?_
      refine rest1 false ?_
      rw [e, b2i_f c29]
      rfl
    · refine V_iconstv 1 dX2_addColour_32 (by decide) ?_
      refine V_goto 37 dX2_addColour_33 (by decide) ?_
      refine rest1 true ?_
      rw [e, b2i_t c29]
      rfl
end CHG2
