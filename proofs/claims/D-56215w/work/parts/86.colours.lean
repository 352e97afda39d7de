/-! MODULE Settlement: colours; Office: settle -/
set_option maxRecDepth 100000
section COLS
variable {l : Launch} {E : g_E} {P : Outcome → g_G → Prop} {G : g_G}
theorem st_colours {a : Nat} {o : Of} (h : SetAt E G a o) (hC : o.1.length ≤ 10) (hR : o.2.1.length ≤ 6) (hD : DisOK o) (hf : g_fit E G 8 7174) (kk : ∀ G' g gf, g_mod g_all G G' 8 7174 → G.2.1 ≤ g → G'.1 g = some (g_ai E o.2.1.length gf) → (∀ k, k < o.2.1.length → gf k = plI (chC o k)) → P (.returned (some (.ref g))) G') : g_Spc l E mX15_colours 4 [.ref a] G P := by
  obtain ⟨hf1, hf2⟩ := hf
  have p10 := sb_p10 hC
  have h0 := h
  obtain ⟨ra, da, rf, df, h1, -⟩ := h
  refine V_intro (plainFor_of_name plX15) (Nat.le_of_ble_eq_true rfl) ?_
  refine V_wf (fun wf hBG => ?_)
  have kset : ∀ {G1 : g_G}, g_ke g_all G G1 → SetAt E G1 a o := fun hk => h0.keep hk
  have outer : ∀ k, k ≤ o.2.1.length → ∀ (G1 : g_G) (gf : Nat → Int32), g_ke g_all G G1 → G.2.1 + 1 ≤ G1.2.1 → G1.2.1 ≤ G.2.1 + 2 + k → G.2.2 ≤ G1.2.2 → G1.2.2 ≤ G.2.2 + 6 + 1024 + 1024 * k → G1.1 G.2.1 = some (g_ai E o.2.1.length gf) → (∀ i, i < k → gf i = plI (chC o i)) → V l E mX15_colours 4 P 17 [(0, .ref a), (1, .ref G.2.1), (2, .int (nI (stC o k).1)), (3, .long (stC o k).2), (5, .int (nI k))] [] G1 := by
    refine down _ ?_ ?_
    · intro G1 gf e1 e2 e3 e4 e5 e6 e7
      refine V_iload dX15_colours_17 rfl ?_
      refine V_aload_n dX15_colours_19 rfl (Or.inl ⟨_, rfl⟩) ?_
      refine V_get ckX15 (e1 _ _ trivial h1) 0 (by decide) q1431 rfl (by rfl) dX15_colours_20 ?_
      refine V_icmp_ge 176 dX15_colours_23 (by decide) (fun _ => ?_) (fun c23 => absurd (Int32.le_refl _) c23)
      refine V_aload_n dX15_colours_176 rfl (Or.inl ⟨_, rfl⟩) ?_
      refine V_areturnA dX15_colours_177 rfl ?_
      exact kk G1 _ gf ⟨e1, by omega, by omega, by omega, by omega⟩ (Nat.le_refl _) e6 e7
    · intro k hk ih G1 gf e1 e2 e3 e4 e5 e6 e7
      obtain ⟨r, hr, -⟩ := drop_at hk
      have er := rwAt_of hr
      have hS := stC_lt (o := o) k
      have hS10 : (stC o k).1 < 1024 := Nat.lt_of_lt_of_le hS p10
      have hink : vp_in (nI k) o.2.1.length := vp_in_nI hk (by omega)
      have hch : chC o k = chFL o (bTL o (o.2.1.drop (k + 1))) (stC o k).2 r (stC o k).1 0 o.1 := by unfold chC; rw [er]
      have hsn := stC_s (o := o) (k := k)
      generalize stC o k = sv at hS hS10 hch hsn
      obtain ⟨S, v⟩ := sv
      dsimp only at hS hS10 hch hsn
      refine V_iload dX15_colours_17 rfl ?_
      refine V_aload_n dX15_colours_19 rfl (Or.inl ⟨_, rfl⟩) ?_
      refine V_get ckX15 (e1 _ _ trivial h1) 0 (by decide) q1431 rfl (by rfl) dX15_colours_20 ?_
      refine V_icmp_ge 176 dX15_colours_23 (by decide) (fun c23 => absurd c23 (nI_ge hk (by omega))) (fun _ => ?_)
      refine V_aload_n dX15_colours_26 rfl (Or.inl ⟨_, rfl⟩) ?_
      refine V_iload dX15_colours_27 rfl ?_
      refine V_iconstv 1 dX15_colours_29 (by decide) ?_
      refine V_iadd dX15_colours_30 ?_
      rw [show nI k + 1 = nI (k + 1) from nI_1 k]
      refine V_wf (fun wf1 hBG1 => ?_)
      refine V_callV (q := (RX15, TX15, 4)) kX15_worthsFrom q1452 q1454 qs15 (e1 _ _ trivial h1) rfl dX15_colours_31 ?_ (d' := 2) (as := [_]) (hst := rfl)
      refine (st_worthsFrom (first := k + 1) (kset e1) hC hR hD rfl (by omega) ⟨by omega, by omega⟩ (fun f hfm => ?_))
      refine V_astore dX15_colours_34 (Or.inl ⟨_, rfl⟩) (by decide) ?_
      have hgl : G.2.1 ≠ G1.2.1 := by omega
      have kW : ∀ (gf' : Nat → Int32), g_ke g_all G (g_up (g_new G1 (g_al E (2 ^ o.1.length) f) (2 ^ o.1.length)) G.2.1 (g_ai E o.2.1.length gf')) := fun gf' q x _ hx => g_up_of (wf.ne hx) (g_new_of (by have := wf _ _ hx; omega) (e1 q x trivial hx))
      have h1W : ∀ gf', (g_up (g_new G1 (g_al E (2 ^ o.1.length) f) (2 ^ o.1.length)) G.2.1 (g_ai E o.2.1.length gf')).1 a = some (g_ob 13 [.int (nI o.2.1.length), .int (nI o.1.length), .ref ra, .ref da]) := fun gf' => kW gf' _ _ trivial h1
      have hwW : ∀ gf', (g_up (g_new G1 (g_al E (2 ^ o.1.length) f) (2 ^ o.1.length)) G.2.1 (g_ai E o.2.1.length gf')).1 G1.2.1 = some (g_al E (2 ^ o.1.length) f) := fun gf' => g_up_of hgl.symm (g_new_at rfl)
      have done : ∀ gf' : Nat → Int32, (∀ i, i < k → gf' i = plI (chC o i)) → gf' k = plI (chC o k) → V l E mX15_colours 4 P 140 [(0, .ref a), (1, .ref G.2.1), (2, .int (nI S)), (3, .long v), (5, .int (nI k))] [] (g_up (g_new G1 (g_al E (2 ^ o.1.length) f) (2 ^ o.1.length)) G.2.1 (g_ai E o.2.1.length gf')) := by
        intro gf' hlo hk'
        have hall : ∀ i, i < k + 1 → gf' i = plI (chC o i) := fun i hi => by
          by_cases e : i = k
          · rw [e]; exact hk'
          · exact hlo i (by omega)
        refine V_aload_n dX15_colours_140 rfl (Or.inl ⟨_, rfl⟩) ?_
        refine V_iload dX15_colours_141 rfl ?_
        refine V_iaload g_up_at (by first | assumption | exact g_in (by decide)) q388 dX15_colours_143 ?_
        rw [nI_clamp (by omega), hk']
        cases hx : chC o k with
        | none =>
          rw [hx] at hsn
          refine V_iconstv (-1) dX15_colours_144 (by decide) ?_
          refine V_icmp_eq 170 dX15_colours_145 (by decide) (fun _ => ?_) (fun c145 => absurd (show plI none = -1 from rfl) c145)
          refine V_iinc dX15_colours_170 rfl (by decide) ?_
          refine V_goto 17 dX15_colours_173 (by decide) ?_
          refine V_subk (ih _ gf' (kW gf') (by simp only [g_up, g_new]; omega) (by simp only [g_up, g_new]; omega) (by simp only [g_up, g_new]; omega) (by simp only [g_up, g_new]; omega) g_up_at hall) ⟨rfl, rfl, ?_, ?_, ?_, trivial⟩
          · rw [hsn]; rfl
          · rw [hsn]; rfl
          · rw [← nI_1 k]; rfl
        | some j =>
          rw [hx] at hsn
          obtain ⟨hjl, c, hc, hfit⟩ := chC_lt hx
          rw [er] at hfit
          have hsn : stC o (k + 1) = (S ||| 2 ^ j, v - gL o (rwAt o.2.1 k) (rwAt o.1 j)) := hsn
          rw [er, rwAt_of hc] at hsn
          have hk2 : gf' k = nI j := by rw [hk', hx]; rfl
          refine V_iconstv (-1) dX15_colours_144 (by decide) ?_
          refine V_icmp_eq 170 dX15_colours_145 (by decide) (fun c145 => absurd c145 (fun q => absurd (show nI j < 0 by rw [show nI j = -1 from q]; decide) (nI_pos (by omega)))) (fun _ => ?_)
          refine V_lload_n dX15_colours_148 rfl ?_
          refine V_aload_n dX15_colours_149 rfl (Or.inl ⟨_, rfl⟩) ?_
          refine V_iload dX15_colours_150 rfl ?_
          refine V_aload_n dX15_colours_152 rfl (Or.inl ⟨_, rfl⟩) ?_
          refine V_iload dX15_colours_153 rfl ?_
          refine V_iaload g_up_at (by first | assumption | exact g_in (by decide)) q388 dX15_colours_155 ?_
          rw [nI_clamp (by omega), hk2]
          refine V_callV (q := (RX15, TX15, 4)) kX15_worth q1464 q1466 qs18 (h1W _) rfl dX15_colours_156 ?_ (d' := 0) (as := [_, _]) (hst := rfl)
          refine (st_worth (k := k) (j := j) (kset (kW gf')) hC hR rfl rfl hr hc hfit ?_)
          refine V_lsub dX15_colours_159 ?_
          refine V_lstore_n dX15_colours_160 (by decide) ?_
          refine V_iload_n dX15_colours_161 rfl ?_
          refine V_iconstv 1 dX15_colours_162 (by decide) ?_
          refine V_aload_n dX15_colours_163 rfl (Or.inl ⟨_, rfl⟩) ?_
          refine V_iload dX15_colours_164 rfl ?_
          refine V_iaload g_up_at (by first | assumption | exact g_in (by decide)) q388 dX15_colours_166 ?_
          rw [nI_clamp (by omega), hk2]
          refine V_ishl dX15_colours_167 ?_
          rw [sb_shl j (by omega)]
          refine V_ior dX15_colours_168 ?_
          rw [nx_or]
          refine V_istore_n dX15_colours_169 (by decide) ?_
          refine V_iinc dX15_colours_170 rfl (by decide) ?_
          refine V_goto 17 dX15_colours_173 (by decide) ?_
          refine V_subk (ih _ gf' (kW gf') (by simp only [g_up, g_new]; omega) (by simp only [g_up, g_new]; omega) (by simp only [g_up, g_new]; omega) (by simp only [g_up, g_new]; omega) g_up_at hall) ⟨rfl, rfl, ?_, ?_, ?_, trivial⟩
          · rw [hsn]; rfl
          · rw [hsn]; rfl
          · rw [← nI_1 k]; rfl
      have inner : ∀ c, c ≤ o.1.length → ∀ gf' : Nat → Int32, (∀ i, i < k → gf' i = plI (chC o i)) → gf' k = plI (chFL o (bTL o (o.2.1.drop (k + 1))) v r S c (o.1.drop c)) → V l E mX15_colours 4 P 49 [(0, .ref a), (1, .ref G.2.1), (2, .int (nI S)), (3, .long v), (5, .int (nI k)), (6, .ref G1.2.1), (7, .int (nI c - 1))] [] (g_up (g_new G1 (g_al E (2 ^ o.1.length) f) (2 ^ o.1.length)) G.2.1 (g_ai E o.2.1.length gf')) := by
        intro c
        induction c with
        | zero =>
          intro _ gf' hlo hk'
          refine V_iload dX15_colours_49 rfl ?_
          refine V_if_lt 140 dX15_colours_51 (by decide) (fun _ => ?_) (fun c51 => absurd (by decide) c51)
          refine V_subk (done gf' hlo ?_) ⟨rfl, rfl, rfl, rfl, rfl, trivial⟩
          rw [hk', hch, List.drop_zero]
        | succ c ihc =>
          intro hcl gf' hlo hk'
          obtain ⟨cc, hcc, edc⟩ := drop_at (L := o.1) (i := c) (by omega)
          rw [nI_pred]
          have hcond : chFL o (bTL o (o.2.1.drop (k + 1))) v r S c (o.1.drop c) = if S.testBit c = false ∧ fitO o r cc = true ∧ gL o r cc + bTL o (o.2.1.drop (k + 1)) (S ||| 2 ^ c) = v then some c else chFL o (bTL o (o.2.1.drop (k + 1))) v r S (c + 1) (o.1.drop (c + 1)) := by rw [edc, chFL_c]
          have store : ∀ x8 : Int32, ∀ x9 : Int32, ∀ y : Int32, y = plI (chFL o (bTL o (o.2.1.drop (k + 1))) v r S c (o.1.drop c)) → V l E mX15_colours 4 P 133 [(0, .ref a), (1, .ref G.2.1), (2, .int (nI S)), (3, .long v), (5, .int (nI k)), (6, .ref G1.2.1), (7, .int (nI c)), (8, .int x8), (9, .int x9)] [.int y, .int (nI k), .ref G.2.1] (g_up (g_new G1 (g_al E (2 ^ o.1.length) f) (2 ^ o.1.length)) G.2.1 (g_ai E o.2.1.length gf')) := by
            intro x8 x9 y hy
            refine V_iastore g_up_at (by first | assumption | omega | (simp only [g_new, g_up]; omega) | (simp only [g_new, g_up, g_B] at *; omega)) (by first | assumption | exact g_in (by decide)) q388 dX15_colours_133 ?_
            refine V_iinc dX15_colours_134 rfl (by decide) ?_
            refine V_goto 49 dX15_colours_137 (by decide) ?_
            rw [nI_clamp (by omega), g_up_up]
            refine V_subk (ihc (by omega) (upd gf' k y) (fun i hi => ?_) ?_) ⟨rfl, rfl, rfl, rfl, rfl, rfl, ?_, trivial⟩
            · rw [pk_un (by omega)]
              exact hlo i hi
            · rw [pk_us]
              exact hy
            · rw [← nI_dec]; rfl
          have best : ∀ (x8 : Int32) (b : Bool), b = decide (S.testBit c = false ∧ fitO o r cc = true ∧ gL o r cc + bTL o (o.2.1.drop (k + 1)) (S ||| 2 ^ c) = v) → V l E mX15_colours 4 P 114 [(0, .ref a), (1, .ref G.2.1), (2, .int (nI S)), (3, .long v), (5, .int (nI k)), (6, .ref G1.2.1), (7, .int (nI c)), (8, .int x8)] [.int (b2i b)] (g_up (g_new G1 (g_al E (2 ^ o.1.length) f) (2 ^ o.1.length)) G.2.1 (g_ai E o.2.1.length gf')) := by
            intro x8 b hb
            cases b with
            | true =>
              refine V_istore dX15_colours_114 (by decide) ?_
              refine V_aload_n dX15_colours_116 rfl (Or.inl ⟨_, rfl⟩) ?_
              refine V_iload dX15_colours_117 rfl ?_
              refine V_iload dX15_colours_119 rfl ?_
              refine V_if_eq 129 dX15_colours_121 (by decide) (fun c121 => absurd c121 (by decide)) (fun _ => ?_)
              refine V_iload dX15_colours_124 rfl ?_
              refine V_goto 133 dX15_colours_126 (by decide) ?_
              refine V_subk (store x8 1 (nI c) ?_) ⟨rfl, rfl, rfl, rfl, rfl, rfl, rfl, rfl, rfl, trivial⟩
              rw [hcond, if_pos (of_decide_eq_true hb.symm)]
              rfl
            | false =>
              refine V_istore dX15_colours_114 (by decide) ?_
              refine V_aload_n dX15_colours_116 rfl (Or.inl ⟨_, rfl⟩) ?_
              refine V_iload dX15_colours_117 rfl ?_
              refine V_iload dX15_colours_119 rfl ?_
              refine V_if_eq 129 dX15_colours_121 (by decide) (fun _ => ?_) (fun c121 => absurd rfl c121)
              refine V_aload_n dX15_colours_129 rfl (Or.inl ⟨_, rfl⟩) ?_
              refine V_iload dX15_colours_130 rfl ?_
              refine V_iaload g_up_at (by first | assumption | exact g_in (by decide)) q388 dX15_colours_132 ?_
              refine V_subk (store x8 0 _ ?_) ⟨rfl, rfl, rfl, rfl, rfl, rfl, rfl, rfl, rfl, trivial⟩
              rw [hcond, if_neg (of_decide_eq_false hb.symm), nI_clamp (by omega)]
              exact hk'
          have can : ∀ b : Bool, b = decide (S.testBit c = false ∧ fitO o r cc = true) → V l E mX15_colours 4 P 79 [(0, .ref a), (1, .ref G.2.1), (2, .int (nI S)), (3, .long v), (5, .int (nI k)), (6, .ref G1.2.1), (7, .int (nI c))] [.int (b2i b)] (g_up (g_new G1 (g_al E (2 ^ o.1.length) f) (2 ^ o.1.length)) G.2.1 (g_ai E o.2.1.length gf')) := by
            intro b hb
            cases b with
            | false =>
              have hn := of_decide_eq_false hb.symm
              refine V_istore dX15_colours_79 (by decide) ?_
              refine V_iload dX15_colours_81 rfl ?_
              refine V_if_eq 113 dX15_colours_83 (by decide) (fun _ => ?_) (fun c83 => absurd rfl c83)
              refine V_iconstv 0 dX15_colours_113 (by decide) ?_
              exact V_subk (best 0 false (decide_eq_false (fun q => hn ⟨q.1, q.2.1⟩)).symm) ⟨rfl, rfl, rfl, rfl, rfl, rfl, rfl, rfl, trivial⟩
            | true =>
              obtain ⟨hbit, hfit⟩ := of_decide_eq_true hb.symm
              have hq : S ||| 2 ^ c < 2 ^ o.1.length := sb_set hS (by omega)
              have hin : vp_in (nI (S ||| 2 ^ c)) (2 ^ o.1.length) := vp_in_nI hq (by omega)
              refine V_istore dX15_colours_79 (by decide) ?_
              refine V_iload dX15_colours_81 rfl ?_
              refine V_if_eq 113 dX15_colours_83 (by decide) (fun c83 => absurd c83 (by decide)) (fun _ => ?_)
              refine V_aload_n dX15_colours_86 rfl (Or.inl ⟨_, rfl⟩) ?_
              refine V_iload dX15_colours_87 rfl ?_
              refine V_iload dX15_colours_89 rfl ?_
              refine V_callV (q := (RX15, TX15, 4)) kX15_worth q1464 q1466 qs18 (h1W _) rfl dX15_colours_91 ?_ (d' := 0) (as := [_, _]) (hst := rfl)
              refine (st_worth (k := k) (j := c) (kset (kW gf')) hC hR rfl rfl hr hcc hfit ?_)
              refine V_aload dX15_colours_94 rfl (Or.inl ⟨_, rfl⟩) ?_
              refine V_iload_n dX15_colours_96 rfl ?_
              refine V_iconstv 1 dX15_colours_97 (by decide) ?_
              refine V_iload dX15_colours_98 rfl ?_
              refine V_ishl dX15_colours_100 ?_
              rw [sb_shl c (by omega)]
              refine V_ior dX15_colours_101 ?_
              rw [nx_or]
              refine V_laload (hwW _) (by first | assumption | exact g_in (by decide)) q1564 dX15_colours_102 ?_
              rw [nI_clamp (by omega), hfm _ hq]
              refine V_ladd dX15_colours_103 ?_
              refine V_lload_n dX15_colours_104 rfl ?_
              refine V_lcmp dX15_colours_105 ?_
              refine V_if_ne 113 dX15_colours_106 (by decide) (fun c106 => ?_) (fun c106 => ?_)
              · refine V_iconstv 0 dX15_colours_113 (by decide) ?_
                exact V_subk (best 1 false (decide_eq_false (fun q => c106 ((lg_cmp_eq _ _).mpr q.2.2))).symm) ⟨rfl, rfl, rfl, rfl, rfl, rfl, rfl, rfl, trivial⟩
              · refine V_iconstv 1 dX15_colours_109 (by decide) ?_
                refine V_goto 114 dX15_colours_110 (by decide) ?_
                exact V_subk (best 1 true (decide_eq_true ⟨hbit, hfit, (lg_cmp_eq _ _).mp c106⟩).symm) ⟨rfl, rfl, rfl, rfl, rfl, rfl, rfl, rfl, trivial⟩
          refine V_iload dX15_colours_49 rfl ?_
          refine V_if_lt 140 dX15_colours_51 (by decide) (fun c51 => absurd c51 (nI_pos (by omega))) (fun _ => ?_)
          refine V_iload_n dX15_colours_54 rfl ?_
          refine V_iload dX15_colours_55 rfl ?_
          refine V_ishr dX15_colours_57 ?_
          refine V_iconstv 1 dX15_colours_58 (by decide) ?_
          refine V_iand dX15_colours_59 ?_
          rw [sb_bit S hS10 c (by omega)]
          cases hbit : S.testBit c with
          | true =>
            refine V_if_ne 78 dX15_colours_60 (by decide) (fun _ => ?_) (fun c60 => absurd c60 (by decide))
            refine V_iconstv 0 dX15_colours_78 (by decide) ?_
            exact V_subk (can false (by rw [hbit]; rfl)) ⟨rfl, rfl, rfl, rfl, rfl, rfl, rfl, trivial⟩
          | false =>
            refine V_if_ne 78 dX15_colours_60 (by decide) (fun c60 => absurd c60 (fun q => q rfl)) (fun _ => ?_)
            refine V_aload_n dX15_colours_63 rfl (Or.inl ⟨_, rfl⟩) ?_
            refine V_iload dX15_colours_64 rfl ?_
            refine V_iload dX15_colours_66 rfl ?_
            refine V_callV (q := (RX15, TX15, 4)) kX15_fits q1460 q1462 qs17 (h1W _) rfl dX15_colours_68 ?_ (d' := 0) (as := [_, _]) (hst := rfl)
            refine (st_fits (k := k) (j := c) (kset (kW gf')) hC hR hD rfl rfl hr hcc ?_)
            refine V_if_eq 78 dX15_colours_71 (by decide) (fun c71 => ?_) (fun c71 => ?_)
            · refine V_iconstv 0 dX15_colours_78 (by decide) ?_
              exact V_subk (can false (decide_eq_false (fun q => by rw [b2i_f c71] at q; cases q.2)).symm) ⟨rfl, rfl, rfl, rfl, rfl, rfl, rfl, trivial⟩
            · refine V_iconstv 1 dX15_colours_74 (by decide) ?_
              refine V_goto 79 dX15_colours_75 (by decide) ?_
              exact V_subk (can true (decide_eq_true ⟨hbit, b2i_t c71⟩).symm) ⟨rfl, rfl, rfl, rfl, rfl, rfl, rfl, trivial⟩
      refine V_aload_n dX15_colours_36 rfl (Or.inl ⟨_, rfl⟩) ?_
      refine V_iload dX15_colours_37 rfl ?_
      refine V_iconstv (-1) dX15_colours_39 (by decide) ?_
      refine V_iastore (g_new_of hgl e6) (by first | assumption | omega | (simp only [g_new, g_up]; omega) | (simp only [g_new, g_up, g_B] at *; omega)) (by first | assumption | exact g_in (by decide)) q388 dX15_colours_40 ?_
      refine V_aload_n dX15_colours_41 rfl (Or.inl ⟨_, rfl⟩) ?_
      refine V_get ckX15 (h1W _) 1 (by decide) q1432 rfl (by rfl) dX15_colours_42 ?_
      refine V_iconstv 1 dX15_colours_45 (by decide) ?_
      refine V_isub dX15_colours_46 ?_
      refine V_istore dX15_colours_47 (by decide) ?_
      rw [nI_clamp (by omega)]
      refine V_subk (inner o.1.length (Nat.le_refl _) (upd gf k (-1)) (fun i hi => ?_) ?_) ⟨rfl, rfl, rfl, rfl, rfl, rfl, rfl, trivial⟩
      · rw [pk_un (by omega)]
        exact e7 i hi
      · rw [pk_us, List.drop_length]
        rfl
  refine V_aload_n dX15_colours_0 rfl (Or.inl ⟨_, rfl⟩) ?_
  refine V_get ckX15 (by first | assumption | (repeat (first | exact g_up_at | exact g_new_at rfl | assumption | refine g_up_of (by first | assumption | (simp only [g_new, g_up]; omega) | omega) ?_ | refine g_new_of (by first | assumption | (simp only [g_new, g_up]; omega) | omega) ?_))) 0 (by decide) q1431 rfl (by rfl) dX15_colours_1 ?_
  refine V_newarray_int o.2.1.length rfl (by omega) q388 dX15_colours_4 (by first | omega | (simp only [g_new, g_up]; omega)) (by first | omega | (simp only [g_new, g_up]; omega)) ?_
  refine V_astore_n dX15_colours_6 (Or.inl ⟨_, rfl⟩) (by decide) ?_
  refine V_iconstv 0 dX15_colours_7 (by decide) ?_
  refine V_istore_n dX15_colours_8 (by decide) ?_
  refine V_aload_n dX15_colours_9 rfl (Or.inl ⟨_, rfl⟩) ?_
  refine V_callV (q := (RX15, TX15, 4)) kX15_best q1448 q1449 q1450 (g_new_of (wf.ne h1) h1) rfl dX15_colours_10 ?_ (d' := 3) (as := []) (hst := rfl)
  refine (st_best (h0.keep (g_ke.new wf _ _)) hC hR hD ⟨by simp only [g_new]; omega, by simp only [g_new]; omega⟩ (fun G1 m => ?_))
  refine V_lstore_n dX15_colours_13 (by decide) ?_
  refine V_iconstv 0 dX15_colours_14 (by decide) ?_
  refine V_istore dX15_colours_15 (by decide) ?_
  obtain ⟨m1, m2, m3, m4, m5⟩ := m
  simp only [g_new] at m2 m3 m4 m5
  exact V_subk (outer 0 (Nat.zero_le _) G1 (fun _ => 0) ((g_ke.new wf _ _).trans m1) (by omega) (by omega) (by omega) (by omega) (m1 _ _ trivial (g_new_at rfl)) (fun i hi => absurd hi (Nat.not_lt_zero _))) ⟨rfl, rfl, rfl, rfl, rfl, trivial⟩
end COLS
