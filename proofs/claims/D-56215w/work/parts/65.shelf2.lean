/-! MODULE Shelf, its copy -/
set_option maxRecDepth 100000
section SHELF2
variable {l : Launch} {E : g_E} {P : Outcome → g_G → Prop} {G : g_G}
theorem FsAt.push {A : Nat → Prop} {n a : Nat} {as : List Nat} {L : List Rw} {r : Rw} (h : FsAt E A n G as L) (ha : FndAt E A n G a r) (hn : a ∉ as) : FsAt E A n G (as ++ [a]) (L ++ [r]) := by
  refine ⟨by rw [List.length_append, List.length_append, h.1]; rfl, List.nodup_append.mpr ⟨h.2.1, List.pairwise_singleton _ _, ?_⟩, fun k b q hb hq => ?_⟩
  · intro x hx y hy e
    rw [List.mem_singleton] at hy
    subst hy
    subst e
    exact hn hx
  · rcases at_push hb with e | ⟨e1, e2⟩
    · rcases at_push hq with e' | ⟨e1', e2'⟩
      · exact h.2.2 k b q e e'
      · have := lt_of_at e
        have := h.1
        omega
    · rcases at_push hq with e' | ⟨e1', e2'⟩
      · have := lt_of_at e'
        have := h.1
        omega
      · subst e2
        subst e2'
        exact ha
theorem take_push {α : Type} {L : List α} {k : Nat} {r : α} (h : L[k]? = some r) : L.take (k + 1) = L.take k ++ [r] := by
  rw [List.take_succ, h]
  rfl
theorem shf_copy {A : Nat → Prop} {n s : Nat} {L : List Rw} (h : ShfAt E A n G s L) (hA : ∀ q, G.2.1 ≤ q → A q) (hf : g_fit E G 13 54) (kk : ∀ G' s' pa' fs', g_mod g_all G G' 13 54 → ShfS E A G.2.1 G' s' pa' fs' → FsAt E A G.2.1 G' fs' L → P (.returned (some (.ref s'))) G') : g_Spc l E mX3_copy 3 [.ref s] G P := by
  obtain ⟨pa, as, hS, hF⟩ := h
  have hS0 := hS
  obtain ⟨-, -, -, -, hsc, hs10, f0, hf0, -⟩ := hS0
  have hlen := hF.1
  obtain ⟨hf1, hf2⟩ := hf
  refine V_intro (plainFor_of_name plX3) (Nat.le_of_ble_eq_true rfl) ?_
  refine V_wf (fun wf hBG => ?_)
  have hsl := wf _ _ hsc
  have hpl := wf _ _ hf0
  have loop : ∀ i, i ≤ L.length → ∀ (G1 : g_G) (fs : List Nat), fs.length = i → g_ke (fun q => q < G.2.1) G G1 → G1.2.1 = G.2.1 + 3 + i → G1.2.2 = G.2.2 + 14 + 4 * i → G1.1 (G.2.1 + 2) = some (g_ob 5 [.int (nI i), .ref s]) → ShfS E A G.2.1 G1 G.2.1 (G.2.1 + 1) fs → FsAt E A G.2.1 G1 fs (L.take i) → V l E mX3_copy 3 P 13 [(0, .ref s), (1, .ref G.2.1), (2, .ref (G.2.1 + 2))] [] G1 := by
    refine down _ ?_ ?_
    · intro G1 fs e1 e2 e3 e4 e5 e6 e7
      rw [List.take_length] at e7
      refine V_aload_n dX3_copy_13 rfl (Or.inl ⟨_, rfl⟩) ?_
      refine V_callF (q := (RX6, TX6, 2)) (x := ⟨"java/util/Iterator", "hasNext", "()Z"⟩) kX6_hasNext q390 ⟨by decide +kernel, by decide +kernel⟩ q392 q391 q397 q395 q393 (by decide +kernel) q396 q394 e5 rfl dX3_copy_14 ?_ (d' := 0) (as := []) (hst := rfl)
      refine (wlk_hasNext e5 (e2 _ _ hsl hsc) (by omega) hs10 ?_)
      rw [decide_eq_false (show ¬ L.length < as.length by omega)]
      refine V_if_eq 43 dX3_copy_19 (by decide) (fun _ => ?_) (fun c19 => absurd rfl c19)
      refine V_aload_n dX3_copy_43 rfl (Or.inl ⟨_, rfl⟩) ?_
      refine V_areturnO dX3_copy_44 rfl ?_
      exact kk _ _ _ _ ⟨g_ke.low wf e2, by omega, by omega, by omega, by omega⟩ e6 e7
    · intro i hi ih G1 fs e1 e2 e3 e4 e5 e6 e7
      obtain ⟨r, hr, -⟩ := drop_at hi
      obtain ⟨a, ha, -, -, ta, hac, htt⟩ := hF.at hr
      have hal := wf _ _ hac
      have hS1 : ShfS E A n G1 s pa as := hS.ke2 e2 hsl hpl
      refine V_wf (fun wf1 hBG1 => ?_)
      refine V_aload_n dX3_copy_13 rfl (Or.inl ⟨_, rfl⟩) ?_
      refine V_callF (q := (RX6, TX6, 2)) (x := ⟨"java/util/Iterator", "hasNext", "()Z"⟩) kX6_hasNext q390 ⟨by decide +kernel, by decide +kernel⟩ q392 q391 q397 q395 q393 (by decide +kernel) q396 q394 e5 rfl dX3_copy_14 ?_ (d' := 0) (as := []) (hst := rfl)
      refine (wlk_hasNext e5 (e2 _ _ hsl hsc) (by omega) hs10 ?_)
      rw [decide_eq_true (show i < as.length by omega)]
      have k1 : g_ke (fun q => q ≠ G.2.1 + 2) G1 (g_up G1 (G.2.1 + 2) (g_ob 5 [.int (nI (i + 1)), .ref s])) := g_ke.up (fun q => q rfl) _
      have wf2 : g_wf (g_up G1 (G.2.1 + 2) (g_ob 5 [.int (nI (i + 1)), .ref s])) := wf1.up e5 _
      have k2 : g_ke (fun q => q ≠ G.2.1 + 2) G1 (g_new (g_up G1 (G.2.1 + 2) (g_ob 5 [.int (nI (i + 1)), .ref s])) (g_ob 6 [.int r.1, .int r.2.2.1, .ref ta, .int r.2.2.2]) 4) := k1.trans (g_ke.new wf2 _ _)
      have hs3 : ShfS E A G.2.1 (g_new (g_up G1 (G.2.1 + 2) (g_ob 5 [.int (nI (i + 1)), .ref s])) (g_ob 6 [.int r.1, .int r.2.2.1, .ref ta, .int r.2.2.2]) 4) G.2.1 (G.2.1 + 1) fs := e6.ke2 k2 (by omega) (by omega)
      refine V_if_eq 43 dX3_copy_19 (by decide) (fun c19 => absurd c19 (by decide)) (fun _ => ?_)
      refine V_aload_n dX3_copy_22 rfl (Or.inl ⟨_, rfl⟩) ?_
      refine V_callF (q := (RX6, TX6, 2)) (x := ⟨"java/util/Iterator", "next", "()Ljava/lang/Object;"⟩) kX6_next q400 ⟨by decide +kernel, by decide +kernel⟩ q402 q401 q406 q404 q393 (by decide +kernel) q405 q403 e5 rfl dX3_copy_23 ?_ (d' := 2) (as := []) (hst := rfl)
      refine (wlk_next (by omega) e5 hS1 ha ?_)
      refine V_castS (q := (RX7, TX7, 4)) (g_up_of (by omega) (e2 _ _ hal hac)) rfl q184 dX3_copy_28 ?_
      refine V_astore_n dX3_copy_31 (Or.inl ⟨_, rfl⟩) (by decide) ?_
      refine V_aload_n dX3_copy_32 rfl (Or.inl ⟨_, rfl⟩) ?_
      refine V_aload_n dX3_copy_33 rfl (Or.inl ⟨_, rfl⟩) ?_
      refine V_callV (q := (RX7, TX7, 4)) kX7_copy q485 q486 q487 (g_up_of (by omega) (e2 _ _ hal hac)) rfl dX3_copy_34 ?_ (d' := 2) (as := []) (hst := rfl)
      refine (fnd_copy (g_up_of (by omega) (e2 _ _ hal hac)) ⟨by simp only [g_up]; omega, by simp only [g_up]; omega⟩ ?_)
      refine V_callV (q := (RX3, TX3, 2)) kX3_add q521 q522 q523 hs3.2.2.2.2.1 rfl dX3_copy_37 ?_ (d' := 0) (as := [_]) (hst := rfl)
      refine (shf_add hs3 hBG (by omega) (g_new_at rfl) (fun G2 s1 s2 s3 => ?_))
      have hz1 : G2.2.1 = G1.2.1 + 1 := by rw [s1]; rfl
      have hz2 : G2.2.2 = G1.2.2 + 4 := by rw [s1]; rfl
      refine V_goto 13 dX3_copy_40 (by decide) ?_
      have nF : ∀ q x, G1.1 q = some x → isF x = true → q ≠ G.2.1 + 2 := fun q x hx hi e => by
        subst e
        rw [e5] at hx
        cases hx
        cases (show false = true from hi)
      have kT : g_ke (fun q => q < G.2.1) G G2 := fun q x hq hx => s2 q x ⟨by omega, by omega⟩ (k2 q x (by omega) (e2 q x hq hx))
      refine V_subk (ih G2 (fs ++ [G1.2.1]) (by rw [List.length_append, e1]; rfl) kT (by omega) (by omega) ?_ s3 ?_) ⟨rfl, rfl, rfl, trivial⟩
      · exact s2 _ _ ⟨by omega, by omega⟩ (g_new_of (by simp only [g_up]; omega) g_up_at)
      · rw [take_push hr]
        refine FsAt.push ((e7.ke3 k2 nF).ke3 s2 (fun q x hx hi => hs3.no hx hi)) ⟨by omega, hA _ (by omega), ta, ?_, ?_⟩ ?_
        · exact s2 _ _ ⟨by omega, by omega⟩ (g_new_at rfl)
        · exact htt.ke2 kT (fun q x hx _ => wf _ _ hx)
        · intro hm
          obtain ⟨k, hk⟩ := List.mem_iff_getElem?.mp hm
          have hkl := lt_of_at hk
          have hkl2 : k < (L.take i).length := by rw [← e7.1]; exact hkl
          obtain ⟨-, -, tb, hb, -⟩ := e7.2.2 k _ _ hk (List.getElem?_eq_getElem hkl2)
          exact absurd (wf1 _ _ hb) (Nat.lt_irrefl _)
  have wfa := wf.new (g_ob 2 [.null, .int 0]) 2
  refine V_new ckX3 q369 dX3_copy_0 (by first | omega | (simp only [g_new, g_up]; omega)) (by first | omega | (simp only [g_new, g_up]; omega)) ?_
  refine V_dup dX3_copy_3 rfl ?_
  refine V_callI kX3_init rfl rfl q370 q181 dX3_copy_4 ?_ (d' := 1) (as := []) (hst := rfl)
  refine (shf_init (g_new_at rfl) hBG ⟨by simp only [g_new]; omega, by simp only [g_new]; omega⟩ ?_)
  refine V_astore_n dX3_copy_7 (Or.inl ⟨_, rfl⟩) (by decide) ?_
  refine V_aload_n dX3_copy_8 rfl (Or.inl ⟨_, rfl⟩) ?_
  refine V_callV (q := (RX3, TX3, 2)) kX3_iterator q371 q372 q373 (show _ = some (g_ob 2 [.ref pa, .int (nI as.length)]) from g_up_of (by omega) (g_new_of (by simp only [g_new]; omega) (g_new_of (by omega) hsc))) rfl dX3_copy_9 ?_ (d' := 2) (as := []) (hst := rfl)
  refine (shf_iterator (show _ = some (g_ob 2 [.ref pa, .int (nI as.length)]) from g_up_of (by omega) (g_new_of (by simp only [g_new]; omega) (g_new_of (by omega) hsc))) ⟨by simp only [g_new, g_up]; omega, by simp only [g_new, g_up]; omega⟩ ?_)
  refine V_astore_n dX3_copy_12 (Or.inl ⟨_, rfl⟩) (by decide) ?_
  refine V_subk (loop 0 (Nat.zero_le _) _ [] rfl ?_ rfl rfl (g_new_at rfl) ⟨Nat.le_refl _, Nat.le_succ _, hA _ (Nat.le_refl _), hA _ (Nat.le_succ _), ?_, Nat.zero_le _, fun _ => none, ?_, fun k a hk => by simp at hk⟩ ⟨rfl, List.nodup_nil, fun k a r hk => by simp at hk⟩) ⟨rfl, rfl, rfl, trivial⟩
  · intro q x hq hx
    have hq' : q < G.2.1 := hq
    exact g_new_of (by simp only [g_new, g_up]; omega) (g_up_of (by omega) (g_new_of (by simp only [g_new]; omega) (g_new_of (by omega) hx)))
  · exact g_new_of (by simp only [g_new, g_up]; omega) g_up_at
  · exact g_new_of (by simp only [g_new, g_up]; omega) (g_up_of (by omega) (g_new_at rfl))
end SHELF2
