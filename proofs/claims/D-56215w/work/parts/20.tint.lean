/-! MODULE Tint -/
set_option maxRecDepth 100000
section TINT
variable {l : Launch} {E : g_E} {P : Outcome → g_G → Prop} {G : g_G}
/-! Tint: three parts -/
abbrev Tn : Type := Int32 × Int32 × Int32
def tn_at (t : Tn) (k : Nat) : Int32 := if k = 0 then t.1 else if k = 1 then t.2.1 else t.2.2
def TintAt (E : g_E) (A : Nat → Prop) (G : g_G) (a : Nat) (t : Tn) : Prop :=
  A a ∧ ∃ (pa : Nat) (f : Nat → Int32), A pa ∧ G.1 a = some (g_ob 9 [.ref pa]) ∧ G.1 pa = some (g_ai E 3 f) ∧ ∀ k, k < 3 → f k = tn_at t k
theorem TintAt.keep {A : Nat → Prop} {G' : g_G} {a : Nat} {t : Tn} (h : TintAt E A G a t) (hk : g_ke A G G') : TintAt E A G' a t := by
  obtain ⟨h1, pa, f, h2, h3, h4, h5⟩ := h
  exact ⟨h1, pa, f, h2, hk _ _ h1 h3, hk _ _ h2 h4, h5⟩
theorem TintAt.mono {A B : Nat → Prop} {a : Nat} {t : Tn} (h : TintAt E A G a t) (hb : ∀ a, A a → B a) : TintAt E B G a t := by
  obtain ⟨h1, pa, f, h2, h3⟩ := h
  exact ⟨hb _ h1, pa, f, hb _ h2, h3⟩
theorem tint_part {A : Nat → Prop} {a k : Nat} {t : Tn} {x : Int32} (h : TintAt E A G a t) (hx : x = nI k) (hk : k < 3) (kk : P (.returned (some (.int (tn_at t k)))) G) : g_Spc l E mX11_part 0 [.ref a, .int x] G P := by
  obtain ⟨-, pa, f, -, h1, h2, h3⟩ := h
  subst hx
  have hin : vp_in (nI k) 3 := vp_in_nI hk (by decide)
  refine V_intro (plainFor_of_name plX11) (Nat.le_of_ble_eq_true rfl) ?_
  refine V_aload_n dX11_part_0 rfl (Or.inl ⟨_, rfl⟩) ?_
  refine V_get ckX11 (by first | assumption | (repeat (first | exact g_up_at | exact g_new_at rfl | assumption | refine g_up_of (by first | assumption | (simp only [g_new, g_up]; omega) | omega) ?_ | refine g_new_of (by first | assumption | (simp only [g_new, g_up]; omega) | omega) ?_))) 0 (by decide) q1083 rfl (by rfl) dX11_part_1 ?_
  refine V_iload_n dX11_part_4 rfl ?_
  refine V_iaload (by first | assumption | (repeat (first | exact g_up_at | exact g_new_at rfl | assumption | refine g_up_of (by first | assumption | (simp only [g_new, g_up]; omega) | omega) ?_ | refine g_new_of (by first | assumption | (simp only [g_new, g_up]; omega) | omega) ?_))) (by first | assumption | exact g_in (by decide)) q388 dX11_part_5 ?_
  refine V_ireturn dX11_part_6 rfl ?_
  rw [nI_clamp (by omega), h3 k hk]
  exact kk
theorem tint_sum {A : Nat → Prop} {a : Nat} {t : Tn} (h : TintAt E A G a t) (kk : P (.returned (some (.int (t.1 + t.2.1 + t.2.2)))) G) : g_Spc l E mX11_sum 0 [.ref a] G P := by
  obtain ⟨-, pa, f, -, h1, h2, h3⟩ := h
  have e0 : f (0 : Int32).toNatClampNeg = t.1 := h3 0 (by decide)
  have e1 : f (1 : Int32).toNatClampNeg = t.2.1 := h3 1 (by decide)
  have e2 : f (2 : Int32).toNatClampNeg = t.2.2 := h3 2 (by decide)
  refine V_intro (plainFor_of_name plX11) (Nat.le_of_ble_eq_true rfl) ?_
  refine V_aload_n dX11_sum_0 rfl (Or.inl ⟨_, rfl⟩) ?_
  refine V_get ckX11 (by first | assumption | (repeat (first | exact g_up_at | exact g_new_at rfl | assumption | refine g_up_of (by first | assumption | (simp only [g_new, g_up]; omega) | omega) ?_ | refine g_new_of (by first | assumption | (simp only [g_new, g_up]; omega) | omega) ?_))) 0 (by decide) q1083 rfl (by rfl) dX11_sum_1 ?_
  refine V_iconstv 0 dX11_sum_4 (by decide) ?_
  refine V_iaload (by first | assumption | (repeat (first | exact g_up_at | exact g_new_at rfl | assumption | refine g_up_of (by first | assumption | (simp only [g_new, g_up]; omega) | omega) ?_ | refine g_new_of (by first | assumption | (simp only [g_new, g_up]; omega) | omega) ?_))) (g_in (by decide)) q388 dX11_sum_5 ?_
  refine V_aload_n dX11_sum_6 rfl (Or.inl ⟨_, rfl⟩) ?_
  refine V_get ckX11 (by first | assumption | (repeat (first | exact g_up_at | exact g_new_at rfl | assumption | refine g_up_of (by first | assumption | (simp only [g_new, g_up]; omega) | omega) ?_ | refine g_new_of (by first | assumption | (simp only [g_new, g_up]; omega) | omega) ?_))) 0 (by decide) q1083 rfl (by rfl) dX11_sum_7 ?_
  refine V_iconstv 1 dX11_sum_10 (by decide) ?_
  refine V_iaload (by first | assumption | (repeat (first | exact g_up_at | exact g_new_at rfl | assumption | refine g_up_of (by first | assumption | (simp only [g_new, g_up]; omega) | omega) ?_ | refine g_new_of (by first | assumption | (simp only [g_new, g_up]; omega) | omega) ?_))) (g_in (by decide)) q388 dX11_sum_11 ?_
  refine V_iadd dX11_sum_12 ?_
  refine V_aload_n dX11_sum_13 rfl (Or.inl ⟨_, rfl⟩) ?_
  refine V_get ckX11 (by first | assumption | (repeat (first | exact g_up_at | exact g_new_at rfl | assumption | refine g_up_of (by first | assumption | (simp only [g_new, g_up]; omega) | omega) ?_ | refine g_new_of (by first | assumption | (simp only [g_new, g_up]; omega) | omega) ?_))) 0 (by decide) q1083 rfl (by rfl) dX11_sum_14 ?_
  refine V_iconstv 2 dX11_sum_17 (by decide) ?_
  refine V_iaload (by first | assumption | (repeat (first | exact g_up_at | exact g_new_at rfl | assumption | refine g_up_of (by first | assumption | (simp only [g_new, g_up]; omega) | omega) ?_ | refine g_new_of (by first | assumption | (simp only [g_new, g_up]; omega) | omega) ?_))) (g_in (by decide)) q388 dX11_sum_18 ?_
  refine V_iadd dX11_sum_19 ?_
  refine V_ireturn dX11_sum_20 rfl ?_
  rw [e0, e1, e2]
  exact kk
theorem tint_difference {A : Nat → Prop} {a b k : Nat} {t u : Tn} {x : Int32} (h : TintAt E A G a t) (g : TintAt E A G b u) (hx : x = nI k) (hk : k < 3) (kk : P (.returned (some (.int (i_abs (tn_at t k - tn_at u k))))) G) : g_Spc l E mX11_difference 1 [.ref a, .ref b, .int x] G P := by
  obtain ⟨-, pa, f, -, h1, h2, h3⟩ := h
  obtain ⟨-, pb, f', -, g1, g2, g3⟩ := g
  subst hx
  have hin : vp_in (nI k) 3 := vp_in_nI hk (by decide)
  refine V_intro (plainFor_of_name plX11) (Nat.le_of_ble_eq_true rfl) ?_
  refine V_aload_n dX11_difference_0 rfl (Or.inl ⟨_, rfl⟩) ?_
  refine V_get ckX11 (by first | assumption | (repeat (first | exact g_up_at | exact g_new_at rfl | assumption | refine g_up_of (by first | assumption | (simp only [g_new, g_up]; omega) | omega) ?_ | refine g_new_of (by first | assumption | (simp only [g_new, g_up]; omega) | omega) ?_))) 0 (by decide) q1083 rfl (by rfl) dX11_difference_1 ?_
  refine V_iload_n dX11_difference_4 rfl ?_
  refine V_iaload (by first | assumption | (repeat (first | exact g_up_at | exact g_new_at rfl | assumption | refine g_up_of (by first | assumption | (simp only [g_new, g_up]; omega) | omega) ?_ | refine g_new_of (by first | assumption | (simp only [g_new, g_up]; omega) | omega) ?_))) (by first | assumption | exact g_in (by decide)) q388 dX11_difference_5 ?_
  refine V_aload_n dX11_difference_6 rfl (Or.inl ⟨_, rfl⟩) ?_
  refine V_get ckX11 (by first | assumption | (repeat (first | exact g_up_at | exact g_new_at rfl | assumption | refine g_up_of (by first | assumption | (simp only [g_new, g_up]; omega) | omega) ?_ | refine g_new_of (by first | assumption | (simp only [g_new, g_up]; omega) | omega) ?_))) 0 (by decide) q1083 rfl (by rfl) dX11_difference_7 ?_
  refine V_iload_n dX11_difference_10 rfl ?_
  refine V_iaload (by first | assumption | (repeat (first | exact g_up_at | exact g_new_at rfl | assumption | refine g_up_of (by first | assumption | (simp only [g_new, g_up]; omega) | omega) ?_ | refine g_new_of (by first | assumption | (simp only [g_new, g_up]; omega) | omega) ?_))) (by first | assumption | exact g_in (by decide)) q388 dX11_difference_11 ?_
  refine V_isub dX11_difference_12 ?_
  refine V_callS kJ17_abs q1346 q1347 dX11_difference_13 ?_ (d' := 0) (as := [_]) (hst := rfl)
  refine (math_abs ?_)
  refine V_ireturn dX11_difference_16 rfl ?_
  rw [nI_clamp (by omega), h3 k hk, g3 k hk]
  exact kk
end TINT
