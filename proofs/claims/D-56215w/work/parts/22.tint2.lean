/-! MODULE Tint, what makes new ones -/
set_option maxRecDepth 100000
/-- kept in A, grown by so much at most -/
def g_mod (A : Nat → Prop) (G G' : g_G) (c s : Nat) : Prop := g_ke A G G' ∧ G.2.1 ≤ G'.2.1 ∧ G'.2.1 ≤ G.2.1 + c ∧ G.2.2 ≤ G'.2.2 ∧ G'.2.2 ≤ G.2.2 + s
def g_all : Nat → Prop := fun _ => True
def g_fit (E : g_E) (G : g_G) (c s : Nat) : Prop := G.2.1 + c ≤ g_capC E ∧ G.2.2 + s ≤ g_capS E
theorem g_mod.refl {A : Nat → Prop} {G : g_G} : g_mod A G G 0 0 := ⟨g_ke.refl, Nat.le_refl _, Nat.le_refl _, Nat.le_refl _, Nat.le_refl _⟩
theorem g_mod.trans {A : Nat → Prop} {G G1 G2 : g_G} {c s c1 s1 : Nat} (h : g_mod A G G1 c s) (h1 : g_mod A G1 G2 c1 s1) : g_mod A G G2 (c + c1) (s + s1) := by
  obtain ⟨a1, a2, a3, a4, a5⟩ := h
  obtain ⟨b1, b2, b3, b4, b5⟩ := h1
  exact ⟨a1.trans b1, by omega, by omega, by omega, by omega⟩
theorem g_mod.wide {A B : Nat → Prop} {G G' : g_G} {c s c1 s1 : Nat} (h : g_mod A G G' c s) (hb : ∀ a, B a → A a) (hc : c ≤ c1) (hs : s ≤ s1) : g_mod B G G' c1 s1 := by
  obtain ⟨a1, a2, a3, a4, a5⟩ := h
  exact ⟨a1.mono hb, by omega, by omega, by omega, by omega⟩
theorem g_fit.of {E : g_E} {A : Nat → Prop} {G G' : g_G} {c s c1 s1 c2 s2 : Nat} (h : g_fit E G c s) (m : g_mod A G G' c1 s1) (hc : c1 + c2 ≤ c) (hs : s1 + s2 ≤ s) : g_fit E G' c2 s2 := by
  obtain ⟨a1, a2, a3, a4, a5⟩ := m
  obtain ⟨b1, b2⟩ := h
  exact ⟨by omega, by omega⟩
section TINT2
variable {l : Launch} {E : g_E} {P : Outcome → g_G → Prop} {G : g_G}
theorem tint_init {a pa : Nat} (h : G.1 a = some (g_ob 9 [.null])) (hB : g_B E ≤ a) (k : P (.returned none) (g_up G a (g_ob 9 [.ref pa]))) : g_Spc l E mX11_init 1 [.ref a, .ref pa] G P := by
  refine V_intro (plainFor_of_name plX11) (Nat.le_of_ble_eq_true rfl) ?_
  refine V_aload_n dX11_init_0 rfl (Or.inl ⟨_, rfl⟩) ?_
  refine V_objInit q1082 q170 q171 dX11_init_1 (by decide) (by decide) ?_
  refine V_aload_n dX11_init_4 rfl (Or.inl ⟨_, rfl⟩) ?_
  refine V_aload_n dX11_init_5 rfl (Or.inl ⟨_, rfl⟩) ?_
  refine V_putF ckX11 (by first | assumption | (repeat (first | exact g_up_at | exact g_new_at rfl | assumption | refine g_up_of (by first | assumption | (simp only [g_new, g_up]; omega) | omega) ?_ | refine g_new_of (by first | assumption | (simp only [g_new, g_up]; omega) | omega) ?_))) (by first | assumption | omega | (simp only [g_new, g_up]; omega) | (simp only [g_new, g_up, g_B] at *; omega)) 0 (by decide) q1083 rfl rfl rfl rfl rfl rfl (Nat.le_of_ble_eq_true rfl) dX11_init_6 ?_
  refine V_return dX11_init_9 rfl ?_
  exact k
theorem tint_isGrey {A : Nat → Prop} {a : Nat} {t : Tn} (h : TintAt E A G a t) (kk : P (.returned (some (.int (b2i (decide (t = (50, 50, 50))))))) G) : g_Spc l E mX11_isGrey 0 [.ref a] G P := by
  obtain ⟨-, pa, f, -, h1, h2, h3⟩ := h
  have e0 : f (0 : Int32).toNatClampNeg = t.1 := h3 0 (by decide)
  have e1 : f (1 : Int32).toNatClampNeg = t.2.1 := h3 1 (by decide)
  have e2 : f (2 : Int32).toNatClampNeg = t.2.2 := h3 2 (by decide)
  obtain ⟨r, g, b⟩ := t
  dsimp only at e0 e1 e2
  refine V_intro (plainFor_of_name plX11) (Nat.le_of_ble_eq_true rfl) ?_
  refine V_aload_n dX11_isGrey_0 rfl (Or.inl ⟨_, rfl⟩) ?_
  refine V_get ckX11 (by first | assumption | (repeat (first | exact g_up_at | exact g_new_at rfl | assumption | refine g_up_of (by first | assumption | (simp only [g_new, g_up]; omega) | omega) ?_ | refine g_new_of (by first | assumption | (simp only [g_new, g_up]; omega) | omega) ?_))) 0 (by decide) q1083 rfl (by rfl) dX11_isGrey_1 ?_
  refine V_iconstv 0 dX11_isGrey_4 (by decide) ?_
  refine V_iaload (by first | assumption | (repeat (first | exact g_up_at | exact g_new_at rfl | assumption | refine g_up_of (by first | assumption | (simp only [g_new, g_up]; omega) | omega) ?_ | refine g_new_of (by first | assumption | (simp only [g_new, g_up]; omega) | omega) ?_))) (by first | assumption | exact g_in (by decide)) q388 dX11_isGrey_5 ?_
  refine V_bipushv 50 dX11_isGrey_6 (by decide) ?_
  refine V_icmp_ne 37 dX11_isGrey_8 (by decide) (fun c8 => ?_) (fun c8 => ?_)
  · refine V_iconstv 0 dX11_isGrey_37 (by decide) ?_
    refine V_zreturn dX11_isGrey_38 rfl rfl ?_
    rw [e0] at c8
    have e : decide ((r, g, b) = ((50, 50, 50) : Tn)) = false := decide_eq_false fun z => c8 (by injection z)
    rw [e] at kk
    exact kk
  · refine V_aload_n dX11_isGrey_11 rfl (Or.inl ⟨_, rfl⟩) ?_
    refine V_get ckX11 (by first | assumption | (repeat (first | exact g_up_at | exact g_new_at rfl | assumption | refine g_up_of (by first | assumption | (simp only [g_new, g_up]; omega) | omega) ?_ | refine g_new_of (by first | assumption | (simp only [g_new, g_up]; omega) | omega) ?_))) 0 (by decide) q1083 rfl (by rfl) dX11_isGrey_12 ?_
    refine V_iconstv 1 dX11_isGrey_15 (by decide) ?_
    refine V_iaload (by first | assumption | (repeat (first | exact g_up_at | exact g_new_at rfl | assumption | refine g_up_of (by first | assumption | (simp only [g_new, g_up]; omega) | omega) ?_ | refine g_new_of (by first | assumption | (simp only [g_new, g_up]; omega) | omega) ?_))) (by first | assumption | exact g_in (by decide)) q388 dX11_isGrey_16 ?_
    refine V_bipushv 50 dX11_isGrey_17 (by decide) ?_
    refine V_icmp_ne 37 dX11_isGrey_19 (by decide) (fun c19 => ?_) (fun c19 => ?_)
    · refine V_iconstv 0 dX11_isGrey_37 (by decide) ?_
      refine V_zreturn dX11_isGrey_38 rfl rfl ?_
      rw [e1] at c19
      have e : decide ((r, g, b) = ((50, 50, 50) : Tn)) = false := decide_eq_false fun z => c19 (by injection z with _ z; injection z)
      rw [e] at kk
      exact kk
    · refine V_aload_n dX11_isGrey_22 rfl (Or.inl ⟨_, rfl⟩) ?_
      refine V_get ckX11 (by first | assumption | (repeat (first | exact g_up_at | exact g_new_at rfl | assumption | refine g_up_of (by first | assumption | (simp only [g_new, g_up]; omega) | omega) ?_ | refine g_new_of (by first | assumption | (simp only [g_new, g_up]; omega) | omega) ?_))) 0 (by decide) q1083 rfl (by rfl) dX11_isGrey_23 ?_
      refine V_iconstv 2 dX11_isGrey_26 (by decide) ?_
      refine V_iaload (by first | assumption | (repeat (first | exact g_up_at | exact g_new_at rfl | assumption | refine g_up_of (by first | assumption | (simp only [g_new, g_up]; omega) | omega) ?_ | refine g_new_of (by first | assumption | (simp only [g_new, g_up]; omega) | omega) ?_))) (by first | assumption | exact g_in (by decide)) q388 dX11_isGrey_27 ?_
      refine V_bipushv 50 dX11_isGrey_28 (by decide) ?_
      refine V_icmp_ne 37 dX11_isGrey_30 (by decide) (fun c30 => ?_) (fun c30 => ?_)
      · refine V_iconstv 0 dX11_isGrey_37 (by decide) ?_
        refine V_zreturn dX11_isGrey_38 rfl rfl ?_
        rw [e2] at c30
        have e : decide ((r, g, b) = ((50, 50, 50) : Tn)) = false := decide_eq_false fun z => c30 (by injection z with _ z; injection z)
        rw [e] at kk
        exact kk
      · refine V_iconstv 1 dX11_isGrey_33 (by decide) ?_
        refine V_goto 38 dX11_isGrey_34 (by decide) ?_
        refine V_zreturn dX11_isGrey_38 rfl rfl ?_
        rw [e0] at c8
        rw [e1] at c19
        rw [e2] at c30
        have e : decide ((r, g, b) = ((50, 50, 50) : Tn)) = true := decide_eq_true (by rw [c8, c19, c30])
        rw [e] at kk
        exact kk
/-- a part one day later -/
def fd1 (x : Int32) : Int32 := if 50 < x then x - 1 else if x < 50 then x + 1 else x
def fdT (t : Tn) : Tn := (fd1 t.1, fd1 t.2.1, fd1 t.2.2)
theorem tint_faded1 {x : Int32} (kk : P (.returned (some (.int (fd1 x)))) G) : g_Spc l E mX11_faded_2 0 [.int x] G P := by
  refine V_intro (plainFor_of_name plX11) (Nat.le_of_ble_eq_true rfl) ?_
  refine V_iload_n dX11_faded_2_0 rfl ?_
  refine V_bipushv 50 dX11_faded_2_1 (by decide) ?_
  refine V_icmp_le 12 dX11_faded_2_3 (by decide) (fun c3 => ?_) (fun c3 => ?_)
  · refine V_iload_n dX11_faded_2_12 rfl ?_
    refine V_bipushv 50 dX11_faded_2_13 (by decide) ?_
    refine V_icmp_ge 24 dX11_faded_2_15 (by decide) (fun c15 => ?_) (fun c15 => ?_)
    · refine V_iload_n dX11_faded_2_24 rfl ?_
      refine V_ireturn dX11_faded_2_25 rfl ?_
      have e : fd1 x = x := by unfold fd1; rw [if_neg (Int32.not_lt.mpr c3), if_neg (Int32.not_lt.mpr c15)]
      rw [e] at kk
      exact kk
    · refine V_iload_n dX11_faded_2_18 rfl ?_
      refine V_iconstv 1 dX11_faded_2_19 (by decide) ?_
      refine V_iadd dX11_faded_2_20 ?_
      refine V_goto 25 dX11_faded_2_21 (by decide) ?_
      refine V_ireturn dX11_faded_2_25 rfl ?_
      have e : fd1 x = x + 1 := by unfold fd1; rw [if_neg (Int32.not_lt.mpr c3), if_pos (Int32.not_le.mp c15)]
      rw [e] at kk
      exact kk
  · refine V_iload_n dX11_faded_2_6 rfl ?_
    refine V_iconstv 1 dX11_faded_2_7 (by decide) ?_
    refine V_isub dX11_faded_2_8 ?_
    refine V_goto 25 dX11_faded_2_9 (by decide) ?_
    refine V_ireturn dX11_faded_2_25 rfl ?_
    have e : fd1 x = x - 1 := by unfold fd1; rw [if_pos (Int32.not_le.mp c3)]
    rw [e] at kk
    exact kk
theorem upd3 {f : Nat → Int32} {x y z : Int32} {k : Nat} (hk : k < 3) : upd (upd (upd f (Int32.toNatClampNeg 0) x) (Int32.toNatClampNeg 1) y) (Int32.toNatClampNeg 2) z k = tn_at (x, y, z) k := by
  have h0 : Int32.toNatClampNeg 0 = 0 := by decide
  have h1 : Int32.toNatClampNeg 1 = 1 := by decide
  have h2 : Int32.toNatClampNeg 2 = 2 := by decide
  rw [h0, h1, h2]
  match k, hk with
  | 0, _ => rfl
  | 1, _ => rfl
  | 2, _ => rfl
theorem tint_faded {A : Nat → Prop} {a : Nat} {t : Tn} (h : TintAt E A G a t) (hf : g_fit E G 2 4) (kk : ∀ (b : Nat) (G' : g_G), g_mod g_all G G' 2 4 → TintAt E (fun q => G.2.1 ≤ q) G' b (fdT t) → P (.returned (some (.ref b))) G') : g_Spc l E mX11_faded 2 [.ref a] G P := by
  obtain ⟨-, pa, f, -, h1, h2, h3⟩ := h
  obtain ⟨hf1, hf2⟩ := hf
  have e0 : f (0 : Int32).toNatClampNeg = t.1 := h3 0 (by decide)
  have e1 : f (1 : Int32).toNatClampNeg = t.2.1 := h3 1 (by decide)
  have e2 : f (2 : Int32).toNatClampNeg = t.2.2 := h3 2 (by decide)
  refine V_intro (plainFor_of_name plX11) (Nat.le_of_ble_eq_true rfl) ?_
  refine V_wf (fun wf hB => ?_)
  have ha := wf _ _ h1
  have hpa := wf _ _ h2
  refine V_new ckX11 q1485 dX11_faded_0 (by first | omega | (simp only [g_new, g_up]; omega)) (by first | omega | (simp only [g_new, g_up]; omega)) ?_
  refine V_dup dX11_faded_3 rfl ?_
  refine V_iconstv 3 dX11_faded_4 (by decide) ?_
  refine V_newarray_int 3 rfl (by decide) q388 dX11_faded_5 (by first | omega | (simp only [g_new, g_up]; omega)) (by first | omega | (simp only [g_new, g_up]; omega)) ?_
  refine V_dup dX11_faded_7 rfl ?_
  refine V_iconstv 0 dX11_faded_8 (by decide) ?_
  refine V_aload_n dX11_faded_9 rfl (Or.inl ⟨_, rfl⟩) ?_
  refine V_get ckX11 (by first | assumption | (repeat (first | exact g_up_at | exact g_new_at rfl | assumption | refine g_up_of (by first | assumption | (simp only [g_new, g_up]; omega) | omega) ?_ | refine g_new_of (by first | assumption | (simp only [g_new, g_up]; omega) | omega) ?_))) 0 (by decide) q1083 rfl (by rfl) dX11_faded_10 ?_
  refine V_iconstv 0 dX11_faded_13 (by decide) ?_
  refine V_iaload (by first | assumption | (repeat (first | exact g_up_at | exact g_new_at rfl | assumption | refine g_up_of (by first | assumption | (simp only [g_new, g_up]; omega) | omega) ?_ | refine g_new_of (by first | assumption | (simp only [g_new, g_up]; omega) | omega) ?_))) (by first | assumption | exact g_in (by decide)) q388 dX11_faded_14 ?_
  refine V_callS kX11_faded_2 q1504 q1505 dX11_faded_15 ?_ (d' := 0) (as := [_]) (hst := rfl)
  refine (tint_faded1 ?_)
  refine V_iastore (by first | assumption | (repeat (first | exact g_up_at | exact g_new_at rfl | assumption | refine g_up_of (by first | assumption | (simp only [g_new, g_up]; omega) | omega) ?_ | refine g_new_of (by first | assumption | (simp only [g_new, g_up]; omega) | omega) ?_))) (by first | assumption | omega | (simp only [g_new, g_up]; omega) | (simp only [g_new, g_up, g_B] at *; omega)) (by first | assumption | exact g_in (by decide)) q388 dX11_faded_18 ?_
  refine V_dup dX11_faded_19 rfl ?_
  refine V_iconstv 1 dX11_faded_20 (by decide) ?_
  refine V_aload_n dX11_faded_21 rfl (Or.inl ⟨_, rfl⟩) ?_
  refine V_get ckX11 (by first | assumption | (repeat (first | exact g_up_at | exact g_new_at rfl | assumption | refine g_up_of (by first | assumption | (simp only [g_new, g_up]; omega) | omega) ?_ | refine g_new_of (by first | assumption | (simp only [g_new, g_up]; omega) | omega) ?_))) 0 (by decide) q1083 rfl (by rfl) dX11_faded_22 ?_
  refine V_iconstv 1 dX11_faded_25 (by decide) ?_
  refine V_iaload (by first | assumption | (repeat (first | exact g_up_at | exact g_new_at rfl | assumption | refine g_up_of (by first | assumption | (simp only [g_new, g_up]; omega) | omega) ?_ | refine g_new_of (by first | assumption | (simp only [g_new, g_up]; omega) | omega) ?_))) (by first | assumption | exact g_in (by decide)) q388 dX11_faded_26 ?_
  refine V_callS kX11_faded_2 q1504 q1505 dX11_faded_27 ?_ (d' := 0) (as := [_]) (hst := rfl)
  refine (tint_faded1 ?_)
  refine V_iastore (by first | assumption | (repeat (first | exact g_up_at | exact g_new_at rfl | assumption | refine g_up_of (by first | assumption | (simp only [g_new, g_up]; omega) | omega) ?_ | refine g_new_of (by first | assumption | (simp only [g_new, g_up]; omega) | omega) ?_))) (by first | assumption | omega | (simp only [g_new, g_up]; omega) | (simp only [g_new, g_up, g_B] at *; omega)) (by first | assumption | exact g_in (by decide)) q388 dX11_faded_30 ?_
  refine V_dup dX11_faded_31 rfl ?_
  refine V_iconstv 2 dX11_faded_32 (by decide) ?_
  refine V_aload_n dX11_faded_33 rfl (Or.inl ⟨_, rfl⟩) ?_
  refine V_get ckX11 (by first | assumption | (repeat (first | exact g_up_at | exact g_new_at rfl | assumption | refine g_up_of (by first | assumption | (simp only [g_new, g_up]; omega) | omega) ?_ | refine g_new_of (by first | assumption | (simp only [g_new, g_up]; omega) | omega) ?_))) 0 (by decide) q1083 rfl (by rfl) dX11_faded_34 ?_
  refine V_iconstv 2 dX11_faded_37 (by decide) ?_
  refine V_iaload (by first | assumption | (repeat (first | exact g_up_at | exact g_new_at rfl | assumption | refine g_up_of (by first | assumption | (simp only [g_new, g_up]; omega) | omega) ?_ | refine g_new_of (by first | assumption | (simp only [g_new, g_up]; omega) | omega) ?_))) (by first | assumption | exact g_in (by decide)) q388 dX11_faded_38 ?_
  refine V_callS kX11_faded_2 q1504 q1505 dX11_faded_39 ?_ (d' := 0) (as := [_]) (hst := rfl)
  refine (tint_faded1 ?_)
  refine V_iastore (by first | assumption | (repeat (first | exact g_up_at | exact g_new_at rfl | assumption | refine g_up_of (by first | assumption | (simp only [g_new, g_up]; omega) | omega) ?_ | refine g_new_of (by first | assumption | (simp only [g_new, g_up]; omega) | omega) ?_))) (by first | assumption | omega | (simp only [g_new, g_up]; omega) | (simp only [g_new, g_up, g_B] at *; omega)) (by first | assumption | exact g_in (by decide)) q388 dX11_faded_42 ?_
  rw [e0, e1, e2]
  refine V_callI kX11_init rfl rfl q1486 q1080 dX11_faded_43 ?_ (d' := 1) (as := [_]) (hst := rfl)
  refine (tint_init (by repeat (first | exact g_up_at | exact g_new_at rfl | assumption | refine g_up_of (by first | assumption | (simp only [g_new, g_up]; omega) | omega) ?_ | refine g_new_of (by first | assumption | (simp only [g_new, g_up]; omega) | omega) ?_)) (by first | assumption | omega | (simp only [g_new, g_up]; omega) | (simp only [g_new, g_up, g_B] at *; omega)) ?_)
  refine V_areturnO dX11_faded_46 rfl ?_
  refine kk _ _ ⟨?_, ?_, ?_, ?_, ?_⟩ ⟨Nat.le_refl _, G.2.1 + 1, _, Nat.le_succ _, (by repeat (first | exact g_up_at | exact g_new_at rfl | assumption | refine g_up_of (by first | assumption | (simp only [g_new, g_up]; omega) | omega) ?_ | refine g_new_of (by first | assumption | (simp only [g_new, g_up]; omega) | omega) ?_)), (by repeat (first | exact g_up_at | exact g_new_at rfl | assumption | refine g_up_of (by first | assumption | (simp only [g_new, g_up]; omega) | omega) ?_ | refine g_new_of (by first | assumption | (simp only [g_new, g_up]; omega) | omega) ?_)), fun k hk => upd3 hk⟩
  · intro q x _ hx
    have hq := wf _ _ hx
    repeat (first | exact g_up_at | exact g_new_at rfl | assumption | refine g_up_of (by first | assumption | (simp only [g_new, g_up]; omega) | omega) ?_ | refine g_new_of (by first | assumption | (simp only [g_new, g_up]; omega) | omega) ?_)
  · simp only [g_up, g_new]; omega
  · simp only [g_up, g_new]; omega
  · simp only [g_up, g_new]; omega
  · simp only [g_up, g_new]; omega
end TINT2
