/-! ghost heaps, Math -/
set_option maxRecDepth 100000
section BASE
variable {l : Launch} {E : g_E} {P : Outcome → g_G → Prop} {G : g_G}
theorem g_in {i : Int32} {n : Nat} (h : 0 ≤ i.toInt ∧ i.toInt < n) : vp_in i n := vp_in_iff.mpr h
/-! ghost heaps: what stays -/
def g_wf (G : g_G) : Prop := ∀ (a : Nat) (x : va_E), G.1 a = some x → a < G.2.1
theorem V_wf {M : g_M} {d pc : Nat} {L : List (Nat × Value)} {st : List Value} (k : g_wf G → g_B E ≤ G.2.1 → V l E M d P pc L st G) : V l E M d P pc L st G := by
  intro p e R s m args below meth c locs ls H C hR h1 h2 h3 hl
  exact k (fun a x hx => hR.lt hx) (by rw [← hR.1]; exact hR.2.2.2.2.1) p e R s m args below meth c locs ls H C hR h1 h2 h3 hl
theorem g_wf.ne {G : g_G} (h : g_wf G) {a : Nat} {x : va_E} (hx : G.1 a = some x) : a ≠ G.2.1 := Nat.ne_of_lt (h a x hx)
theorem g_new_old {G : g_G} (h : g_wf G) {a : Nat} {x y : va_E} {n : Nat} (hx : G.1 a = some x) : (g_new G y n).1 a = some x := (g_new_ne _ _ _ (h.ne hx)).trans hx
theorem g_wf.new {G : g_G} (h : g_wf G) (y : va_E) (n : Nat) : g_wf (g_new G y n) := fun a x hx => by
  by_cases e : a = G.2.1
  · rw [e]; exact Nat.lt_succ_self _
  · rw [g_new_ne _ _ _ e] at hx
    exact Nat.lt_succ_of_lt (h a x hx)
theorem g_wf.up {G : g_G} (h : g_wf G) {a : Nat} {x : va_E} (hx : G.1 a = some x) (y : va_E) : g_wf (g_up G a y) := fun b z hz => by
  by_cases e : b = a
  · rw [e]; exact h a x hx
  · rw [g_up_ne _ _ e] at hz
    exact h b z hz
/-- two cells of different kinds lie apart -/
theorem g_apart {G : g_G} {a b : Nat} {x y : va_E} (hx : G.1 a = some x) (hy : G.1 b = some y) (h : x ≠ y) : a ≠ b := fun e => h (Option.some.inj (hx.symm.trans (e ▸ hy)))
/-- what lay in A lies there still -/
def g_ke (A : Nat → Prop) (G G' : g_G) : Prop := ∀ (a : Nat) (x : va_E), A a → G.1 a = some x → G'.1 a = some x
theorem g_ke.refl {A : Nat → Prop} : g_ke A G G := fun _ _ _ h => h
theorem g_ke.trans {A : Nat → Prop} {G' G'' : g_G} (h : g_ke A G G') (h' : g_ke A G' G'') : g_ke A G G'' := fun a x ha hx => h' a x ha (h a x ha hx)
theorem g_ke.mono {A B : Nat → Prop} {G' : g_G} (h : g_ke A G G') (hb : ∀ a, B a → A a) : g_ke B G G' := fun a x ha hx => h a x (hb a ha) hx
theorem g_ke.new {A : Nat → Prop} (h : g_wf G) (y : va_E) (n : Nat) : g_ke A G (g_new G y n) := fun _ _ _ hx => g_new_old h hx
theorem g_ke.up {A : Nat → Prop} {a : Nat} (h : ¬ A a) (y : va_E) : g_ke A G (g_up G a y) := fun b x hb hx => (g_up_ne _ _ (fun e => h (by rw [← e]; exact hb))).trans hx
/-! Math -/
/-- Math.abs, max, min -/
def i_abs (x : Int32) : Int32 := if 0 ≤ x then x else -x
def i_max (x y : Int32) : Int32 := if x < y then y else x
def i_min (x y : Int32) : Int32 := if y < x then y else x
def l_max (x y : Int64) : Int64 := if x < y then y else x
theorem math_abs {x : Int32} (k : P (.returned (some (.int (i_abs x)))) G) : g_Spc l E mJ17_abs 0 [.int x] G P := by
  refine V_intro (by decide +kernel) (Nat.le_of_ble_eq_true rfl) ?_
  refine V_iload_n dJ17_abs_0 rfl ?_
  refine V_if_ge 9 dJ17_abs_1 (by decide) (fun c1 => ?_) (fun c1 => ?_)
  · refine V_iload_n dJ17_abs_9 rfl ?_
    refine V_ireturn dJ17_abs_10 rfl ?_
    rw [i_abs, if_pos c1] at k
    exact k
  · refine V_iload_n dJ17_abs_4 rfl ?_
    refine V_ineg dJ17_abs_5 ?_
    refine V_goto 10 dJ17_abs_6 (by decide) ?_
    refine V_ireturn dJ17_abs_10 rfl ?_
    rw [i_abs, if_neg c1] at k
    exact k
theorem math_max {x y : Int32} (k : P (.returned (some (.int (i_max x y)))) G) : g_Spc l E mJ17_max 0 [.int x, .int y] G P := by
  refine V_intro (by decide +kernel) (Nat.le_of_ble_eq_true rfl) ?_
  refine V_iload_n dJ17_max_0 rfl ?_
  refine V_iload_n dJ17_max_1 rfl ?_
  refine V_icmp_lt 9 dJ17_max_2 (by decide) (fun c2 => ?_) (fun c2 => ?_)
  · refine V_iload_n dJ17_max_9 rfl ?_
    refine V_ireturn dJ17_max_10 rfl ?_
    rw [i_max, if_pos c2] at k
    exact k
  · refine V_iload_n dJ17_max_5 rfl ?_
    refine V_goto 10 dJ17_max_6 (by decide) ?_
    refine V_ireturn dJ17_max_10 rfl ?_
    rw [i_max, if_neg c2] at k
    exact k
theorem math_min {x y : Int32} (k : P (.returned (some (.int (i_min x y)))) G) : g_Spc l E mJ17_min 0 [.int x, .int y] G P := by
  refine V_intro (by decide +kernel) (Nat.le_of_ble_eq_true rfl) ?_
  refine V_iload_n dJ17_min_0 rfl ?_
  refine V_iload_n dJ17_min_1 rfl ?_
  refine V_icmp_gt 9 dJ17_min_2 (by decide) (fun c2 => ?_) (fun c2 => ?_)
  · refine V_iload_n dJ17_min_9 rfl ?_
    refine V_ireturn dJ17_min_10 rfl ?_
    rw [i_min, if_pos c2] at k
    exact k
  · refine V_iload_n dJ17_min_5 rfl ?_
    refine V_goto 10 dJ17_min_6 (by decide) ?_
    refine V_ireturn dJ17_min_10 rfl ?_
    rw [i_min, if_neg c2] at k
    exact k
/-- a boolean on the machine -/
def b2i (b : Bool) : Int32 := cond b 1 0
theorem b2i_nar (b : Bool) : narrow .boolean (.int (b2i b)) = .int (b2i b) := by cases b <;> rfl
theorem b2i_t {b : Bool} (h : ¬ b2i b = 0) : b = true := by cases b <;> simp_all [b2i]
theorem b2i_f {b : Bool} (h : b2i b = 0) : b = false := by
  cases b
  · rfl
  · exact absurd h (by decide)
end BASE
