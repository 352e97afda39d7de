/-! THE REFERENCE: its state T = (arrays by number 1..11, fields by place), laid into the ghost heap by g_tG
    arrays: 1 now, 2 before, 3 saved, 4 history, 5 best, 6 given reports, 7 given colours, 8 output, 9 input, 10 kinds, 11 arguments
    fields: 5 thrown, 6 depth, 7 wrongAt, 8 failedAt, 9 failure, 10 isSaved, 14 outputLength, 18 length, 19 scriptLength, 20 at, 21 commands, 22 isWrong -/
set_option maxRecDepth 100000
abbrev Tw : Type := (Nat → Nat → Int32) × (Nat → Int32)
def twA (T : Tw) (a : Nat) (f : Nat → Int32) : Tw := (fun b => if b = a then f else T.1 b, T.2)
def twI (T : Tw) (j : Nat) (v : Int32) : Tw := (T.1, fun i => if i = j then v else T.2 i)
def twN (a : Nat) : Nat := match a with
  | 1 => 136
  | 2 => 136
  | 3 => 136
  | 4 => 1088
  | 5 => 7168
  | 6 => 6
  | 7 => 6
  | 8 => 80
  | 9 => 60
  | 10 => 32
  | 11 => 256
  | _ => 0
def twF (m : Nat) (T : Tw) : List Value := [.ref (m + 1), .ref (m + 2), .ref (m + 3), .ref (m + 4), .ref (m + 5), .int (T.2 5), .int (T.2 6), .int (T.2 7), .int (T.2 8), .int (T.2 9), .int (T.2 10), .ref (m + 6), .ref (m + 7), .ref (m + 8), .int (T.2 14), .ref (m + 9), .ref (m + 10), .ref (m + 11), .int (T.2 18), .int (T.2 19), .int (T.2 20), .int (T.2 21), .int (T.2 22)]
def twc (E : g_E) (m : Nat) (T : Tw) (i : Nat) : Option va_E := match i with
  | 0 => some (g_ob 4 (twF m T))
  | j + 1 => some (g_ai E (twN (j + 1)) (T.1 (j + 1)))
/-- G with the reference laid at m -/
def g_tG (E : g_E) (G : g_G) (m : Nat) (T : Tw) : g_G := (fun q => if m ≤ q ∧ q < m + 12 then twc E m T (q - m) else G.1 q, G.2)
/-- the fields that are numbers -/
def twi (j : Nat) : Bool := match j with
  | 5 | 6 | 7 | 8 | 9 | 14 | 18 | 19 | 20 | 21 => true
  | _ => false
def twb (j : Nat) : Bool := match j with
  | 10 | 22 => true
  | _ => false
theorem twA_at {T : Tw} {a : Nat} {f : Nat → Int32} : (twA T a f).1 a = f := if_pos rfl
theorem twA_ne {T : Tw} {a b : Nat} {f : Nat → Int32} (h : b ≠ a) : (twA T a f).1 b = T.1 b := if_neg h
theorem twA_I {T : Tw} {a : Nat} {f : Nat → Int32} {j : Nat} : (twA T a f).2 j = T.2 j := rfl
theorem twI_at {T : Tw} {a : Nat} {f : Int32} : (twI T a f).2 a = f := if_pos rfl
theorem twI_ne {T : Tw} {a b : Nat} {f : Int32} (h : b ≠ a) : (twI T a f).2 b = T.2 b := if_neg h
theorem twI_A {T : Tw} {a : Nat} {f : Int32} {j : Nat} : (twI T a f).1 j = T.1 j := rfl
section TW
variable {l : Launch} {E : g_E} {M : g_M} {d : Nat} {P : Outcome → g_G → Prop} {pc : Nat} {L : List (Nat × Value)} {st : List Value} {G : g_G} {m : Nat} {T : Tw}
theorem tw_at (i : Nat) (hi : i < 12) : (g_tG E G m T).1 (m + i) = twc E m T i := by
  show (if m ≤ m + i ∧ m + i < m + 12 then twc E m T (m + i - m) else G.1 (m + i)) = _
  rw [if_pos ⟨by omega, by omega⟩]
  congr 1
  omega
theorem tw_ne {q : Nat} (h : ¬ (m ≤ q ∧ q < m + 12)) : (g_tG E G m T).1 q = G.1 q := if_neg h
theorem tw0 : (g_tG E G m T).1 m = some (g_ob 4 (twF m T)) := tw_at 0 (by decide)
theorem tw_ar {a : Nat} (h0 : 0 < a) (h : a < 12) : (g_tG E G m T).1 (m + a) = some (g_ai E (twN a) (T.1 a)) := by
  obtain ⟨b, rfl⟩ : ∃ b, a = b + 1 := ⟨a - 1, by omega⟩
  exact tw_at (b + 1) h
theorem tw_up {T' : Tw} (i : Nat) (hi : i < 12) {x : va_E} (h : ∀ j, j < 12 → twc E m T' j = if j = i then some x else twc E m T j) : g_up (g_tG E G m T) (m + i) x = g_tG E G m T' := by
  refine Prod.ext (funext fun q => ?_) rfl
  show va_up (g_tG E G m T).1 (m + i) (some x) q = _
  by_cases hq : q = m + i
  · rw [hq, va_up_self, tw_at i hi, h i hi, if_pos rfl]
  · rw [va_up_ne _ _ hq]
    by_cases h2 : m ≤ q ∧ q < m + 12
    · obtain ⟨j, rfl⟩ : ∃ j, q = m + j := ⟨q - m, by omega⟩
      rw [tw_at j (by omega), tw_at j (by omega), h j (by omega), if_neg (by omega)]
    · rw [tw_ne h2, tw_ne h2]
theorem tw_upI {j : Nat} {v : Int32} (hs : twF m (twI T j v) = (twF m T).set j (.int v)) : g_up (g_tG E G m T) m (g_ob 4 ((twF m T).set j (.int v))) = g_tG E G m (twI T j v) := by
  refine tw_up 0 (by decide) fun i hi => ?_
  cases i with
  | zero => rw [if_pos rfl, ← hs]; rfl
  | succ i => rw [if_neg (by omega)]; rfl
theorem tw_upA {a : Nat} {f : Nat → Int32} (h0 : 0 < a) (h : a < 12) : g_up (g_tG E G m T) (m + a) (g_ai E (twN a) f) = g_tG E G m (twA T a f) := by
  refine tw_up a h fun i hi => ?_
  cases i with
  | zero => rw [if_neg (by omega)]; rfl
  | succ i =>
    by_cases e : i + 1 = a
    · rw [if_pos e, ← e]
      show some (g_ai E (twN (i + 1)) ((twA T (i + 1) f).1 (i + 1))) = _
      rw [twA_at]
    · rw [if_neg e]
      show some (g_ai E (twN (i + 1)) ((twA T a f).1 (i + 1))) = some (g_ai E (twN (i + 1)) (T.1 (i + 1)))
      rw [twA_ne e]
theorem tw_putI {v : Int32} {i : Nat} (j : Nat) (hm : g_B E ≤ m) (hj : j < 23) (hlink : Cond.fieldLink M.1.cls i RX5 (TX5 j).2.1 (TX5 j).2.2.1 ∈ lw_all) (hr : RX5 = (TX5 j).1) (hf : (TX5 j).2.2.2 = false) (hn : narrow (tyX5 j) (.int v) = .int v) (hfit : fits (tyX5 j) (.int v) = true) (hs : twF m (twI T j v) = (twF m T).set j (.int v)) (hd : decode M.2.1 pc = .ok (.putfield i, 3)) (k : V l E M d P (pc + 3) L st (g_tG E G m (twI T j v))) : V l E M d P pc L (.int v :: .ref m :: st) (g_tG E G m T) :=
  V_put ckX5 tw0 hm j hj hlink hr hf hn hfit hj hd (by rw [tw_upI hs]; exact k)
theorem tw_st {x i : Int32} (a n : Nat) (hm : g_B E ≤ m) (h0 : 0 < a) (h : a < 12) (hi : i = nI n) (hn : n < twN a) (hb : twN a < 2 ^ 31) (hd : decode M.2.1 pc = .ok (.iastore, 1)) (k : V l E M d P (pc + 1) L st (g_tG E G m (twA T a (upd (T.1 a) n x)))) : V l E M d P pc L (.int x :: .int i :: .ref (m + a) :: st) (g_tG E G m T) := by
  subst hi
  refine V_iastore (tw_ar h0 h) (by omega) (vp_in_nI hn hb) q388 hd ?_
  rw [nI_clamp (by omega), tw_upA h0 h]
  exact k
theorem tw_ld {i : Int32} (a n : Nat) (h0 : 0 < a) (h : a < 12) (hi : i = nI n) (hn : n < twN a) (hb : twN a < 2 ^ 31) (hd : decode M.2.1 pc = .ok (.iaload, 1)) (k : V l E M d P (pc + 1) L (.int (T.1 a n) :: st) (g_tG E G m T)) : V l E M d P pc L (.int i :: .ref (m + a) :: st) (g_tG E G m T) := by
  subst hi
  refine V_iaload (tw_ar h0 h) (vp_in_nI hn hb) q388 hd ?_
  rw [nI_clamp (by omega)]
  exact k
end TW
