/-! REFERENCE 3: the changes' parts -/
set_option maxRecDepth 100000
def rw0 : Rw := (0, (0, 0, 0), 0, 0)
def rwAt (L : List Rw) (k : Nat) : Rw := (L[k]?).getD rw0
theorem rwAt_of {L : List Rw} {k : Nat} {r : Rw} (h : L[k]? = some r) : rwAt L k = r := by unfold rwAt; rw [h]; rfl
def dO (o : Of) (t : Tn) (c : Rw) : Int32 := dst (mt_k (o.2.2 5)) t c.2.1
def fitO (o : Of) (r c : Rw) : Bool := decide (dO o r.2.1 c ≤ r.2.2.1)
/-- the first least: place and number -/
def amF (D : Rw → Int32) : Nat → Option (Nat × Int32) → List Rw → Option (Nat × Int32)
  | _, b, [] => b
  | i, b, c :: t => amF D (i + 1) (match b with
    | none => some (i, D c)
    | some (j, y) => if D c < y then some (i, D c) else some (j, y)) t
def nst (o : Of) (t : Tn) : Option Nat := (amF (dO o t) 0 none o.1).map (·.1)
theorem amF_in {D : Rw → Int32} {L : List Rw} {i : Nat} {b : Option (Nat × Int32)} {x : Nat × Int32} (h : amF D i b L = some x) : b = some x ∨ (i ≤ x.1 ∧ x.1 < i + L.length ∧ ∃ c, L[x.1 - i]? = some c ∧ x.2 = D c) := by
  induction L generalizing i b with
  | nil => exact Or.inl h
  | cons c t ih =>
    unfold amF at h
    have here : ∀ {y : Nat × Int32}, some y = some x → y = (i, D c) → (i ≤ x.1 ∧ x.1 < i + (c :: t).length ∧ ∃ c', (c :: t)[x.1 - i]? = some c' ∧ x.2 = D c') := by
      intro y h1 h2
      cases h1
      rw [h2]
      refine ⟨Nat.le_refl _, by show i < i + (t.length + 1); omega, c, ?_, rfl⟩
      rw [Nat.sub_self]; rfl
    rcases ih h with h1 | ⟨h1, h2, c', h3, h4⟩
    · cases b with
      | none => exact Or.inr (here h1 rfl)
      | some z =>
        obtain ⟨j, y⟩ := z
        dsimp only at h1
        by_cases e : D c < y
        · rw [if_pos e] at h1
          exact Or.inr (here h1 rfl)
        · rw [if_neg e] at h1
          exact Or.inl h1
    · refine Or.inr ⟨by omega, by show x.1 < i + (t.length + 1); omega, c', ?_, h4⟩
      rw [show x.1 - i = (x.1 - (i + 1)) + 1 by omega]
      exact h3
theorem nst_lt {o : Of} {t : Tn} {j : Nat} (h : nst o t = some j) : j < o.1.length := by
  unfold nst at h
  obtain ⟨x, h1, h2⟩ := Option.map_eq_some_iff.mp h
  rcases amF_in h1 with h3 | ⟨-, h3, -⟩
  · cases h3
  · rw [← h2]; omega
theorem plI_lt {x : Option Nat} (h : ∀ k, x = some k → k < 2 ^ 31) : plI x < 0 ↔ x = none := by
  cases x with
  | none => exact ⟨fun _ => rfl, fun _ => by decide⟩
  | some k => exact ⟨fun q => absurd q (nI_pos (h k rfl)), fun q => by cases q⟩
theorem plI_eq {x y : Option Nat} (h : ∀ k, x = some k → k < 2 ^ 31) (g : ∀ k, y = some k → k < 2 ^ 31) : plI x = plI y ↔ x = y := by
  refine ⟨fun q => ?_, fun q => by rw [q]⟩
  cases x with
  | none =>
    cases y with
    | none => rfl
    | some k =>
      have : plI (some k) < 0 := by rw [← q]; decide
      exact absurd this (nI_pos (g k rfl))
  | some k =>
    cases y with
    | none =>
      have : plI (some k) < 0 := by rw [q]; decide
      exact absurd this (nI_pos (h k rfl))
    | some j => rw [(nI_eq (h k rfl) (g j rfl)).mp q]
theorem plc_lt {id : Int32} {L : List Rw} {k : Nat} (h : plc id L = some k) : k < L.length := by
  obtain ⟨r, h1, -⟩ := plc_some h
  exact lt_of_at h1
theorem TwO.tnC {f : Nat → Int32} {o : Of} {k : Nat} {c : Rw} (h : TwO f o) (hk : o.1[k]? = some c) : tnA f (8 + 8 * k) = c.2.1 := by
  obtain ⟨-, -, -, -, -, h6, -⟩ := h
  unfold tnA
  rw [h6 k c hk 1 (by decide), h6 k c hk 2 (by decide), h6 k c hk 3 (by decide)]
  rfl
theorem TwO.tnR {f : Nat → Int32} {o : Of} {k : Nat} {c : Rw} (h : TwO f o) (hk : o.2.1[k]? = some c) : tnA f (88 + 8 * k) = c.2.1 := by
  obtain ⟨-, -, -, -, -, -, h6⟩ := h
  unfold tnA
  rw [h6 k c hk 1 (by decide), h6 k c hk 2 (by decide), h6 k c hk 3 (by decide)]
  rfl
theorem TwO.num {f : Nat → Int32} {o : Of} {j : Nat} {v : Int32} (h : TwO f o) (hj : 2 ≤ j) (hj7 : j ≤ 7) : TwO (upd f j v) (o.1, o.2.1, upd o.2.2 j v) := by
  obtain ⟨h1, h2, h3, h4, h5, h6, h7⟩ := h
  refine ⟨h1, h2, (if_neg (by omega)).trans h3, (if_neg (by omega)).trans h4, ?_, fun k r hk i hi => (if_neg (by omega)).trans (h6 k r hk i hi), fun k r hk i hi => (if_neg (by omega)).trans (h7 k r hk i hi)⟩
  intro i h2 h7
  show (if i = j then v else f i) = if i = j then v else o.2.2 i
  rw [h5 i h2 h7]
theorem TwO.ghost {f : Nat → Int32} {o : Of} {j : Nat} {v : Int32} (h : TwO f o) (hj : 7 < j) : TwO f (o.1, o.2.1, upd o.2.2 j v) := by
  obtain ⟨h1, h2, h3, h4, h5, h6, h7⟩ := h
  refine ⟨h1, h2, h3, h4, fun i a b => ?_, h6, h7⟩
  exact (h5 i a b).trans (if_neg (by omega)).symm
/-! the changes as numbers -/
def ofAdd (o : Of) (t : Tn) (f : Int32) : Of := (o.1 ++ [(o.2.2 2, t, f, o.2.2 4)], o.2.1, upd o.2.2 2 (o.2.2 2 + 1))
def ofRep (o : Of) (t : Tn) (tol rew : Int32) : Of := (o.1, o.2.1 ++ [(o.2.2 3, t, tol, rew)], upd o.2.2 3 (o.2.2 3 + 1))
def ofWd (o : Of) (k : Nat) : Of := (o.1, o.2.1.eraseIdx k, o.2.2)
def ofDis (o : Of) (k : Nat) : Of := (o.1.eraseIdx k, o.2.1, upd (upd o.2.2 6 (o.2.2 6 - 1)) 9 (o.2.2 9 + 1))
def ofMet (o : Of) (c : Int32) : Of := (o.1, o.2.1, upd o.2.2 5 c)
def ofGive (o : Of) (k j : Nat) : Of := (o.1.eraseIdx j, o.2.1.eraseIdx k, upd (upd (upd o.2.2 6 (o.2.2 6 + (rwAt o.2.1 k).2.2.2)) 7 (o.2.2 7 + 1)) 8 (o.2.2 8 + (rwAt o.2.1 k).2.2.2))
def mixT (t u : Tn) : Tn := ((t.1 + u.1) / 2, (t.2.1 + u.2.1) / 2, (t.2.2 + u.2.2) / 2)
def ofMix (o : Of) (a b : Nat) : Of := ofAdd ((o.1.eraseIdx (max a b)).eraseIdx (min a b), o.2) (mixT (rwAt o.1 a).2.1 (rwAt o.1 b).2.1) (if (rwAt o.1 a).2.2.1 < (rwAt o.1 b).2.2.1 then (rwAt o.1 a).2.2.1 else (rwAt o.1 b).2.2.1)
def cgive (o : Of) (rep id : Int32) : Int32 := match plc rep o.2.1, plc id o.1 with
  | some k, some j => if nst o (rwAt o.2.1 k).2.1 = some j ∧ fitO o (rwAt o.2.1 k) (rwAt o.1 j) = true then 0 else 2
  | _, _ => 1
def cadd (o : Of) (r g b f : Int32) : Int32 := if isb r 0 99 && isb g 0 99 && isb b 0 99 && isb f 1 9 then (if o.1.length = 10 then 2 else 0) else 1
def crep (o : Of) (r g b tol rew : Int32) : Int32 := if isb r 0 99 && isb g 0 99 && isb b 0 99 && isb tol 0 9999 && isb rew 1 99 then (if o.2.1.length = 6 then 2 else 0) else 1
def cmix (o : Of) (x y : Int32) : Int32 := if plc x o.1 = none ∨ plc y o.1 = none then 1 else if x = y then 2 else 0
/-- six numbers laid -/
def lay6 (f : Nat → Int32) (a : Nat) (r : Rw) : Nat → Int32 := upd (upd (upd (upd (upd (upd f a r.1) (a + 1) r.2.1.1) (a + 2) r.2.1.2.1) (a + 3) r.2.1.2.2) (a + 4) r.2.2.1) (a + 5) r.2.2.2
theorem lay6_at {f : Nat → Int32} {a : Nat} {r : Rw} {j : Nat} (hj : j < 6) : lay6 f a r (a + j) = rw_at r j := by
  unfold lay6 upd
  match j, hj with
  | 0, _ => simp [rw_at]
  | 1, _ => simp [rw_at]
  | 2, _ => simp [rw_at]
  | 3, _ => simp [rw_at]
  | 4, _ => simp [rw_at]
  | 5, _ => simp [rw_at]
theorem lay6_ne {f : Nat → Int32} {a q : Nat} {r : Rw} (h : q < a ∨ a + 6 ≤ q) : lay6 f a r q = f q := by
  unfold lay6 upd
  rw [if_neg (by omega), if_neg (by omega), if_neg (by omega), if_neg (by omega), if_neg (by omega), if_neg (by omega)]
theorem at_push {α : Type} {L : List α} {x r : α} {k : Nat} (h : (L ++ [x])[k]? = some r) : L[k]? = some r ∨ (k = L.length ∧ r = x) := by
  by_cases e : k < L.length
  · rw [List.getElem?_append_left e] at h
    exact Or.inl h
  · rw [List.getElem?_append_right (by omega)] at h
    have h9 := lt_of_at h
    have e2 : k = L.length := by simp at h9; omega
    subst e2
    simp at h
    exact Or.inr ⟨rfl, h.symm⟩
theorem TwO.addC {f : Nat → Int32} {o : Of} {t : Tn} {fs : Int32} (h : TwO f o) (hn : o.1.length < 10) : TwO (upd (upd (lay6 f (8 + 8 * o.1.length) (o.2.2 2, t, fs, o.2.2 4)) 0 (nI (o.1.length + 1))) 2 (o.2.2 2 + 1)) (ofAdd o t fs) := by
  obtain ⟨h1, h2, h3, h4, h5, h6, h7⟩ := h
  refine ⟨by simp [ofAdd]; omega, h2, ?_, ?_, ?_, ?_, ?_⟩
  · show upd _ 2 _ 0 = nI (o.1 ++ [_]).length
    rw [List.length_append]
    exact (if_neg (by decide)).trans (if_pos rfl)
  · exact (if_neg (by decide)).trans ((if_neg (by decide)).trans ((lay6_ne (by omega)).trans h4))
  · intro j a b
    show (if j = 2 then _ else upd (lay6 f _ _) 0 _ j) = if j = 2 then _ else o.2.2 j
    by_cases e : j = 2
    · rw [if_pos e, if_pos e]
    · rw [if_neg e, if_neg e]
      exact (if_neg (by omega)).trans ((lay6_ne (by omega)).trans (h5 j a b))
  · intro k r hk j hj
    have hk9 : (o.1 ++ [_])[k]? = some r := hk
    refine (if_neg (by omega)).trans ((if_neg (by omega)).trans ?_)
    rcases at_push hk9 with h8 | ⟨h8, h9⟩
    · have := lt_of_at h8
      exact (lay6_ne (by omega)).trans (h6 k r h8 j hj)
    · rw [h8, h9]
      exact lay6_at hj
  · intro k r hk j hj
    exact (if_neg (by omega)).trans ((if_neg (by omega)).trans ((lay6_ne (by omega)).trans (h7 k r hk j hj)))
theorem TwO.addR {f : Nat → Int32} {o : Of} {t : Tn} {tol rew : Int32} (h : TwO f o) (hn : o.2.1.length < 6) : TwO (upd (upd (lay6 f (88 + 8 * o.2.1.length) (o.2.2 3, t, tol, rew)) 1 (nI (o.2.1.length + 1))) 3 (o.2.2 3 + 1)) (ofRep o t tol rew) := by
  obtain ⟨h1, h2, h3, h4, h5, h6, h7⟩ := h
  refine ⟨h1, by simp [ofRep]; omega, ?_, ?_, ?_, ?_, ?_⟩
  · exact (if_neg (by decide)).trans ((if_neg (by decide)).trans ((lay6_ne (by omega)).trans h3))
  · show upd _ 3 _ 1 = nI (o.2.1 ++ [_]).length
    rw [List.length_append]
    exact (if_neg (by decide)).trans (if_pos rfl)
  · intro j a b
    show (if j = 3 then _ else upd (lay6 f _ _) 1 _ j) = if j = 3 then _ else o.2.2 j
    by_cases e : j = 3
    · rw [if_pos e, if_pos e]
    · rw [if_neg e, if_neg e]
      exact (if_neg (by omega)).trans ((lay6_ne (by omega)).trans (h5 j a b))
  · intro k r hk j hj
    have hk9 : o.1[k]? = some r := hk
    have := lt_of_at hk9
    exact (if_neg (by omega)).trans ((if_neg (by omega)).trans ((lay6_ne (by omega)).trans (h6 k r hk j hj)))
  · intro k r hk j hj
    have hk9 : (o.2.1 ++ [_])[k]? = some r := hk
    refine (if_neg (by omega)).trans ((if_neg (by omega)).trans ?_)
    rcases at_push hk9 with h8 | ⟨h8, h9⟩
    · have := lt_of_at h8
      exact (lay6_ne (by omega)).trans (h7 k r h8 j hj)
    · rw [h8, h9]
      exact lay6_at hj
