/-! THE OFFICE AS NUMBERS: what both sides hold -/
/-- a colour: id, tint, fastness, day since; a report: id, tint, tolerance, reward -/
abbrev Rw : Type := Int32 × Tn × Int32 × Int32
def rw_at (r : Rw) (j : Nat) : Int32 := match j with
  | 0 => r.1
  | 1 => r.2.1.1
  | 2 => r.2.1.2.1
  | 3 => r.2.1.2.2
  | 4 => r.2.2.1
  | _ => r.2.2.2
/-- colours, reports, numbers: 2 next colour, 3 next report, 4 day, 5 metric, 6 coins, 7 returned, 8 rewards, 9 discarded -/
abbrev Of : Type := List Rw × List Rw × (Nat → Int32)
/-- the reference's array f shows the office o -/
def TwO (f : Nat → Int32) (o : Of) : Prop := o.1.length ≤ 10 ∧ o.2.1.length ≤ 6 ∧ f 0 = nI o.1.length ∧ f 1 = nI o.2.1.length ∧ (∀ j, 2 ≤ j → j ≤ 7 → f j = o.2.2 j) ∧ (∀ k r, o.1[k]? = some r → ∀ j, j < 6 → f (8 + 8 * k + j) = rw_at r j) ∧ (∀ k r, o.2.1[k]? = some r → ∀ j, j < 6 → f (88 + 8 * k + j) = rw_at r j)
/-- the first place of an id -/
def plc (id : Int32) : List Rw → Option Nat
  | [] => none
  | r :: t => if r.1 = id then some 0 else (plc id t).map (· + 1)
def plI (x : Option Nat) : Int32 := match x with
  | none => -1
  | some k => nI k
def plF (id : Int32) (i : Nat) (L : List Rw) : Int32 := plI ((plc id L).map (· + i))
theorem plF_nil {id : Int32} {i : Nat} : plF id i [] = -1 := rfl
theorem plF_here {id : Int32} {i : Nat} {r : Rw} {t : List Rw} (h : r.1 = id) : plF id i (r :: t) = nI i := by
  simp [plF, plc, h, plI]
theorem plF_next {id : Int32} {i : Nat} {r : Rw} {t : List Rw} (h : r.1 ≠ id) : plF id i (r :: t) = plF id (i + 1) t := by
  simp only [plF, plc, if_neg h, Option.map_map]
  congr 2
  funext k
  simp only [Function.comp]
  omega
theorem plF_0 {id : Int32} {L : List Rw} : plF id 0 L = plI (plc id L) := by
  simp [plF]
theorem plc_some {id : Int32} {L : List Rw} {k : Nat} (h : plc id L = some k) : ∃ r, L[k]? = some r ∧ r.1 = id := by
  induction L generalizing k with
  | nil => cases h
  | cons x t ih =>
    unfold plc at h
    by_cases e : x.1 = id
    · rw [if_pos e] at h
      cases h
      exact ⟨x, rfl, e⟩
    · rw [if_neg e] at h
      cases hp : plc id t with
      | none => rw [hp] at h; cases h
      | some j =>
        rw [hp] at h
        cases h
        obtain ⟨r, h1, h2⟩ := ih hp
        exact ⟨r, h1, h2⟩
theorem lt_of_at {α : Type} {L : List α} {k : Nat} {r : α} (h : L[k]? = some r) : k < L.length := (List.getElem?_eq_some_iff.mp h).1
theorem drop_at {α : Type} {L : List α} {i : Nat} (h : i < L.length) : ∃ r, L[i]? = some r ∧ L.drop i = r :: L.drop (i + 1) := ⟨L[i], List.getElem?_eq_getElem h, List.drop_eq_getElem_cons h⟩
theorem down {Q : Nat → Prop} (n : Nat) (e : Q n) (s : ∀ i, i < n → Q (i + 1) → Q i) (i : Nat) (hi : i ≤ n) : Q i := by
  obtain ⟨j, rfl⟩ : ∃ j, n = i + j := ⟨n - i, by omega⟩
  clear hi
  induction j generalizing i with
  | zero => exact e
  | succ j ih =>
    refine s i (by omega) (ih (i + 1) ?_ ?_)
    · rw [show i + 1 + j = i + (j + 1) by omega]; exact e
    · intro k hk; exact s k (by omega)
theorem nI_mul (a b : Nat) : nI a * nI b = nI (a * b) := (Int32.ofNat_mul a b).symm
