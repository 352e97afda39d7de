/-! more rows: clone of an int array, its cast; a call of a metric -/
set_option maxRecDepth 100000
section MORE
variable {l : Launch} {E : g_E} {M M' : g_M} {d d' : Nat} {P : Outcome → g_G → Prop} {pc : Nat} {L : List (Nat × Value)} {st : List Value} {G : g_G}
theorem V_cloneI {a n i : Nat} {f : Nat → Int32} (hlink : Cond.methodLink M.1.cls i ⟨"[I", "clone", "()Ljava/lang/Object;"⟩ ∈ lw_all) (hsame : Cond.sameMethod "[I" "java/lang/Object" "clone" "()Ljava/lang/Object;" ∈ lw_all) (hnat : Cond.native ⟨"java/lang/Object", "clone", "()Ljava/lang/Object;"⟩ ∈ lw_all) (hinst : Cond.instanceMethod ⟨"java/lang/Object", "clone", "()Ljava/lang/Object;"⟩ ∈ lw_all)
    (hsel : Cond.selects "[I" ⟨"[I", "clone", "()Ljava/lang/Object;"⟩ ⟨"java/lang/Object", "clone", "()Ljava/lang/Object;"⟩ ∈ lw_all) (hcl : Cond.castable "[I" "java/lang/Cloneable" ∈ lw_tbl) (hw : Cond.arrayClass .int ∈ lw_all)
    (hG : G.1 a = some (g_ai E n f)) (hc : G.2.1 + 1 ≤ g_capC E) (hs : G.2.2 + n ≤ g_capS E) (hlen : st.length ≤ 14) (hdd : 1 ≤ d) (hd : decode M.2.1 pc = .ok (.invokevirtual i, 3)) (k : V l E M d P (pc + 3) L (.ref G.2.1 :: st) (g_new G (g_ai E n f) n)) : V l E M d P pc L (.ref a :: st) G := by
  intro p e R s m args below meth c locs ls H C hR h1 h2 h3 hl T hT X
  obtain ⟨r1, r2, r3, r4⟩ := C.room
  have hz := hR.1
  have hu := hR.2.1
  have hsum := g_sum st
  obtain ⟨w1, w2⟩ := g_arrA C.ok C.W hw
  have hcell : H[a]? = some (vp_cell (g_A E .int) (n, .inl f)) := hR.va hG
  have hsz : (vp_cell (g_A E .int) (n, .inl f)).slots.size = n := vp_cell_size _ _
  obtain ⟨c0, t0', f1, f2, f3⟩ := Cond.castable_spec (va_Nw.use (A := args) rfl (g_castW C.ok C.W hcl))
  cases (show s.vm.findClass "[I" = some (g_A E .int) from w2).symm.trans f1
  obtain ⟨-, kA, hkA, comp, hkind⟩ := State.isArrayOf_alike X.warmed.alike (w1 0 (fun _ => .null))
  obtain ⟨-, kS, hkS, compS, hkindS⟩ := w1 0 (fun _ => .null)
  obtain ⟨vm', X', st'⟩ := X.cloneArray C.x C.own (C.w hlink args) (C.w hsame args) (C.w hnat args) (C.w hinst args) (C.w hsel args) (a := a) (cell := vp_cell (g_A E .int) (n, .inl f)) (by rw [hT]; exact hcell) (fun k h => by cases h) (fun h => by cases h) w2 f2 f3
    (fun i v hv => by
      have hk' : T.vm.classes[g_A E .int]? = some kA := hkA
      have hv' : (arrV (g_A E .int) n (fun j => .int (f j))).slots[i]? = some v := hv
      have hfit : fits .int v = true := by
        by_cases hi : i < n
        · rw [arrV_read _ _ hi] at hv'
          cases hv'
          rfl
        · rw [Array.getElem?_eq_none (by rw [arrV_size]; omega)] at hv'
          cases hv'
      have hcc : (vp_cell (g_A E .int) (n, .inl f)).cls = g_A E .int := rfl
      rw [hcc]
      simpa [State.fitsSlot, State.slotType?, hk', hkind] using hfit)
    (g := F0 m pc ls (.ref a :: st)) rfl (by rw [C.ml]; exact hl.1) rfl (by rw [C.b]; exact hd) (by omega) (by show 2 * 0 + _ + 14 ≤ _; omega) (by omega) (by rw [hsz]; omega) (hloader := Vm.clonesLoader_of_array hkS hkindS)
  have hcellE : ({ cls := (vp_cell (g_A E .int) (n, .inl f)).cls, slots := (vp_cell (g_A E .int) (n, .inl f)).slots } : Cell) = vp_cell (g_A E .int) (n, .inl f) := rfl
  rw [hcellE, hsz] at X'
  have hR1 := hR.push (y := g_ai E n f) (n := n) hc hs (vp_cell (g_A E .int) (n, .inl f)) hsz (g_vaA (by show (H.push _)[G.2.1]? = _; rw [← hz]; exact Array.getElem?_push_size))
  have k9 := k p e R s m args below meth c locs ls _ C hR1 (by rw [Array.size_push]; omega) (by show s.slotsUsed ≤ G.2.2 + n; omega) h3 hl
  have e1 : (H.push (vp_cell (g_A E .int) (n, .inl f))).size - s.heap.size = H.size - s.heap.size + 1 := by rw [Array.size_push]; omega
  have e2 : (g_new G (g_ai E n f) n).2.2 - s.slotsUsed = G.2.2 - s.slotsUsed + n := by show G.2.2 + n - s.slotsUsed = _; omega
  rw [e1, e2, ← hz] at k9
  obtain ⟨t, a1, b1⟩ := k9 ((T.setVm vm').pushCell (vp_cell (g_A E .int) (n, .inl f))) (by rw [← hT]; rfl) X'
  refine ⟨t, st' t ?_, b1⟩
  rw [hcellE, hT]
  exact a1
theorem V_castAI {a n i : Nat} {f : Nat → Int32} (hlink : Cond.classLink M.1.cls i "[I" ∈ lw_all) (hw : Cond.arrayClass .int ∈ lw_all) (hG : G.1 a = some (g_ai E n f)) (hd : decode M.2.1 pc = .ok (.checkcast i, 3)) (k : V l E M d P (pc + 3) L (.ref a :: st) G) : V l E M d P pc L (.ref a :: st) G := by
  intro p e R s m args below meth c locs ls H C hR h1 h2 h3 hl
  obtain ⟨w1, w2⟩ := g_arrA C.ok C.W hw
  exact va_castA C.x C.b C.own (C.w hlink args) (g_P1 hR hG) 0 rfl w2 hd (k p e R s m args below meth c locs ls H C hR h1 h2 h3 hl)
end MORE
/-! lookups -/
theorem g_up_at {G : g_G} {a : Nat} {x : va_E} : (g_up G a x).1 a = some x := va_up_self _ _ _
theorem g_up_of {G : g_G} {a b : Nat} {x : va_E} {y : Option va_E} (h : b ≠ a) (k : G.1 b = y) : (g_up G a x).1 b = y := (g_up_ne _ _ h).trans k
theorem g_new_at {G : g_G} {x : va_E} {n b : Nat} (h : b = G.2.1) : (g_new G x n).1 b = some x := h ▸ g_new_self _ _ _
theorem g_new_of {G : g_G} {b n : Nat} {x : va_E} {y : Option va_E} (h : b ≠ G.2.1) (k : G.1 b = y) : (g_new G x n).1 b = y := (g_new_ne _ _ _ h).trans k
