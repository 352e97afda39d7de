/-! MODULE String: rows; methods -/
set_option maxRecDepth 100000
section STR0
variable {l : Launch} {E : g_E} {M M' : g_M} {d d' : Nat} {P : Outcome → g_G → Prop} {pc : Nat} {L : List (Nat × Value)} {st : List Value} {G : g_G}
theorem V_cloneB {a n i : Nat} {f : Nat → Int32} (hlink : Cond.methodLink M.1.cls i ⟨"[B", "clone", "()Ljava/lang/Object;"⟩ ∈ lw_all) (hsame : Cond.sameMethod "[B" "java/lang/Object" "clone" "()Ljava/lang/Object;" ∈ lw_all) (hnat : Cond.native ⟨"java/lang/Object", "clone", "()Ljava/lang/Object;"⟩ ∈ lw_all) (hinst : Cond.instanceMethod ⟨"java/lang/Object", "clone", "()Ljava/lang/Object;"⟩ ∈ lw_all)
    (hsel : Cond.selects "[B" ⟨"[B", "clone", "()Ljava/lang/Object;"⟩ ⟨"java/lang/Object", "clone", "()Ljava/lang/Object;"⟩ ∈ lw_all) (hcl : Cond.castable "[B" "java/lang/Cloneable" ∈ lw_tbl) (hw : Cond.arrayClass .byte ∈ lw_all)
    (hG : G.1 a = some (g_ab E n f)) (hfit : ∀ i, i < n → fits .byte (.int (f i)) = true) (hc : G.2.1 + 1 ≤ g_capC E) (hs : G.2.2 + n ≤ g_capS E) (hlen : st.length ≤ 14) (hdd : 1 ≤ d) (hd : decode M.2.1 pc = .ok (.invokevirtual i, 3)) (k : V l E M d P (pc + 3) L (.ref G.2.1 :: st) (g_new G (g_ab E n f) n)) : V l E M d P pc L (.ref a :: st) G := by
  intro p e R s m args below meth c locs ls H C hR h1 h2 h3 hl T hT X
  obtain ⟨r1, r2, r3, r4⟩ := C.room
  have hz := hR.1
  have hu := hR.2.1
  have hsum := g_sum st
  obtain ⟨w1, w2⟩ := g_arrA C.ok C.W hw
  have hcell : H[a]? = some (vp_cell (g_A E .byte) (n, .inl f)) := hR.va hG
  have hsz : (vp_cell (g_A E .byte) (n, .inl f)).slots.size = n := vp_cell_size _ _
  obtain ⟨c0, t0', f1, f2, f3⟩ := Cond.castable_spec (va_Nw.use (A := args) rfl (g_castW C.ok C.W hcl))
  cases (show s.vm.findClass "[B" = some (g_A E .byte) from w2).symm.trans f1
  obtain ⟨-, kA, hkA, comp, hkind⟩ := State.isArrayOf_alike X.warmed.alike (w1 0 (fun _ => .null))
  obtain ⟨-, kS, hkS, compS, hkindS⟩ := w1 0 (fun _ => .null)
  obtain ⟨vm', X', st'⟩ := X.cloneArray C.x C.own (C.w hlink args) (C.w hsame args) (C.w hnat args) (C.w hinst args) (C.w hsel args) (a := a) (cell := vp_cell (g_A E .byte) (n, .inl f)) (by rw [hT]; exact hcell) (fun k h => by cases h) (fun h => by cases h) w2 f2 f3
    (fun i v hv => by
      have hk' : T.vm.classes[g_A E .byte]? = some kA := hkA
      have hv' : (arrV (g_A E .byte) n (fun j => .int (f j))).slots[i]? = some v := hv
      have hfit : fits .byte v = true := by
        by_cases hi : i < n
        · rw [arrV_read _ _ hi] at hv'
          cases hv'
          exact hfit i hi
        · rw [Array.getElem?_eq_none (by rw [arrV_size]; omega)] at hv'
          cases hv'
      have hcc : (vp_cell (g_A E .byte) (n, .inl f)).cls = g_A E .byte := rfl
      rw [hcc]
      simpa [State.fitsSlot, State.slotType?, hk', hkind] using hfit)
    (g := F0 m pc ls (.ref a :: st)) rfl (by rw [C.ml]; exact hl.1) rfl (by rw [C.b]; exact hd) (by omega) (by show 2 * 0 + _ + 14 ≤ _; omega) (by omega) (by rw [hsz]; omega) (hloader := Vm.clonesLoader_of_array hkS hkindS)
  have hcellE : ({ cls := (vp_cell (g_A E .byte) (n, .inl f)).cls, slots := (vp_cell (g_A E .byte) (n, .inl f)).slots } : Cell) = vp_cell (g_A E .byte) (n, .inl f) := rfl
  rw [hcellE, hsz] at X'
  have hR1 := hR.push (y := g_ab E n f) (n := n) hc hs (vp_cell (g_A E .byte) (n, .inl f)) hsz (g_vaA (by show (H.push _)[G.2.1]? = _; rw [← hz]; exact Array.getElem?_push_size))
  have k9 := k p e R s m args below meth c locs ls _ C hR1 (by rw [Array.size_push]; omega) (by show s.slotsUsed ≤ G.2.2 + n; omega) h3 hl
  have e1 : (H.push (vp_cell (g_A E .byte) (n, .inl f))).size - s.heap.size = H.size - s.heap.size + 1 := by rw [Array.size_push]; omega
  have e2 : (g_new G (g_ab E n f) n).2.2 - s.slotsUsed = G.2.2 - s.slotsUsed + n := by show G.2.2 + n - s.slotsUsed = _; omega
  rw [e1, e2, ← hz] at k9
  obtain ⟨t, a1, b1⟩ := k9 ((T.setVm vm').pushCell (vp_cell (g_A E .byte) (n, .inl f))) (by rw [← hT]; rfl) X'
  refine ⟨t, st' t ?_, b1⟩
  rw [hcellE, hT]
  exact a1
theorem V_castAB {a n i : Nat} {f : Nat → Int32} (hlink : Cond.classLink M.1.cls i "[B" ∈ lw_all) (hw : Cond.arrayClass .byte ∈ lw_all) (hG : G.1 a = some (g_ab E n f)) (hd : decode M.2.1 pc = .ok (.checkcast i, 3)) (k : V l E M d P (pc + 3) L (.ref a :: st) G) : V l E M d P pc L (.ref a :: st) G := by
  intro p e R s m args below meth c locs ls H C hR h1 h2 h3 hl
  obtain ⟨w1, w2⟩ := g_arrA C.ok C.W hw
  exact va_castA C.x C.b C.own (C.w hlink args) (g_P1 hR hG) 0 rfl w2 hd (k p e R s m args below meth c locs ls H C hR h1 h2 h3 hl)
theorem cs_w : Cond.eq (.static "java/lang/String" "COMPACT_STRINGS" "Z") (.int 1) ∈ nrw := by decide +kernel
theorem cs_Z {l : Launch} {E : g_E} (ok : g_ok l E) : va_Z "java/lang/String" "COMPACT_STRINGS" "Z" (.int 1) (fun _ => False) E.1 E.1.heap :=
  va_Zof (ok.2.1 _ q300) (ok.2.1 _ (lw_all_tbl ckJ7.2.2.2.2.2.1)) (va_eqt (g_cond ok cs_w)) (fun _ _ h => h)
theorem V_cs {i : Nat} (hlink : Cond.fieldLink M.1.cls i "java/lang/String" "COMPACT_STRINGS" "Z" ∈ lw_all) (hd : decode M.2.1 pc = .ok (.getstatic i, 3)) (k : V l E M d P (pc + 3) L (.int 1 :: st) G) : V l E M d P pc L st G :=
  V_okk fun ok => V_gets (cs_Z ok) hlink rfl hd k
theorem fm_w : Cond.isRef (.static "jdk/internal/util/Preconditions" "SIOOBE_FORMATTER" "Ljava/util/function/BiFunction;") ∈ nrw := by decide +kernel
theorem V_fm {i : Nat} (hlink : Cond.fieldLink M.1.cls i "jdk/internal/util/Preconditions" "SIOOBE_FORMATTER" "Ljava/util/function/BiFunction;" ∈ lw_all) (hd : decode M.2.1 pc = .ok (.getstatic i, 3)) (k : ∀ r, V l E M d P (pc + 3) L (va_rf r :: st) G) : V l E M d P pc L st G :=
  V_okk fun ok => by
    obtain ⟨v, hv, hr⟩ := Cond.isRef_spec (g_cond ok fm_w)
    have Z := va_Zof (A := fun _ => False) (ok.2.1 _ q653) (ok.2.1 _ (lw_all_tbl kJ14_checkIndex.2.1)) hv (fun _ _ h => h)
    cases v with
    | null => exact V_gets Z hlink rfl hd (k none)
    | ref a => exact V_gets Z hlink rfl hd (k (some a))
    | _ => cases hr
end STR0
theorem isC.and255 {x : Int32} (h : isC x) : x &&& 255 = x := by
  have e : ∀ j, j < 128 → nI j &&& 255 = nI j := by decide +kernel
  obtain ⟨j, hj, rfl⟩ := h
  exact e j hj
theorem isC.i2b {x : Int32} (h : isC x) : x.toInt8.toInt32 = x := by
  have e : ∀ j, j < 128 → (nI j).toInt8.toInt32 = nI j := by decide +kernel
  obtain ⟨j, hj, rfl⟩ := h
  exact e j hj
theorem isC.fitB {x : Int32} (h : isC x) : fits .byte (.int x) = true := by
  have e : ∀ j, j < 128 → fits .byte (.int (nI j)) = true := by decide +kernel
  obtain ⟨j, hj, rfl⟩ := h
  exact e j hj
theorem isC.narB {x : Int32} (h : isC x) : vp_nar .byte x = x := by
  have e : ∀ j, j < 128 → vp_nar .byte (nI j) = nI j := by decide +kernel
  obtain ⟨j, hj, rfl⟩ := h
  exact e j hj
theorem isC.zero : isC 0 := ⟨0, by decide, rfl⟩
theorem i2b_eq {x : Int32} (h : isC x) {j : Nat} (hj : j < 256) : x = (nI j).toInt8.toInt32 ↔ x = nI j := by
  have e : ∀ j, j < 256 → 128 ≤ j → (nI j).toInt8.toInt32 < 0 := by decide +kernel
  by_cases hk : j < 128
  · rw [isC.i2b ⟨j, hk, rfl⟩]
  · obtain ⟨i, hi, rfl⟩ := h
    constructor
    · intro q
      have := e j hj (by omega)
      rw [← q] at this
      exact absurd this (nI_pos (by omega))
    · intro q
      exact absurd ((nI_eq (by omega) (by omega)).mp q) (by omega)
def idxF (c : Int32) : Nat → List Int32 → Int32
  | _, [] => -1
  | i, x :: t => if x = c then nI i else idxF c (i + 1) t
theorem idxF_none {c : Int32} : ∀ (L : List Int32) (i : Nat), (∀ x ∈ L, x ≠ c) → idxF c i L = -1
  | [], _, _ => rfl
  | x :: t, i, h => by
    show (if x = c then nI i else idxF c (i + 1) t) = -1
    rw [if_neg (h x List.mem_cons_self)]
    exact idxF_none t (i + 1) (fun y hy => h y (List.mem_cons_of_mem _ hy))
def hsh (w : List Int32) : Int32 := w.foldl (fun h c => 31 * h + c) 0
section STR
variable {l : Launch} {E : g_E} {P : Outcome → g_G → Prop} {G : g_G}
theorem str_isLatin1 {a : Nat} {w : List Int32} {h z : Int32} (H : StrR E G a w h z) (k : P (.returned (some (.int 1))) G) : g_Spc l E mJ7_isLatin1 0 [.ref a] G P := by
  obtain ⟨va, h1, f, h2, h3⟩ := H
  refine V_intro (plainFor_of_name plJ7) (Nat.le_of_ble_eq_true rfl) ?_
  refine V_cs q674 dJ7_isLatin1_0 ?_
  refine V_if_eq 17 dJ7_isLatin1_3 (by decide) (fun c3 => absurd c3 (by decide)) (fun _ => ?_)
  refine V_aload_n dJ7_isLatin1_6 rfl (Or.inl ⟨_, rfl⟩) ?_
  refine V_getR ckJ7 h1 1 (by decide) q814 rfl (by rfl) dJ7_isLatin1_7 ?_
  refine V_if_ne 17 dJ7_isLatin1_10 (by decide) (fun c10 => absurd c10 (fun q => q rfl)) (fun _ => ?_)
  refine V_iconstv 1 dJ7_isLatin1_13 (by decide) ?_
  refine V_goto 18 dJ7_isLatin1_14 (by decide) ?_
  refine V_zreturn dJ7_isLatin1_18 rfl rfl ?_
  exact k
theorem str_coder {a : Nat} {w : List Int32} {h z : Int32} (H : StrR E G a w h z) (k : P (.returned (some (.int 0))) G) : g_Spc l E mJ7_coder 0 [.ref a] G P := by
  obtain ⟨va, h1, f, h2, h3⟩ := H
  refine V_intro (plainFor_of_name plJ7) (Nat.le_of_ble_eq_true rfl) ?_
  refine V_cs q674 dJ7_coder_0 ?_
  refine V_if_eq 13 dJ7_coder_3 (by decide) (fun c3 => absurd c3 (by decide)) (fun _ => ?_)
  refine V_aload_n dJ7_coder_6 rfl (Or.inl ⟨_, rfl⟩) ?_
  refine V_getR ckJ7 h1 1 (by decide) q814 rfl (by rfl) dJ7_coder_7 ?_
  refine V_goto 14 dJ7_coder_10 (by decide) ?_
  refine V_zreturn dJ7_coder_14 rfl rfl ?_
  exact k
theorem str_length {a : Nat} {w : List Int32} {h z : Int32} (H : StrR E G a w h z) (k : P (.returned (some (.int (nI w.length)))) G) : g_Spc l E mJ7_length 1 [.ref a] G P := by
  have H0 := H
  obtain ⟨va, h1, f, h2, h3⟩ := H
  refine V_intro (plainFor_of_name plJ7) (Nat.le_of_ble_eq_true rfl) ?_
  refine V_aload_n dJ7_length_0 rfl (Or.inl ⟨_, rfl⟩) ?_
  refine V_getR ckJ7 h1 0 (by decide) q813 rfl (by rfl) dJ7_length_1 ?_
  refine V_alenR_b h2 q322 dJ7_length_4 ?_
  refine V_aload_n dJ7_length_5 rfl (Or.inl ⟨_, rfl⟩) ?_
  refine V_callVR (q := (RJ7, TJ7, 4)) kJ7_coder q670 q671 q672 h1 rfl dJ7_length_6 ?_ (d' := 0) (as := []) (hst := rfl)
  refine (str_coder H0 ?_)
  refine V_ishr dJ7_length_9 ?_
  rw [sb_shr0]
  refine V_ireturn dJ7_length_10 rfl ?_
  exact k
theorem jc_checkIndexR {i n b : Nat} (h : i < n) (hn : n < 2 ^ 31) (k : P (.returned (some (.int (nI i)))) G) : g_Spc l E mJ14_checkIndex 0 [.int (nI i), .int (nI n), .ref b] G P := by
  refine V_intro (plainFor_of_name plJ14) (Nat.le_of_ble_eq_true rfl) ?_
  refine V_iload_n dJ14_checkIndex_0 rfl ?_
  refine V_if_lt 9 dJ14_checkIndex_1 (by decide) (fun c1 => absurd c1 (nI_pos (by omega))) (fun _ => ?_)
  refine V_iload_n dJ14_checkIndex_4 rfl ?_
  refine V_iload_n dJ14_checkIndex_5 rfl ?_
  refine V_icmp_lt 16 dJ14_checkIndex_6 (by decide) (fun _ => ?_) (fun c6 => absurd (nI_lt h hn) c6)
  refine V_iload_n dJ14_checkIndex_16 rfl ?_
  refine V_ireturn dJ14_checkIndex_17 rfl ?_
  exact k
theorem str_checkIndex {i n : Nat} (h : i < n) (hn : n < 2 ^ 31) (k : P (.returned none) G) : g_Spc l E mJ7_checkIndex 1 [.int (nI i), .int (nI n)] G P := by
  refine V_intro (plainFor_of_name plJ7) (Nat.le_of_ble_eq_true rfl) ?_
  refine V_iload_n dJ7_checkIndex_0 rfl ?_
  refine V_iload_n dJ7_checkIndex_1 rfl ?_
  refine V_fm q652 dJ7_checkIndex_2 (fun r => ?_)
  cases r with
  | none =>
    refine V_callS kJ14_checkIndex q2261 q554 dJ7_checkIndex_5 ?_ (d' := 0) (as := [_, _, _]) (hst := rfl)
    refine (jc_checkIndex0 h hn ?_)
    refine V_pop dJ7_checkIndex_8 rfl ?_
    refine V_return dJ7_checkIndex_9 rfl ?_
    exact k
  | some b =>
    refine V_callS kJ14_checkIndex q2261 q554 dJ7_checkIndex_5 ?_ (d' := 0) (as := [_, _, _]) (hst := rfl)
    refine (jc_checkIndexR h hn ?_)
    refine V_pop dJ7_checkIndex_8 rfl ?_
    refine V_return dJ7_checkIndex_9 rfl ?_
    exact k
theorem la_charAt {va i n : Nat} {f : Nat → Int32} (h2 : g_rdA E G va .byte (n, .inl f)) (hi : i < n) (hn : n < 2 ^ 31) (hc : isC (f i)) (k : P (.returned (some (.int (f i)))) G) : g_Spc l E mJ19_charAt 2 [.ref va, .int (nI i)] G P := by
  have hin : vp_in (nI i) n := vp_in_nI hi hn
  refine V_intro (plainFor_of_name plJ19) (Nat.le_of_ble_eq_true rfl) ?_
  refine V_iload_n dJ19_charAt_0 rfl ?_
  refine V_aload_n dJ19_charAt_1 rfl (Or.inl ⟨_, rfl⟩) ?_
  refine V_alenR_b h2 q322 dJ19_charAt_2 ?_
  refine V_callS kJ7_checkIndex q2258 q2259 dJ19_charAt_3 ?_ (d' := 1) (as := [_, _]) (hst := rfl)
  refine (str_checkIndex hi hn ?_)
  refine V_aload_n dJ19_charAt_6 rfl (Or.inl ⟨_, rfl⟩) ?_
  refine V_iload_n dJ19_charAt_7 rfl ?_
  refine V_baloadR h2 hin q322 dJ19_charAt_8 ?_
  rw [nI_clamp (by omega)]
  refine V_sipushv 255 dJ19_charAt_9 (by decide) ?_
  refine V_iand dJ19_charAt_12 ?_
  rw [hc.and255]
  refine V_i2c dJ19_charAt_13 ?_
  rw [hc.i2c]
  refine V_zreturn dJ19_charAt_14 rfl hc.nar ?_
  exact k
theorem str_charAt {a i : Nat} {w : List Int32} {h z c x : Int32} (H : StrR E G a w h z) (hl : w.length < 2 ^ 31) (hx : x = nI i) (hi : w[i]? = some c) (hc : isC c) (k : P (.returned (some (.int c))) G) : g_Spc l E mJ7_charAt 3 [.ref a, .int x] G P := by
  subst hx
  have H0 := H
  obtain ⟨va, h1, f, h2, h3⟩ := H
  have e := h3 i c hi
  have hlt : i < w.length := (List.getElem?_eq_some_iff.mp hi).1
  refine V_intro (plainFor_of_name plJ7) (Nat.le_of_ble_eq_true rfl) ?_
  refine V_aload_n dJ7_charAt_0 rfl (Or.inl ⟨_, rfl⟩) ?_
  refine V_callVR (q := (RJ7, TJ7, 4)) kJ7_isLatin1 q957 q958 q959 h1 rfl dJ7_charAt_1 ?_ (d' := 0) (as := []) (hst := rfl)
  refine (str_isLatin1 H0 ?_)
  refine V_if_eq 16 dJ7_charAt_4 (by decide) (fun c4 => absurd c4 (by decide)) (fun _ => ?_)
  refine V_aload_n dJ7_charAt_7 rfl (Or.inl ⟨_, rfl⟩) ?_
  refine V_getR ckJ7 h1 0 (by decide) q813 rfl (by rfl) dJ7_charAt_8 ?_
  refine V_iload_n dJ7_charAt_11 rfl ?_
  refine V_callS kJ19_charAt q2255 q2256 dJ7_charAt_12 ?_ (d' := 2) (as := [_, _]) (hst := rfl)
  refine (la_charAt h2 hlt hl (by rw [e]; exact hc) ?_)
  refine V_zreturn dJ7_charAt_15 rfl (by rw [e]; exact hc.nar) ?_
  rw [e]
  exact k
theorem str_toString {a : Nat} (k : P (.returned (some (.ref a))) G) : g_Spc l E mJ7_toString 0 [.ref a] G P := by
  refine V_intro (plainFor_of_name plJ7) (Nat.le_of_ble_eq_true rfl) ?_
  refine V_aload_n dJ7_toString_0 rfl (Or.inl ⟨_, rfl⟩) ?_
  refine V_areturnO dJ7_toString_1 rfl ?_
  exact k
theorem la_canEncode {c : Int32} (kk : ∀ b : Bool, b = isb c 0 255 → P (.returned (some (.int (b2i b)))) G) : g_Spc l E mJ19_canEncode 0 [.int c] G P := by
  refine V_intro (plainFor_of_name plJ19) (Nat.le_of_ble_eq_true rfl) ?_
  refine V_iload_n dJ19_canEncode_0 rfl ?_
  refine V_if_lt 15 dJ19_canEncode_1 (by decide) (fun c1 => ?_) (fun c1 => ?_)
  · refine V_iconstv 0 dJ19_canEncode_15 (by decide) ?_
    refine V_zreturn dJ19_canEncode_16 rfl rfl ?_
    refine kk false ?_
    unfold isb
    rw [decide_eq_false (Int32.not_le.mpr c1)]
    rfl
  · refine V_iload_n dJ19_canEncode_4 rfl ?_
    refine V_sipushv 255 dJ19_canEncode_5 (by decide) ?_
    refine V_icmp_gt 15 dJ19_canEncode_8 (by decide) (fun c8 => ?_) (fun c8 => ?_)
    · refine V_iconstv 0 dJ19_canEncode_15 (by decide) ?_
      refine V_zreturn dJ19_canEncode_16 rfl rfl ?_
      refine kk false ?_
      unfold isb
      rw [decide_eq_false (p := c ≤ 255) (Int32.not_le.mpr c8), Bool.and_false]
    · refine V_iconstv 1 dJ19_canEncode_11 (by decide) ?_
      refine V_goto 16 dJ19_canEncode_12 (by decide) ?_
      refine V_zreturn dJ19_canEncode_16 rfl rfl ?_
      refine kk true ?_
      unfold isb
      rw [decide_eq_true (Int32.not_lt.mp c1), decide_eq_true (p := c ≤ 255) (Int32.not_lt.mp c8)]
      rfl
theorem la_indexOfChar {va j : Nat} {w : List Int32} {f : Nat → Int32} (hA : g_rdA E G va .byte (w.length, .inl f)) (hf : ∀ k x, w[k]? = some x → f k = x) (hw : ∀ x ∈ w, isC x) (hl : w.length < 2 ^ 31) (hj : j < 256) (k : P (.returned (some (.int (idxF (nI j) 0 w)))) G) : g_Spc l E mJ19_indexOfChar 0 [.ref va, .int (nI j), .int (nI 0), .int (nI w.length)] G P := by
  refine V_intro (plainFor_of_name plJ19) (Nat.le_of_ble_eq_true rfl) ?_
  have loop : ∀ i, i ≤ w.length → (P (.returned (some (.int (idxF (nI j) i (w.drop i))))) G) → V l E mJ19_indexOfChar 0 P 7 [(0, .ref va), (1, .int (nI j)), (2, .int (nI 0)), (3, .int (nI w.length)), (4, .int (nI j).toInt8.toInt32), (5, .int (nI i))] [] G := by
    refine down _ ?_ ?_
    · intro k
      rw [List.drop_eq_nil_of_le (Nat.le_refl _)] at k
      refine V_iload dJ19_indexOfChar_7 rfl ?_
      refine V_iload_n dJ19_indexOfChar_9 rfl ?_
      refine V_icmp_ge 31 dJ19_indexOfChar_10 (by decide) (fun _ => ?_) (fun c10 => absurd (Int32.le_refl _) c10)
      refine V_iconstv (-1) dJ19_indexOfChar_31 (by decide) ?_
      refine V_ireturn dJ19_indexOfChar_32 rfl ?_
      exact k
    · intro i hi ih k
      obtain ⟨x, hx, e⟩ := drop_at hi
      rw [e] at k
      have k : P (.returned (some (.int (if x = nI j then nI i else idxF (nI j) (i + 1) (w.drop (i + 1)))))) G := k
      have hin : vp_in (nI i) w.length := vp_in_nI hi hl
      have hxc := hw x (List.mem_of_getElem? hx)
      refine V_iload dJ19_indexOfChar_7 rfl ?_
      refine V_iload_n dJ19_indexOfChar_9 rfl ?_
      refine V_icmp_ge 31 dJ19_indexOfChar_10 (by decide) (fun c10 => absurd c10 (nI_ge hi hl)) (fun _ => ?_)
      refine V_aload_n dJ19_indexOfChar_13 rfl (Or.inl ⟨_, rfl⟩) ?_
      refine V_iload dJ19_indexOfChar_14 rfl ?_
      refine V_baloadR hA hin q322 dJ19_indexOfChar_16 ?_
      rw [nI_clamp (by omega), hf i x hx]
      refine V_iload dJ19_indexOfChar_17 rfl ?_
      refine V_icmp_ne 25 dJ19_indexOfChar_19 (by decide) (fun c19 => ?_) (fun c19 => ?_)
      · refine V_iinc dJ19_indexOfChar_25 rfl (by decide) ?_
        refine V_goto 7 dJ19_indexOfChar_28 (by decide) ?_
        rw [if_neg (fun q => c19 ((i2b_eq hxc hj).mpr q))] at k
        refine V_subk (ih k) ⟨rfl, rfl, rfl, rfl, rfl, ?_, trivial⟩
        rw [← nI_1 i]; rfl
      · refine V_iload dJ19_indexOfChar_22 rfl ?_
        refine V_ireturn dJ19_indexOfChar_24 rfl ?_
        rw [if_pos ((i2b_eq hxc hj).mp c19)] at k
        exact k
  refine V_iload_n dJ19_indexOfChar_0 rfl ?_
  refine V_i2b dJ19_indexOfChar_1 ?_
  refine V_istore dJ19_indexOfChar_2 (by decide) ?_
  refine V_iload_n dJ19_indexOfChar_4 rfl ?_
  refine V_istore dJ19_indexOfChar_5 (by decide) ?_
  refine V_subk (loop 0 (Nat.zero_le _) k) ⟨rfl, rfl, rfl, rfl, rfl, rfl, trivial⟩
theorem la_indexOf {va : Nat} {w : List Int32} {f : Nat → Int32} {c : Int32} (hA : g_rdA E G va .byte (w.length, .inl f)) (hf : ∀ k x, w[k]? = some x → f k = x) (hw : ∀ x ∈ w, isC x) (hl : w.length < 2 ^ 31) (k : P (.returned (some (.int (idxF c 0 w)))) G) : g_Spc l E mJ19_indexOf 1 [.ref va, .int c, .int 0, .int (nI w.length)] G P := by
  refine V_intro (plainFor_of_name plJ19) (Nat.le_of_ble_eq_true rfl) ?_
  refine V_iload_n dJ19_indexOf_0 rfl ?_
  refine V_callS kJ19_canEncode q1204 q1205 dJ19_indexOf_1 ?_ (d' := 0) (as := [_]) (hst := rfl)
  refine (la_canEncode (fun b hb => ?_))
  cases b with
  | false =>
    refine V_if_ne 9 dJ19_indexOf_4 (by decide) (fun c4 => absurd c4 (fun q => q rfl)) (fun _ => ?_)
    refine V_iconstv (-1) dJ19_indexOf_7 (by decide) ?_
    refine V_ireturn dJ19_indexOf_8 rfl ?_
    rw [idxF_none w 0 (fun x hx e => by
      obtain ⟨i, hi, rfl⟩ := hw x hx
      have h9 : isb c 0 255 = true := by
        rw [← e]
        have q : ∀ i, i < 128 → isb (nI i) 0 255 = true := by decide +kernel
        exact q i hi
      rw [h9] at hb
      cases hb)] at k
    exact k
  | true =>
    have hc : ∃ j, j < 256 ∧ c = nI j := by
      unfold isb at hb
      have hb := hb.symm
      rw [Bool.and_eq_true] at hb
      have h1 := Int32.le_iff_toInt_le.mp (of_decide_eq_true hb.1)
      have h2 := Int32.le_iff_toInt_le.mp (of_decide_eq_true hb.2)
      have h1 : 0 ≤ c.toInt := h1
      have h2 : c.toInt ≤ 255 := h2
      refine ⟨c.toInt.toNat, by omega, ?_⟩
      apply Int32.toInt_inj.mp
      rw [nI_toInt (by omega)]
      omega
    obtain ⟨j, hj, rfl⟩ := hc
    refine V_if_ne 9 dJ19_indexOf_4 (by decide) (fun _ => ?_) (fun c4 => absurd c4 (by decide))
    refine V_iload_n dJ19_indexOf_9 rfl ?_
    refine V_iconstv 0 dJ19_indexOf_10 (by decide) ?_
    refine V_callS kJ17_max q1207 q612 dJ19_indexOf_11 ?_ (d' := 0) (as := [_, _]) (hst := rfl)
    refine (math_max ?_)
    rw [show i_max 0 0 = nI 0 from rfl]
    refine V_istore_n dJ19_indexOf_14 (by decide) ?_
    refine V_iload_n dJ19_indexOf_15 rfl ?_
    refine V_aload_n dJ19_indexOf_16 rfl (Or.inl ⟨_, rfl⟩) ?_
    refine V_alenR_b hA q322 dJ19_indexOf_17 ?_
    refine V_callS kJ17_min q1208 q630 dJ19_indexOf_18 ?_ (d' := 0) (as := [_, _]) (hst := rfl)
    refine (math_min ?_)
    rw [show i_min (nI w.length) (nI w.length) = nI w.length from if_neg (fun q => Int32.lt_irrefl q)]
    by_cases h0 : w.length = 0
    · have e : w = [] := List.eq_nil_of_length_eq_zero h0
      subst e
      refine V_istore_n dJ19_indexOf_21 (by decide) ?_
      refine V_iload_n dJ19_indexOf_22 rfl ?_
      refine V_iload_n dJ19_indexOf_23 rfl ?_
      refine V_icmp_lt 29 dJ19_indexOf_24 (by decide) (fun c24 => absurd c24 (fun q => Int32.lt_irrefl q)) (fun _ => ?_)
      refine V_iconstv (-1) dJ19_indexOf_27 (by decide) ?_
      refine V_ireturn dJ19_indexOf_28 rfl ?_
      exact k
    · refine V_istore_n dJ19_indexOf_21 (by decide) ?_
      refine V_iload_n dJ19_indexOf_22 rfl ?_
      refine V_iload_n dJ19_indexOf_23 rfl ?_
      refine V_icmp_lt 29 dJ19_indexOf_24 (by decide) (fun _ => ?_) (fun c24 => absurd (nI_lt (Nat.pos_of_ne_zero h0) hl) c24)
      refine V_aload_n dJ19_indexOf_29 rfl (Or.inl ⟨_, rfl⟩) ?_
      refine V_iload_n dJ19_indexOf_30 rfl ?_
      refine V_iload_n dJ19_indexOf_31 rfl ?_
      refine V_iload_n dJ19_indexOf_32 rfl ?_
      refine V_callS kJ19_indexOfChar q1209 q1210 dJ19_indexOf_33 ?_ (d' := 0) (as := [_, _, _, _]) (hst := rfl)
      refine (la_indexOfChar hA hf hw hl hj ?_)
      refine V_ireturn dJ19_indexOf_36 rfl ?_
      exact k
theorem str_indexOf_2 {a : Nat} {w : List Int32} {h z c : Int32} (H : StrR E G a w h z) (hw : ∀ x ∈ w, isC x) (hl : w.length < 2 ^ 31) (k : P (.returned (some (.int (idxF c 0 w)))) G) : g_Spc l E mJ7_indexOf_2 2 [.ref a, .int c, .int 0] G P := by
  have H0 := H
  obtain ⟨va, h1, f, h2, h3⟩ := H
  refine V_intro (plainFor_of_name plJ7) (Nat.le_of_ble_eq_true rfl) ?_
  refine V_aload_n dJ7_indexOf_2_0 rfl (Or.inl ⟨_, rfl⟩) ?_
  refine V_callVR (q := (RJ7, TJ7, 4)) kJ7_isLatin1 q957 q958 q959 h1 rfl dJ7_indexOf_2_1 ?_ (d' := 0) (as := []) (hst := rfl)
  refine (str_isLatin1 H0 ?_)
  refine V_if_eq 23 dJ7_indexOf_2_4 (by decide) (fun c4 => absurd c4 (by decide)) (fun _ => ?_)
  refine V_aload_n dJ7_indexOf_2_7 rfl (Or.inl ⟨_, rfl⟩) ?_
  refine V_getR ckJ7 h1 0 (by decide) q813 rfl (by rfl) dJ7_indexOf_2_8 ?_
  refine V_iload_n dJ7_indexOf_2_11 rfl ?_
  refine V_iload_n dJ7_indexOf_2_12 rfl ?_
  refine V_aload_n dJ7_indexOf_2_13 rfl (Or.inl ⟨_, rfl⟩) ?_
  refine V_callVR (q := (RJ7, TJ7, 4)) kJ7_length q1200 q667 q668 h1 rfl dJ7_indexOf_2_14 ?_ (d' := 1) (as := []) (hst := rfl)
  refine (str_length H0 ?_)
  refine V_callS kJ19_indexOf q1201 q1202 dJ7_indexOf_2_17 ?_ (d' := 1) (as := [_, _, _, _]) (hst := rfl)
  refine (la_indexOf h2 h3 hw hl ?_)
  refine V_goto 36 dJ7_indexOf_2_20 (by decide) ?_
  refine V_ireturn dJ7_indexOf_2_36 rfl ?_
  exact k
theorem str_indexOf {a : Nat} {w : List Int32} {h z c : Int32} (H : StrR E G a w h z) (hw : ∀ x ∈ w, isC x) (hl : w.length < 2 ^ 31) (k : P (.returned (some (.int (idxF c 0 w)))) G) : g_Spc l E mJ7_indexOf 3 [.ref a, .int c] G P := by
  have H0 := H
  obtain ⟨va, h1, f, h2, h3⟩ := H
  refine V_intro (plainFor_of_name plJ7) (Nat.le_of_ble_eq_true rfl) ?_
  refine V_aload_n dJ7_indexOf_0 rfl (Or.inl ⟨_, rfl⟩) ?_
  refine V_iload_n dJ7_indexOf_1 rfl ?_
  refine V_iconstv 0 dJ7_indexOf_2 (by decide) ?_
  refine V_callVR (q := (RJ7, TJ7, 4)) kJ7_indexOf_2 q1196 q1197 q1198 h1 rfl dJ7_indexOf_3 ?_ (d' := 2) (as := [_, _]) (hst := rfl)
  refine (str_indexOf_2 H0 hw hl ?_)
  refine V_ireturn dJ7_indexOf_6 rfl ?_
  exact k
theorem la_equals {va vb : Nat} {w : List Int32} {f g : Nat → Int32} (hA : g_rdA E G va .byte (w.length, .inl f)) (hf : ∀ k x, w[k]? = some x → f k = x) (hA2 : g_rdA E G vb .byte (w.length, .inl g)) (hg : ∀ k x, w[k]? = some x → g k = x) (hl : w.length < 2 ^ 31) (k : P (.returned (some (.int 1))) G) : g_Spc l E mJ19_equals 0 [.ref va, .ref vb] G P := by
  refine V_intro (plainFor_of_name plJ19) (Nat.le_of_ble_eq_true rfl) ?_
  have loop : ∀ i, i ≤ w.length → V l E mJ19_equals 0 P 9 [(0, .ref va), (1, .ref vb), (2, .int (nI i))] [] G := by
    refine down _ ?_ ?_
    · refine V_iload_n dJ19_equals_9 rfl ?_
      refine V_aload_n dJ19_equals_10 rfl (Or.inl ⟨_, rfl⟩) ?_
      refine V_alenR_b hA q322 dJ19_equals_11 ?_
      refine V_icmp_ge 32 dJ19_equals_12 (by decide) (fun _ => ?_) (fun c12 => absurd (Int32.le_refl _) c12)
      refine V_iconstv 1 dJ19_equals_32 (by decide) ?_
      refine V_zreturn dJ19_equals_33 rfl rfl ?_
      exact k
    · intro i hi ih
      obtain ⟨x, hx, -⟩ := drop_at hi
      have hin : vp_in (nI i) w.length := vp_in_nI hi hl
      refine V_iload_n dJ19_equals_9 rfl ?_
      refine V_aload_n dJ19_equals_10 rfl (Or.inl ⟨_, rfl⟩) ?_
      refine V_alenR_b hA q322 dJ19_equals_11 ?_
      refine V_icmp_ge 32 dJ19_equals_12 (by decide) (fun c12 => absurd c12 (nI_ge hi hl)) (fun _ => ?_)
      refine V_aload_n dJ19_equals_15 rfl (Or.inl ⟨_, rfl⟩) ?_
      refine V_iload_n dJ19_equals_16 rfl ?_
      refine V_baloadR hA hin q322 dJ19_equals_17 ?_
      rw [nI_clamp (by omega), hf i x hx]
      refine V_aload_n dJ19_equals_18 rfl (Or.inl ⟨_, rfl⟩) ?_
      refine V_iload_n dJ19_equals_19 rfl ?_
      refine V_baloadR hA2 hin q322 dJ19_equals_20 ?_
      rw [nI_clamp (by omega), hg i x hx]
      refine V_icmp_eq 26 dJ19_equals_21 (by decide) (fun _ => ?_) (fun c21 => absurd rfl c21)
      refine V_iinc dJ19_equals_26 rfl (by decide) ?_
      refine V_goto 9 dJ19_equals_29 (by decide) ?_
      refine V_subk ih ⟨rfl, rfl, ?_, trivial⟩
      rw [← nI_1 i]; rfl
  refine V_aload_n dJ19_equals_0 rfl (Or.inl ⟨_, rfl⟩) ?_
  refine V_alenR_b hA q322 dJ19_equals_1 ?_
  refine V_aload_n dJ19_equals_2 rfl (Or.inl ⟨_, rfl⟩) ?_
  refine V_alenR_b hA2 q322 dJ19_equals_3 ?_
  refine V_icmp_ne 34 dJ19_equals_4 (by decide) (fun c4 => absurd c4 (fun q => q rfl)) (fun _ => ?_)
  refine V_iconstv 0 dJ19_equals_7 (by decide) ?_
  refine V_istore_n dJ19_equals_8 (by decide) ?_
  exact V_subk (loop 0 (Nat.zero_le _)) ⟨rfl, rfl, rfl, trivial⟩
theorem str_equals {a b : Nat} {w : List Int32} {h z h' z' : Int32} (H : StrR E G a w h z) (K : StrR E G b w h' z') (hl : w.length < 2 ^ 31) (k : P (.returned (some (.int 1))) G) : g_Spc l E mJ7_equals 1 [.ref a, .ref b] G P := by
  obtain ⟨va, h1, f, h2, h3⟩ := H
  obtain ⟨vb, g1, g, g2, g3⟩ := K
  refine V_intro (plainFor_of_name plJ7) (Nat.le_of_ble_eq_true rfl) ?_
  refine V_aload_n dJ7_equals_0 rfl (Or.inl ⟨_, rfl⟩) ?_
  refine V_aload_n dJ7_equals_1 rfl (Or.inl ⟨_, rfl⟩) ?_
  refine V_acmp_ne (rx := some a) (ry := some b) 7 dJ7_equals_2 (by decide) (fun _ => ?_) (fun _ => ?_)
  · refine V_aload_n dJ7_equals_7 rfl (Or.inl ⟨_, rfl⟩) ?_
    refine V_instSR (q := (RJ7, TJ7, 4)) g1 rfl q1019 dJ7_equals_8 ?_
    refine V_if_eq 54 dJ7_equals_11 (by decide) (fun c11 => absurd c11 (by decide)) (fun _ => ?_)
    refine V_aload_n dJ7_equals_14 rfl (Or.inl ⟨_, rfl⟩) ?_
    refine V_castSR (q := (RJ7, TJ7, 4)) g1 rfl q1019 dJ7_equals_15 ?_
    refine V_astore_n dJ7_equals_18 (Or.inl ⟨_, rfl⟩) (by decide) ?_
    refine V_cs q674 dJ7_equals_19 ?_
    refine V_if_eq 36 dJ7_equals_22 (by decide) (fun c22 => absurd c22 (by decide)) (fun _ => ?_)
    refine V_aload_n dJ7_equals_25 rfl (Or.inl ⟨_, rfl⟩) ?_
    refine V_getR ckJ7 h1 1 (by decide) q814 rfl (by rfl) dJ7_equals_26 ?_
    refine V_aload_n dJ7_equals_29 rfl (Or.inl ⟨_, rfl⟩) ?_
    refine V_getR ckJ7 g1 1 (by decide) q814 rfl (by rfl) dJ7_equals_30 ?_
    refine V_icmp_ne 54 dJ7_equals_33 (by decide) (fun c33 => absurd c33 (fun q => q rfl)) (fun _ => ?_)
    refine V_aload_n dJ7_equals_36 rfl (Or.inl ⟨_, rfl⟩) ?_
    refine V_getR ckJ7 h1 0 (by decide) q813 rfl (by rfl) dJ7_equals_37 ?_
    refine V_aload_n dJ7_equals_40 rfl (Or.inl ⟨_, rfl⟩) ?_
    refine V_getR ckJ7 g1 0 (by decide) q813 rfl (by rfl) dJ7_equals_41 ?_
    refine V_callS kJ19_equals q1020 q1021 dJ7_equals_44 ?_ (d' := 0) (as := [_, _]) (hst := rfl)
    refine (la_equals h2 h3 g2 g3 hl ?_)
    refine V_if_eq 54 dJ7_equals_47 (by decide) (fun c47 => absurd c47 (by decide)) (fun _ => ?_)
    refine V_iconstv 1 dJ7_equals_50 (by decide) ?_
    refine V_goto 55 dJ7_equals_51 (by decide) ?_
    refine V_zreturn dJ7_equals_55 rfl rfl ?_
    exact k
  · refine V_iconstv 1 dJ7_equals_5 (by decide) ?_
    refine V_zreturn dJ7_equals_6 rfl rfl ?_
    exact k
/-! hash -/
theorem la_hash0 {va : Nat} {w : List Int32} {f : Nat → Int32} (hA : G.1 va = some (g_ab E w.length f)) (hf : ∀ k x, w[k]? = some x → f k = x) (hw : ∀ x ∈ w, isC x) (hl : w.length < 2 ^ 30) (k : P (.returned (some (.int (hsh w)))) G) : g_Spc l E mJ16_signedHashCode 0 [.int 0, .ref va, .int (nI 0), .int (nI w.length)] G P := by
  refine V_intro (plainFor_of_name plJ16) (Nat.le_of_ble_eq_true rfl) ?_
  have loop : ∀ i, i ≤ w.length → ∀ s, P (.returned (some (.int ((w.drop i).foldl (fun h c => 31 * h + c) s)))) G → V l E mJ16_signedHashCode 0 P 8 [(0, .int s), (1, .ref va), (2, .int (nI 0)), (3, .int (nI w.length)), (4, .int (nI w.length)), (5, .int (nI i))] [] G := by
    refine down _ ?_ ?_
    · intro s k
      rw [List.drop_eq_nil_of_le (Nat.le_refl _)] at k
      refine V_iload dJ16_signedHashCode_8 rfl ?_
      refine V_iload dJ16_signedHashCode_10 rfl ?_
      refine V_icmp_ge 35 dJ16_signedHashCode_12 (by decide) (fun _ => ?_) (fun c12 => absurd (Int32.le_refl _) c12)
      refine V_iload_n dJ16_signedHashCode_35 rfl ?_
      refine V_ireturn dJ16_signedHashCode_36 rfl ?_
      exact k
    · intro i hi ih s k
      obtain ⟨x, hx, e⟩ := drop_at hi
      rw [e] at k
      have hin : vp_in (nI i) w.length := vp_in_nI hi (by omega)
      refine V_iload dJ16_signedHashCode_8 rfl ?_
      refine V_iload dJ16_signedHashCode_10 rfl ?_
      refine V_icmp_ge 35 dJ16_signedHashCode_12 (by decide) (fun c12 => absurd c12 (nI_ge hi (by omega))) (fun _ => ?_)
      refine V_bipushv 31 dJ16_signedHashCode_15 (by decide) ?_
      refine V_iload_n dJ16_signedHashCode_17 rfl ?_
      refine V_imul dJ16_signedHashCode_18 ?_
      refine V_aload_n dJ16_signedHashCode_19 rfl (Or.inl ⟨_, rfl⟩) ?_
      refine V_iload dJ16_signedHashCode_20 rfl ?_
      refine V_baload (by first | assumption | (repeat (first | exact g_up_at | exact g_new_at rfl | assumption | refine g_up_of (by first | assumption | (simp only [g_new, g_up]; omega) | omega) ?_ | refine g_new_of (by first | assumption | (simp only [g_new, g_up]; omega) | omega) ?_))) (by first | assumption | exact g_in (by decide)) q322 dJ16_signedHashCode_22 ?_
      rw [nI_clamp (by omega), hf i x hx]
      refine V_sipushv 255 dJ16_signedHashCode_23 (by decide) ?_
      refine V_iand dJ16_signedHashCode_26 ?_
      rw [(hw x (List.mem_of_getElem? hx)).and255]
      refine V_iadd dJ16_signedHashCode_27 ?_
      refine V_istore_n dJ16_signedHashCode_28 (by decide) ?_
      refine V_iinc dJ16_signedHashCode_29 rfl (by decide) ?_
      refine V_goto 8 dJ16_signedHashCode_32 (by decide) ?_
      refine V_subk (ih _ k) ⟨rfl, rfl, rfl, rfl, rfl, ?_, trivial⟩
      rw [← nI_1 i]; rfl
  refine V_iload_n dJ16_signedHashCode_0 rfl ?_
  refine V_iload_n dJ16_signedHashCode_1 rfl ?_
  refine V_iadd dJ16_signedHashCode_2 ?_
  rw [show nI 0 + nI w.length = nI w.length from by rw [show nI 0 = 0 from rfl, Int32.zero_add]]
  refine V_istore dJ16_signedHashCode_3 (by decide) ?_
  refine V_iload_n dJ16_signedHashCode_5 rfl ?_
  refine V_istore dJ16_signedHashCode_6 (by decide) ?_
  exact V_subk (loop 0 (Nat.zero_le _) 0 k) ⟨rfl, rfl, rfl, rfl, rfl, rfl, trivial⟩
theorem la_hash1 {va : Nat} {w : List Int32} {f : Nat → Int32} (hA : G.1 va = some (g_ab E w.length f)) (hf : ∀ k x, w[k]? = some x → f k = x) (hw : ∀ x ∈ w, isC x) (hl : w.length < 2 ^ 30) (k : P (.returned (some (.int (hsh w)))) G) : g_Spc l E mJ16_vectorizedHashCode 1 [.ref va, .int 0, .int (nI w.length), .int 0, .int 4] G P := by
  refine V_intro (plainFor_of_name plJ16) (Nat.le_of_ble_eq_true rfl) ?_
  refine V_iload dJ16_vectorizedHashCode_0 rfl ?_
  refine V_tableIn 44 dJ16_vectorizedHashCode_2 (by decide) (by decide) rfl (by decide) ?_
  refine V_iload_n dJ16_vectorizedHashCode_44 rfl ?_
  refine V_aload_n dJ16_vectorizedHashCode_45 rfl (Or.inl ⟨_, rfl⟩) ?_
  refine V_castAB q967 q322 (by first | assumption | (repeat (first | exact g_up_at | exact g_new_at rfl | assumption | refine g_up_of (by first | assumption | (simp only [g_new, g_up]; omega) | omega) ?_ | refine g_new_of (by first | assumption | (simp only [g_new, g_up]; omega) | omega) ?_))) dJ16_vectorizedHashCode_46 ?_
  refine V_iload_n dJ16_vectorizedHashCode_49 rfl ?_
  refine V_iload_n dJ16_vectorizedHashCode_50 rfl ?_
  refine V_callS kJ16_signedHashCode q968 q969 dJ16_vectorizedHashCode_51 ?_ (d' := 0) (as := [_, _, _, _]) (hst := rfl)
  refine (la_hash0 hA hf hw hl ?_)
  refine V_goto 157 dJ16_vectorizedHashCode_54 (by decide) ?_
  refine V_ireturn dJ16_vectorizedHashCode_157 rfl ?_
  exact k
theorem la_hash {va : Nat} {w : List Int32} {f : Nat → Int32} (hA : G.1 va = some (g_ab E w.length f)) (hf : ∀ k x, w[k]? = some x → f k = x) (hw : ∀ x ∈ w, isC x) (h2 : 2 ≤ w.length) (hl : w.length ≤ 20) (k : P (.returned (some (.int (hsh w)))) G) : g_Spc l E mJ19_hashCode 2 [.ref va] G P := by
  have ho : Op.lookupswitch.offset [(0, 26), (1, 30)] 40 (nI w.length).toInt = 40 := by
    have e : ∀ n, n ≤ 20 → 2 ≤ n → Op.lookupswitch.offset [(0, 26), (1, 30)] 40 (nI n).toInt = 40 := by decide +kernel
    exact e _ hl h2
  refine V_intro (plainFor_of_name plJ19) (Nat.le_of_ble_eq_true rfl) ?_
  refine V_aload_n dJ19_hashCode_0 rfl (Or.inl ⟨_, rfl⟩) ?_
  refine V_alen_b (by first | assumption | (repeat (first | exact g_up_at | exact g_new_at rfl | assumption | refine g_up_of (by first | assumption | (simp only [g_new, g_up]; omega) | omega) ?_ | refine g_new_of (by first | assumption | (simp only [g_new, g_up]; omega) | omega) ?_))) q322 dJ19_hashCode_1 ?_
  refine V_lookup (off := 40) 42 dJ19_hashCode_2 (by decide) ho (by decide) ?_
  refine V_aload_n dJ19_hashCode_42 rfl (Or.inl ⟨_, rfl⟩) ?_
  refine V_iconstv 0 dJ19_hashCode_43 (by decide) ?_
  refine V_aload_n dJ19_hashCode_44 rfl (Or.inl ⟨_, rfl⟩) ?_
  refine V_alen_b (by first | assumption | (repeat (first | exact g_up_at | exact g_new_at rfl | assumption | refine g_up_of (by first | assumption | (simp only [g_new, g_up]; omega) | omega) ?_ | refine g_new_of (by first | assumption | (simp only [g_new, g_up]; omega) | omega) ?_))) q322 dJ19_hashCode_45 ?_
  refine V_iconstv 0 dJ19_hashCode_46 (by decide) ?_
  refine V_iconstv 4 dJ19_hashCode_47 (by decide) ?_
  refine V_callS kJ16_vectorizedHashCode q964 q965 dJ19_hashCode_48 ?_ (d' := 1) (as := [_, _, _, _, _]) (hst := rfl)
  refine (la_hash1 hA hf hw (by omega) ?_)
  refine V_ireturn dJ19_hashCode_51 rfl ?_
  exact k
theorem str_hashC {a : Nat} {w : List Int32} {h z : Int32} (H : StrR E G a w h z) (h0 : h ≠ 0) (k : P (.returned (some (.int h))) G) : g_Spc l E mJ7_hashCode 3 [.ref a] G P := by
  obtain ⟨va, h1, f, h2, h3⟩ := H
  refine V_intro (plainFor_of_name plJ7) (Nat.le_of_ble_eq_true rfl) ?_
  refine V_aload_n dJ7_hashCode_0 rfl (Or.inl ⟨_, rfl⟩) ?_
  refine V_getR ckJ7 h1 2 (by decide) q815 rfl (by rfl) dJ7_hashCode_1 ?_
  refine V_istore_n dJ7_hashCode_4 (by decide) ?_
  refine V_iload_n dJ7_hashCode_5 rfl ?_
  refine V_if_ne 58 dJ7_hashCode_6 (by decide) (fun _ => ?_) (fun c6 => absurd c6 h0)
  refine V_iload_n dJ7_hashCode_58 rfl ?_
  refine V_ireturn dJ7_hashCode_59 rfl ?_
  exact k
/-- a String whose hash was not asked yet -/
def StrN (E : g_E) (G : g_G) (a : Nat) (w : List Int32) : Prop := ∃ va, G.1 a = some (g_ob 22 [.ref va, .int 0, .int 0, .int 0]) ∧ ∃ f, G.1 va = some (g_ab E w.length f) ∧ (∀ k c, w[k]? = some c → f k = c) ∧ a < va
theorem StrN.R {a : Nat} {w : List Int32} (H : StrN E G a w) : StrR E G a w 0 0 := by
  obtain ⟨va, h1, f, h2, h3, -⟩ := H
  exact ⟨va, Or.inl h1, f, Or.inl h2, h3⟩
theorem StrN.ke2 {a : Nat} {w : List Int32} {B : Nat → Prop} {G' : g_G} (H : StrN E G a w) (hk : g_ke B G G') (hb : ∀ q x, G.1 q = some x → isS x = true → B q) : StrN E G' a w := by
  obtain ⟨va, h1, f, h2, h3⟩ := H
  exact ⟨va, hk _ _ (hb _ _ h1 rfl) h1, f, hk _ _ (hb _ _ h2 rfl) h2, h3⟩
theorem str_hashN {a : Nat} {w : List Int32} (H : StrN E G a w) (hB : g_B E ≤ a) (hw : ∀ x ∈ w, isC x) (h2 : 2 ≤ w.length) (hl : w.length ≤ 20) (h0 : hsh w ≠ 0) (kk : ∀ G', G'.2 = G.2 → g_ke (fun q => q ≠ a) G G' → StrR E G' a w (hsh w) 0 → P (.returned (some (.int (hsh w)))) G') : g_Spc l E mJ7_hashCode 3 [.ref a] G P := by
  have H0 := H
  obtain ⟨va, h1, f, h2', h3, -⟩ := H
  have hne : va ≠ a := g_apart h2' h1 (by intro e; cases e)
  refine V_intro (plainFor_of_name plJ7) (Nat.le_of_ble_eq_true rfl) ?_
  refine V_aload_n dJ7_hashCode_0 rfl (Or.inl ⟨_, rfl⟩) ?_
  refine V_get ckJ7 (by first | assumption | (repeat (first | exact g_up_at | exact g_new_at rfl | assumption | refine g_up_of (by first | assumption | (simp only [g_new, g_up]; omega) | omega) ?_ | refine g_new_of (by first | assumption | (simp only [g_new, g_up]; omega) | omega) ?_))) 2 (by decide) q815 rfl (by rfl) dJ7_hashCode_1 ?_
  refine V_istore_n dJ7_hashCode_4 (by decide) ?_
  refine V_iload_n dJ7_hashCode_5 rfl ?_
  refine V_if_ne 58 dJ7_hashCode_6 (by decide) (fun c6 => absurd c6 (fun q => q rfl)) (fun _ => ?_)
  refine V_aload_n dJ7_hashCode_9 rfl (Or.inl ⟨_, rfl⟩) ?_
  refine V_get ckJ7 (by first | assumption | (repeat (first | exact g_up_at | exact g_new_at rfl | assumption | refine g_up_of (by first | assumption | (simp only [g_new, g_up]; omega) | omega) ?_ | refine g_new_of (by first | assumption | (simp only [g_new, g_up]; omega) | omega) ?_))) 3 (by decide) q816 rfl (by rfl) dJ7_hashCode_10 ?_
  refine V_if_ne 58 dJ7_hashCode_13 (by decide) (fun c13 => absurd c13 (fun q => q rfl)) (fun _ => ?_)
  refine V_aload_n dJ7_hashCode_16 rfl (Or.inl ⟨_, rfl⟩) ?_
  refine V_callV (q := (RJ7, TJ7, 4)) kJ7_isLatin1 q957 q958 q959 h1 rfl dJ7_hashCode_17 ?_ (d' := 0) (as := []) (hst := rfl)
  refine (str_isLatin1 H0.R ?_)
  refine V_if_eq 33 dJ7_hashCode_20 (by decide) (fun c20 => absurd c20 (by decide)) (fun _ => ?_)
  refine V_aload_n dJ7_hashCode_23 rfl (Or.inl ⟨_, rfl⟩) ?_
  refine V_get ckJ7 (by first | assumption | (repeat (first | exact g_up_at | exact g_new_at rfl | assumption | refine g_up_of (by first | assumption | (simp only [g_new, g_up]; omega) | omega) ?_ | refine g_new_of (by first | assumption | (simp only [g_new, g_up]; omega) | omega) ?_))) 0 (by decide) q813 rfl (by rfl) dJ7_hashCode_24 ?_
  refine V_callS kJ19_hashCode q961 q962 dJ7_hashCode_27 ?_ (d' := 2) (as := [_]) (hst := rfl)
  refine (la_hash h2' h3 hw h2 hl ?_)
  refine V_goto 40 dJ7_hashCode_30 (by decide) ?_
  refine V_istore_n dJ7_hashCode_40 (by decide) ?_
  refine V_iload_n dJ7_hashCode_41 rfl ?_
  refine V_if_ne 53 dJ7_hashCode_42 (by decide) (fun _ => ?_) (fun c42 => absurd c42 h0)
  refine V_aload_n dJ7_hashCode_53 rfl (Or.inl ⟨_, rfl⟩) ?_
  refine V_iload_n dJ7_hashCode_54 rfl ?_
  refine V_put ckJ7 (by first | assumption | (repeat (first | exact g_up_at | exact g_new_at rfl | assumption | refine g_up_of (by first | assumption | (simp only [g_new, g_up]; omega) | omega) ?_ | refine g_new_of (by first | assumption | (simp only [g_new, g_up]; omega) | omega) ?_))) (by first | assumption | omega | (simp only [g_new, g_up]; omega) | (simp only [g_new, g_up, g_B] at *; omega)) 2 (by decide) q815 rfl rfl rfl rfl (Nat.le_of_ble_eq_true rfl) dJ7_hashCode_55 ?_
  refine V_iload_n dJ7_hashCode_58 rfl ?_
  refine V_ireturn dJ7_hashCode_59 rfl ?_
  exact kk _ rfl (g_ke.up (fun q => q rfl) _) ⟨va, Or.inl g_up_at, f, Or.inl (g_up_of hne h2'), h3⟩
end STR
