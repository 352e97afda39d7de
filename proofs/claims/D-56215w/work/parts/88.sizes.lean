/-! arrays that lay there when the law was called: SIZES, the digits' tables -/
set_option maxRecDepth 100000
theorem cst_arr {l : Launch} {E : g_E} (ok : g_ok l E) {tm : Term} {ty : FieldType} {N : Nat} {f : Nat → Int32} (hN : N < 2 ^ 31) (h1 : Cond.arrayOf tm ty ∈ nrw) (h2 : Cond.eq (.length tm) (.int (Int32.ofNat N)) ∈ nrw) (h3 : ∀ j, j < N → Cond.eq (.elem tm (.int (Int32.ofNat j))) (.int (f j)) ∈ nrw) : ∃ t, tm.eval #[Value.ref E.2.1] E.1 none [] E.1 = some (.ref t) ∧ g_cstA E t ty (N, .inl f) := by
  obtain ⟨t, ht, cell, c1, c2, c3, c4, c5, c6, -⟩ := va_Tof (A := fun _ => False) (f := fun j => .int (f j)) hN (g_cond ok h1) (va_eqt (g_cond ok h2)) (fun j hj => va_eqt (g_cond ok (h3 j hj))) (fun _ _ h => h)
  refine ⟨t, ht, cell, c1, c3, ?_, c2, ⟨c4, c5⟩, fun j hj => ?_⟩
  · cases hv : cell.vm.isStatics with
    | false => rfl
    | true =>
      obtain ⟨hs, -⟩ := c2
      cases hc : cell.vm with
      | statics k => exact absurd hc (hs k)
      | none => rw [hc] at hv; cases hv
      | _ => rw [hc] at hv; cases hv
  · rw [c6 j hj, vp_cell_i, arrV_read _ _ hj]
def szT : Term := .static "ColourOffice" "SIZES" "[I"
def szW (j : Nat) : Cond := Cond.eq (.elem (.static "ColourOffice" "SIZES" "[I") (.int (Int32.ofNat j))) (.int (nI (popN j 10)))
theorem sz_1 : Cond.arrayOf (.static "ColourOffice" "SIZES" "[I") .int ∈ nrw := by decide +kernel
theorem sz_2 : Cond.eq (.length (.static "ColourOffice" "SIZES" "[I")) (.int (Int32.ofNat 1024)) ∈ nrw := by decide +kernel
theorem sz_c0 : (nrw.drop 235).take 64 = (List.range' 0 64).map szW := by decide +kernel
theorem sz_c1 : (nrw.drop 299).take 64 = (List.range' 64 64).map szW := by decide +kernel
theorem sz_c2 : (nrw.drop 363).take 64 = (List.range' 128 64).map szW := by decide +kernel
theorem sz_c3 : (nrw.drop 427).take 64 = (List.range' 192 64).map szW := by decide +kernel
theorem sz_c4 : (nrw.drop 491).take 64 = (List.range' 256 64).map szW := by decide +kernel
theorem sz_c5 : (nrw.drop 555).take 64 = (List.range' 320 64).map szW := by decide +kernel
theorem sz_c6 : (nrw.drop 619).take 64 = (List.range' 384 64).map szW := by decide +kernel
theorem sz_c7 : (nrw.drop 683).take 64 = (List.range' 448 64).map szW := by decide +kernel
theorem sz_c8 : (nrw.drop 747).take 64 = (List.range' 512 64).map szW := by decide +kernel
theorem sz_c9 : (nrw.drop 811).take 64 = (List.range' 576 64).map szW := by decide +kernel
theorem sz_c10 : (nrw.drop 875).take 64 = (List.range' 640 64).map szW := by decide +kernel
theorem sz_c11 : (nrw.drop 939).take 64 = (List.range' 704 64).map szW := by decide +kernel
theorem sz_c12 : (nrw.drop 1003).take 64 = (List.range' 768 64).map szW := by decide +kernel
theorem sz_c13 : (nrw.drop 1067).take 64 = (List.range' 832 64).map szW := by decide +kernel
theorem sz_c14 : (nrw.drop 1131).take 64 = (List.range' 896 64).map szW := by decide +kernel
theorem sz_c15 : (nrw.drop 1195).take 64 = (List.range' 960 64).map szW := by decide +kernel
theorem sz_mem {L : List Cond} {a b n j : Nat} {W : Nat → Cond} (h : (L.drop a).take n = (List.range' b n).map W) (h1 : b ≤ j) (h2 : j < b + n) : W j ∈ L := by
  have hm : W j ∈ (L.drop a).take n := by
    rw [h]
    exact List.mem_map.mpr ⟨j, List.mem_range'_1.mpr ⟨h1, h2⟩, rfl⟩
  exact List.mem_of_mem_drop (List.mem_of_mem_take hm)
theorem sz_3 : ∀ j, j < 1024 → szW j ∈ nrw := by
  intro j hj
  by_cases h0 : j < 64
  · exact sz_mem sz_c0 (by omega) (by omega)
  by_cases h1 : j < 128
  · exact sz_mem sz_c1 (by omega) (by omega)
  by_cases h2 : j < 192
  · exact sz_mem sz_c2 (by omega) (by omega)
  by_cases h3 : j < 256
  · exact sz_mem sz_c3 (by omega) (by omega)
  by_cases h4 : j < 320
  · exact sz_mem sz_c4 (by omega) (by omega)
  by_cases h5 : j < 384
  · exact sz_mem sz_c5 (by omega) (by omega)
  by_cases h6 : j < 448
  · exact sz_mem sz_c6 (by omega) (by omega)
  by_cases h7 : j < 512
  · exact sz_mem sz_c7 (by omega) (by omega)
  by_cases h8 : j < 576
  · exact sz_mem sz_c8 (by omega) (by omega)
  by_cases h9 : j < 640
  · exact sz_mem sz_c9 (by omega) (by omega)
  by_cases h10 : j < 704
  · exact sz_mem sz_c10 (by omega) (by omega)
  by_cases h11 : j < 768
  · exact sz_mem sz_c11 (by omega) (by omega)
  by_cases h12 : j < 832
  · exact sz_mem sz_c12 (by omega) (by omega)
  by_cases h13 : j < 896
  · exact sz_mem sz_c13 (by omega) (by omega)
  by_cases h14 : j < 960
  · exact sz_mem sz_c14 (by omega) (by omega)
  exact sz_mem sz_c15 (by omega) (by omega)
def szA (E : g_E) : Nat := st_ad E "ColourOffice" "SIZES" "[I"
theorem sz_ev {l : Launch} {E : g_E} (ok : g_ok l E) : szT.eval #[Value.ref E.2.1] E.1 none [] E.1 = some (.ref (szA E)) ∧ g_cstA E (szA E) .int (1024, .inl (fun j => nI (popN j 10))) := by
  obtain ⟨t, ht, hc⟩ := cst_arr ok (by decide) sz_1 sz_2 sz_3
  have e : szA E = t := by
    unfold szA st_ad
    rw [ht]
  rw [e]
  exact ⟨ht, hc⟩
theorem sz_Z {l : Launch} {E : g_E} (ok : g_ok l E) : va_Z "ColourOffice" "SIZES" "[I" (.ref (szA E)) (fun _ => False) E.1 E.1.heap :=
  va_Zof (ok.2.1 _ q1694) (ok.2.1 _ (lw_all_tbl ckX1.2.2.2.2.2.1)) (sz_ev ok).1 (fun _ _ h => h)
def doW (j : Nat) : Cond := Cond.eq (.elem (.static "java/lang/Integer" "DigitOnes" "[B") (.int (Int32.ofNat j))) (.int (nI (48 + j % 10)))
theorem do_1 : Cond.arrayOf (.static "java/lang/Integer" "DigitOnes" "[B") .byte ∈ nrw := by decide +kernel
theorem do_2 : Cond.eq (.length (.static "java/lang/Integer" "DigitOnes" "[B")) (.int (Int32.ofNat 100)) ∈ nrw := by decide +kernel
theorem do_c : (nrw.drop 22).take 100 = (List.range' 0 100).map doW := by decide +kernel
theorem do_3 : ∀ j, j < 100 → doW j ∈ nrw := fun j hj => sz_mem do_c (Nat.zero_le _) (by omega)
def doA (E : g_E) : Nat := st_ad E "java/lang/Integer" "DigitOnes" "[B"
theorem do_ev {l : Launch} {E : g_E} (ok : g_ok l E) : (Term.static "java/lang/Integer" "DigitOnes" "[B").eval #[Value.ref E.2.1] E.1 none [] E.1 = some (.ref (doA E)) ∧ g_cstA E (doA E) .byte (100, .inl (fun j => nI (48 + j % 10))) := by
  obtain ⟨t, ht, hc⟩ := cst_arr ok (by decide) do_1 do_2 do_3
  have e : doA E = t := by
    unfold doA st_ad
    rw [ht]
  rw [e]
  exact ⟨ht, hc⟩
theorem do_Z {l : Launch} {E : g_E} (ok : g_ok l E) : va_Z "java/lang/Integer" "DigitOnes" "[B" (.ref (doA E)) (fun _ => False) E.1 E.1.heap :=
  va_Zof (ok.2.1 _ q723) (ok.2.1 _ (lw_all_tbl kJ20_getChars.2.1)) (do_ev ok).1 (fun _ _ h => h)
def dtW (j : Nat) : Cond := Cond.eq (.elem (.static "java/lang/Integer" "DigitTens" "[B") (.int (Int32.ofNat j))) (.int (nI (48 + j / 10)))
theorem dt_1 : Cond.arrayOf (.static "java/lang/Integer" "DigitTens" "[B") .byte ∈ nrw := by decide +kernel
theorem dt_2 : Cond.eq (.length (.static "java/lang/Integer" "DigitTens" "[B")) (.int (Int32.ofNat 100)) ∈ nrw := by decide +kernel
theorem dt_c : (nrw.drop 126).take 100 = (List.range' 0 100).map dtW := by decide +kernel
theorem dt_3 : ∀ j, j < 100 → dtW j ∈ nrw := fun j hj => sz_mem dt_c (Nat.zero_le _) (by omega)
def dtA (E : g_E) : Nat := st_ad E "java/lang/Integer" "DigitTens" "[B"
theorem dt_ev {l : Launch} {E : g_E} (ok : g_ok l E) : (Term.static "java/lang/Integer" "DigitTens" "[B").eval #[Value.ref E.2.1] E.1 none [] E.1 = some (.ref (dtA E)) ∧ g_cstA E (dtA E) .byte (100, .inl (fun j => nI (48 + j / 10))) := by
  obtain ⟨t, ht, hc⟩ := cst_arr ok (by decide) dt_1 dt_2 dt_3
  have e : dtA E = t := by
    unfold dtA st_ad
    rw [ht]
  rw [e]
  exact ⟨ht, hc⟩
theorem dt_Z {l : Launch} {E : g_E} (ok : g_ok l E) : va_Z "java/lang/Integer" "DigitTens" "[B" (.ref (dtA E)) (fun _ => False) E.1 E.1.heap :=
  va_Zof (ok.2.1 _ q725) (ok.2.1 _ (lw_all_tbl kJ20_getChars.2.1)) (dt_ev ok).1 (fun _ _ h => h)
