/-! classes and methods, what the tables say of each (printed by wip gen/consts.py) -/
set_option maxRecDepth 100000
abbrev fsX1 : List Value := [.null, .null, .null, .null, .int 0, .int 0, .int 0, .null]
theorem ckX1 : g_ck 0 RX1 TX1 8 tyX1 fsX1 := ⟨rfl, in_X1, tyX1_ok, nmX1, q165, q111, (fun j hj => by
  have : ∀ j, j < 8 → defaultValue (tyX1 j) = vp_V fsX1 j := by decide +kernel
  exact this j hj), rfl⟩
abbrev fsX2 : List Value := [.null, .null, .int 0, .int 0, .int 0, .int 0, .int 0, .int 0, .int 0, .int 0]
theorem ckX2 : g_ck 1 RX2 TX2 10 tyX2 fsX2 := ⟨rfl, in_X2, tyX2_ok, nmX2, q173, q112, (fun j hj => by
  have : ∀ j, j < 10 → defaultValue (tyX2 j) = vp_V fsX2 j := by decide +kernel
  exact this j hj), rfl⟩
abbrev fsX3 : List Value := [.null, .int 0]
theorem ckX3 : g_ck 2 RX3 TX3 2 tyX3 fsX3 := ⟨rfl, in_X3, tyX3_ok, nmX3, q179, q113, (fun j hj => by
  have : ∀ j, j < 2 → defaultValue (tyX3 j) = vp_V fsX3 j := by decide +kernel
  exact this j hj), rfl⟩
abbrev fsX4 : List Value := [.null]
theorem ckX4 : g_ck 3 RX4 TX4 1 tyX4 fsX4 := ⟨rfl, in_X4, tyX4_ok, nmX4, q261, q117, (fun j hj => by
  have : ∀ j, j < 1 → defaultValue (tyX4 j) = vp_V fsX4 j := by decide +kernel
  exact this j hj), rfl⟩
abbrev fsX5 : List Value := [.null, .null, .null, .null, .null, .int 0, .int 0, .int 0, .int 0, .int 0, .int 0, .null, .null, .null, .int 0, .null, .null, .null, .int 0, .int 0, .int 0, .int 0, .int 0]
theorem ckX5 : g_ck 4 RX5 TX5 23 tyX5 fsX5 := ⟨rfl, in_X5, tyX5_ok, nmX5, q2694, q124, (fun j hj => by
  have : ∀ j, j < 23 → defaultValue (tyX5 j) = vp_V fsX5 j := by decide +kernel
  exact this j hj), rfl⟩
abbrev fsX6 : List Value := [.int 0, .null]
theorem ckX6 : g_ck 5 RX6 TX6 2 tyX6 fsX6 := ⟨rfl, in_X6, tyX6_ok, nmX6, q376, q125, (fun j hj => by
  have : ∀ j, j < 2 → defaultValue (tyX6 j) = vp_V fsX6 j := by decide +kernel
  exact this j hj), rfl⟩
abbrev fsX7 : List Value := [.int 0, .int 0, .null, .int 0]
theorem ckX7 : g_ck 6 RX7 TX7 4 tyX7 fsX7 := ⟨rfl, in_X7, tyX7_ok, nmX7, q490, q130, (fun j hj => by
  have : ∀ j, j < 4 → defaultValue (tyX7 j) = vp_V fsX7 j := by decide +kernel
  exact this j hj), rfl⟩
abbrev fsX8 : List Value := [.null, .null]
theorem ckX8 : g_ck 7 RX8 TX8 2 tyX8 fsX8 := ⟨rfl, in_X8, tyX8_ok, nmX8, q937, q144, (fun j hj => by
  have : ∀ j, j < 2 → defaultValue (tyX8 j) = vp_V fsX8 j := by decide +kernel
  exact this j hj), rfl⟩
abbrev fsX10 : List Value := [.null, .null, .null, .null, .null, .int 0, .int 0]
theorem ckX10 : g_ck 8 RX10 TX10 7 tyX10 fsX10 := ⟨rfl, in_X10, tyX10_ok, nmX10, q1048, q146, (fun j hj => by
  have : ∀ j, j < 7 → defaultValue (tyX10 j) = vp_V fsX10 j := by decide +kernel
  exact this j hj), rfl⟩
abbrev fsX11 : List Value := [.null]
theorem ckX11 : g_ck 9 RX11 TX11 1 tyX11 fsX11 := ⟨rfl, in_X11, tyX11_ok, nmX11, q1078, q147, (fun j hj => by
  have : ∀ j, j < 1 → defaultValue (tyX11 j) = vp_V fsX11 j := by decide +kernel
  exact this j hj), rfl⟩
abbrev fsX12 : List Value := [.int 0, .null, .int 0, .int 0]
theorem ckX12 : g_ck 10 RX12 TX12 4 tyX12 fsX12 := ⟨rfl, in_X12, tyX12_ok, nmX12, q1106, q148, (fun j hj => by
  have : ∀ j, j < 4 → defaultValue (tyX12 j) = vp_V fsX12 j := by decide +kernel
  exact this j hj), rfl⟩
abbrev fsX13 : List Value := [.null, .null, .null]
theorem ckX13 : g_ck 11 RX13 TX13 3 tyX13 fsX13 := ⟨rfl, in_X13, tyX13_ok, nmX13, q1247, q150, (fun j hj => by
  have : ∀ j, j < 3 → defaultValue (tyX13 j) = vp_V fsX13 j := by decide +kernel
  exact this j hj), rfl⟩
abbrev fsX14 : List Value := [.null, .int 0, .null, .null, .null]
theorem ckX14 : g_ck 12 RX14 TX14 5 tyX14 fsX14 := ⟨rfl, in_X14, tyX14_ok, nmX14, q1273, q151, (fun j hj => by
  have : ∀ j, j < 5 → defaultValue (tyX14 j) = vp_V fsX14 j := by decide +kernel
  exact this j hj), rfl⟩
abbrev fsX15 : List Value := [.int 0, .int 0, .null, .null]
theorem ckX15 : g_ck 13 RX15 TX15 4 tyX15 fsX15 := ⟨rfl, in_X15, tyX15_ok, nmX15, q1418, q153, (fun j hj => by
  have : ∀ j, j < 4 → defaultValue (tyX15 j) = vp_V fsX15 j := by decide +kernel
  exact this j hj), rfl⟩
abbrev fsX16 : List Value := [.null, .null]
theorem ckX16 : g_ck 14 RX16 TX16 2 tyX16 fsX16 := ⟨rfl, in_X16, tyX16_ok, nmX16, q1735, q156, (fun j hj => by
  have : ∀ j, j < 2 → defaultValue (tyX16 j) = vp_V fsX16 j := by decide +kernel
  exact this j hj), rfl⟩
abbrev fsX17 : List Value := [.int 0, .null, .int 0]
theorem ckX17 : g_ck 15 RX17 TX17 3 tyX17 fsX17 := ⟨rfl, in_X17, tyX17_ok, nmX17, q1670, q157, (fun j hj => by
  have : ∀ j, j < 3 → defaultValue (tyX17 j) = vp_V fsX17 j := by decide +kernel
  exact this j hj), rfl⟩
abbrev fsX18 : List Value := [.null, .int 0]
theorem ckX18 : g_ck 16 RX18 TX18 2 tyX18 fsX18 := ⟨rfl, in_X18, tyX18_ok, nmX18, q2306, q160, (fun j hj => by
  have : ∀ j, j < 2 → defaultValue (tyX18 j) = vp_V fsX18 j := by decide +kernel
  exact this j hj), rfl⟩
abbrev fsX19 : List Value := [.null, .null, .null, .null, .null, .int 0, .int 0]
theorem ckX19 : g_ck 17 RX19 TX19 7 tyX19 fsX19 := ⟨rfl, in_X19, tyX19_ok, nmX19, q2470, q161, (fun j hj => by
  have : ∀ j, j < 7 → defaultValue (tyX19 j) = vp_V fsX19 j := by decide +kernel
  exact this j hj), rfl⟩
abbrev fsX20 : List Value := [.null, .null, .null, .null, .null, .int 0, .int 0]
theorem ckX20 : g_ck 18 RX20 TX20 7 tyX20 fsX20 := ⟨rfl, in_X20, tyX20_ok, nmX20, q2523, q162, (fun j hj => by
  have : ∀ j, j < 7 → defaultValue (tyX20 j) = vp_V fsX20 j := by decide +kernel
  exact this j hj), rfl⟩
abbrev fsJ2 : List Value := [.int 0, .null, .int 0]
theorem ckJ2 : g_ck 19 RJ2 TJ2 3 tyJ2 fsJ2 := ⟨rfl, in_J2, tyJ2_ok, nmJ2, q196, q116, (fun j hj => by
  have : ∀ j, j < 3 → defaultValue (tyJ2 j) = vp_V fsJ2 j := by decide +kernel
  exact this j hj), rfl⟩
abbrev fsJ4 : List Value := [.int 0, .int 0, .null, .null]
theorem ckJ4 : g_ck 20 RJ4 TJ4 4 tyJ4 fsJ4 := ⟨rfl, in_J4, tyJ4_ok, nmJ4, q267, q119, (fun j hj => by
  have : ∀ j, j < 4 → defaultValue (tyJ4 j) = vp_V fsJ4 j := by decide +kernel
  exact this j hj), rfl⟩
abbrev fsJ6 : List Value := [.null, .int 0, .int 0, .int 0]
theorem ckJ6 : g_ck 21 RJ6 TJ6 4 tyJ6 fsJ6 := ⟨rfl, in_J6, tyJ6_ok, nmJ6, q291, q121, (fun j hj => by
  have : ∀ j, j < 4 → defaultValue (tyJ6 j) = vp_V fsJ6 j := by decide +kernel
  exact this j hj), rfl⟩
abbrev fsJ7 : List Value := [.null, .int 0, .int 0, .int 0]
theorem ckJ7 : g_ck 22 RJ7 TJ7 4 tyJ7 fsJ7 := ⟨rfl, in_J7, tyJ7_ok, nmJ7, q740, q122, (fun j hj => by
  have : ∀ j, j < 4 → defaultValue (tyJ7 j) = vp_V fsJ7 j := by decide +kernel
  exact this j hj), rfl⟩
abbrev fsJ22 : List Value := [.null, .null, .null]
theorem ckJ22 : g_ck 23 RJ22 TJ22 3 tyJ22 fsJ22 := ⟨rfl, in_J22, tyJ22_ok, nmJ22, q918, q143, (fun j hj => by
  have : ∀ j, j < 3 → defaultValue (tyJ22 j) = vp_V fsJ22 j := by decide +kernel
  exact this j hj), rfl⟩
abbrev fsJ24 : List Value := [.null]
theorem ckJ24 : g_ck 24 RJ24 TJ24 1 tyJ24 fsJ24 := ⟨rfl, in_J24, tyJ24_ok, nmJ24, q1366, q152, (fun j hj => by
  have : ∀ j, j < 1 → defaultValue (tyJ24 j) = vp_V fsJ24 j := by decide +kernel
  exact this j hj), rfl⟩
abbrev fsJ12 : List Value := [.null, .null, .null, .null, .null, .int 0]
theorem ckJ12 : g_ck 25 RJ12 TJ12 6 tyJ12 fsJ12 := ⟨rfl, in_J12, tyJ12_ok, nmJ12, q414, q129, (fun j hj => by
  have : ∀ j, j < 6 → defaultValue (tyJ12 j) = vp_V fsJ12 j := by decide +kernel
  exact this j hj), rfl⟩
abbrev fsJ15 : List Value := [.null, .null, .null, .null, .null, .int 0]
theorem ckJ15 : g_ck 26 RJ15 TJ15 6 tyJ15 fsJ15 := ⟨rfl, in_J15, tyJ15_ok, nmJ15, q574, q133, (fun j hj => by
  have : ∀ j, j < 6 → defaultValue (tyJ15 j) = vp_V fsJ15 j := by decide +kernel
  exact this j hj), rfl⟩
abbrev fsJ21 : List Value := [.null, .null, .null, .null, .null, .int 0]
theorem ckJ21 : g_ck 27 RJ21 TJ21 6 tyJ21 fsJ21 := ⟨rfl, in_J21, tyJ21_ok, nmJ21, q772, q141, (fun j hj => by
  have : ∀ j, j < 6 → defaultValue (tyJ21 j) = vp_V fsJ21 j := by decide +kernel
  exact this j hj), rfl⟩
abbrev fsJ25 : List Value := [.null, .null, .null, .null, .null, .int 0]
theorem ckJ25 : g_ck 28 RJ25 TJ25 6 tyJ25 fsJ25 := ⟨rfl, in_J25, tyJ25_ok, nmJ25, q1550, q154, (fun j hj => by
  have : ∀ j, j < 6 → defaultValue (tyJ25 j) = vp_V fsJ25 j := by decide +kernel
  exact this j hj), rfl⟩
abbrev fsJ26 : List Value := [.null, .null, .null, .null, .null, .int 0]
theorem ckJ26 : g_ck 29 RJ26 TJ26 6 tyJ26 fsJ26 := ⟨rfl, in_J26, tyJ26_ok, nmJ26, q1568, q155, (fun j hj => by
  have : ∀ j, j < 6 → defaultValue (tyJ26 j) = vp_V fsJ26 j := by decide +kernel
  exact this j hj), rfl⟩
abbrev fsJ27 : List Value := [.null, .null, .null, .null, .int 0, .null]
theorem ckJ27 : g_ck 30 RJ27 TJ27 6 tyJ27 fsJ27 := ⟨rfl, in_J27, tyJ27_ok, nmJ27, q2126, q158, (fun j hj => by
  have : ∀ j, j < 6 → defaultValue (tyJ27 j) = vp_V fsJ27 j := by decide +kernel
  exact this j hj), rfl⟩
theorem plX0 : plainName RX0 = true := by decide +kernel
theorem plX1 : plainName RX1 = true := by decide +kernel
theorem plX2 : plainName RX2 = true := by decide +kernel
theorem plX3 : plainName RX3 = true := by decide +kernel
theorem plJ0 : plainName RJ0 = true := by decide +kernel
theorem plJ1 : plainName RJ1 = true := by decide +kernel
theorem plJ2 : plainName RJ2 = true := by decide +kernel
theorem plX4 : plainName RX4 = true := by decide +kernel
theorem plJ3 : plainName RJ3 = true := by decide +kernel
theorem plJ4 : plainName RJ4 = true := by decide +kernel
theorem plJ5 : plainName RJ5 = true := by decide +kernel
theorem plJ6 : plainName RJ6 = true := by decide +kernel
theorem plJ7 : plainName RJ7 = true := by decide +kernel
theorem plJ8 : plainName RJ8 = true := by decide +kernel
theorem plX5 : plainName RX5 = true := by decide +kernel
theorem plX6 : plainName RX6 = true := by decide +kernel
theorem plJ9 : plainName RJ9 = true := by decide +kernel
theorem plJ10 : plainName RJ10 = true := by decide +kernel
theorem plJ11 : plainName RJ11 = true := by decide +kernel
theorem plJ12 : plainName RJ12 = true := by decide +kernel
theorem plX7 : plainName RX7 = true := by decide +kernel
theorem plJ13 : plainName RJ13 = true := by decide +kernel
theorem plJ14 : plainName RJ14 = true := by decide +kernel
theorem plJ15 : plainName RJ15 = true := by decide +kernel
theorem plJ16 : plainName RJ16 = true := by decide +kernel
theorem plJ18 : plainName RJ18 = true := by decide +kernel
theorem plJ19 : plainName RJ19 = true := by decide +kernel
theorem plJ20 : plainName RJ20 = true := by decide +kernel
theorem plJ21 : plainName RJ21 = true := by decide +kernel
theorem plJ22 : plainName RJ22 = true := by decide +kernel
theorem plX8 : plainName RX8 = true := by decide +kernel
theorem plX9 : plainName RX9 = true := by decide +kernel
theorem plX10 : plainName RX10 = true := by decide +kernel
theorem plX11 : plainName RX11 = true := by decide +kernel
theorem plX12 : plainName RX12 = true := by decide +kernel
theorem plJ23 : plainName RJ23 = true := by decide +kernel
theorem plX13 : plainName RX13 = true := by decide +kernel
theorem plX14 : plainName RX14 = true := by decide +kernel
theorem plJ24 : plainName RJ24 = true := by decide +kernel
theorem plX15 : plainName RX15 = true := by decide +kernel
theorem plJ25 : plainName RJ25 = true := by decide +kernel
theorem plJ26 : plainName RJ26 = true := by decide +kernel
theorem plX16 : plainName RX16 = true := by decide +kernel
theorem plX17 : plainName RX17 = true := by decide +kernel
theorem plJ27 : plainName RJ27 = true := by decide +kernel
theorem plJ28 : plainName RJ28 = true := by decide +kernel
theorem plX18 : plainName RX18 = true := by decide +kernel
theorem plX19 : plainName RX19 = true := by decide +kernel
theorem plX20 : plainName RX20 = true := by decide +kernel
theorem plJ29 : plainName RJ29 = true := by decide +kernel
theorem plJ31 : plainName RJ31 = true := by decide +kernel
abbrev mX0_addColour : g_M := (yX0_addColour, cX0_addColour, 7, (Option.some Jvm.ClassFile.FieldType.int), [(0, 14, 17, 13), (0, 14, 21, 15)])
theorem kX0_addColour : g_mk mX0_addColour 6 := ⟨q1818, q110, ⟨by decide +kernel, by decide +kernel⟩, by decide +kernel, Nat.le_of_ble_eq_true rfl⟩
abbrev mX0_report : g_M := (yX0_report, cX0_report, 8, (Option.some Jvm.ClassFile.FieldType.int), [(0, 16, 19, 13), (0, 16, 23, 15)])
theorem kX0_report : g_mk mX0_report 7 := ⟨q1828, q110, ⟨by decide +kernel, by decide +kernel⟩, by decide +kernel, Nat.le_of_ble_eq_true rfl⟩
abbrev mX0_withdraw : g_M := (yX0_withdraw, cX0_withdraw, 4, (Option.some Jvm.ClassFile.FieldType.int), [(0, 9, 12, 25)])
theorem kX0_withdraw : g_mk mX0_withdraw 3 := ⟨q1836, q110, ⟨by decide +kernel, by decide +kernel⟩, by decide +kernel, Nat.le_of_ble_eq_true rfl⟩
abbrev mX0_discard : g_M := (yX0_discard, cX0_discard, 4, (Option.some Jvm.ClassFile.FieldType.int), [(0, 9, 12, 25)])
theorem kX0_discard : g_mk mX0_discard 3 := ⟨q1845, q110, ⟨by decide +kernel, by decide +kernel⟩, by decide +kernel, Nat.le_of_ble_eq_true rfl⟩
abbrev mX0_setMetric : g_M := (yX0_setMetric, cX0_setMetric, 4, (Option.some Jvm.ClassFile.FieldType.int), [(0, 9, 12, 13)])
theorem kX0_setMetric : g_mk mX0_setMetric 3 := ⟨q1853, q110, ⟨by decide +kernel, by decide +kernel⟩, by decide +kernel, Nat.le_of_ble_eq_true rfl⟩
abbrev mX0_giveBack : g_M := (yX0_giveBack, cX0_giveBack, 5, (Option.some Jvm.ClassFile.FieldType.int), [(0, 10, 13, 25), (0, 10, 17, 38)])
theorem kX0_giveBack : g_mk mX0_giveBack 4 := ⟨q1861, q110, ⟨by decide +kernel, by decide +kernel⟩, by decide +kernel, Nat.le_of_ble_eq_true rfl⟩
abbrev mX0_mix : g_M := (yX0_mix, cX0_mix, 5, (Option.some Jvm.ClassFile.FieldType.int), [(0, 10, 13, 25), (0, 10, 17, 13)])
theorem kX0_mix : g_mk mX0_mix 4 := ⟨q1870, q110, ⟨by decide +kernel, by decide +kernel⟩, by decide +kernel, Nat.le_of_ble_eq_true rfl⟩
abbrev mX0_passDays : g_M := (yX0_passDays, cX0_passDays, 4, (Option.some Jvm.ClassFile.FieldType.int), [(0, 9, 12, 13)])
theorem kX0_passDays : g_mk mX0_passDays 3 := ⟨q1878, q110, ⟨by decide +kernel, by decide +kernel⟩, by decide +kernel, Nat.le_of_ble_eq_true rfl⟩
abbrev mX0_colourAt : g_M := (yX0_colourAt, cX0_colourAt, 4, (Option.some Jvm.ClassFile.FieldType.int), [(0, 9, 12, 25)])
theorem kX0_colourAt : g_mk mX0_colourAt 3 := ⟨q1886, q110, ⟨by decide +kernel, by decide +kernel⟩, by decide +kernel, Nat.le_of_ble_eq_true rfl⟩
abbrev mX0_red : g_M := (yX0_red, cX0_red, 4, (Option.some Jvm.ClassFile.FieldType.int), [(0, 9, 12, 25)])
theorem kX0_red : g_mk mX0_red 3 := ⟨q1899, q110, ⟨by decide +kernel, by decide +kernel⟩, by decide +kernel, Nat.le_of_ble_eq_true rfl⟩
abbrev mX0_green : g_M := (yX0_green, cX0_green, 4, (Option.some Jvm.ClassFile.FieldType.int), [(0, 9, 12, 25)])
theorem kX0_green : g_mk mX0_green 3 := ⟨q1913, q110, ⟨by decide +kernel, by decide +kernel⟩, by decide +kernel, Nat.le_of_ble_eq_true rfl⟩
abbrev mX0_blue : g_M := (yX0_blue, cX0_blue, 4, (Option.some Jvm.ClassFile.FieldType.int), [(0, 9, 12, 25)])
theorem kX0_blue : g_mk mX0_blue 3 := ⟨q1920, q110, ⟨by decide +kernel, by decide +kernel⟩, by decide +kernel, Nat.le_of_ble_eq_true rfl⟩
abbrev mX0_fastness : g_M := (yX0_fastness, cX0_fastness, 4, (Option.some Jvm.ClassFile.FieldType.int), [(0, 9, 12, 25)])
theorem kX0_fastness : g_mk mX0_fastness 3 := ⟨q1927, q110, ⟨by decide +kernel, by decide +kernel⟩, by decide +kernel, Nat.le_of_ble_eq_true rfl⟩
abbrev mX0_age : g_M := (yX0_age, cX0_age, 4, (Option.some Jvm.ClassFile.FieldType.int), [(0, 9, 12, 25)])
theorem kX0_age : g_mk mX0_age 3 := ⟨q1934, q110, ⟨by decide +kernel, by decide +kernel⟩, by decide +kernel, Nat.le_of_ble_eq_true rfl⟩
abbrev mX0_daysUntilGrey : g_M := (yX0_daysUntilGrey, cX0_daysUntilGrey, 4, (Option.some Jvm.ClassFile.FieldType.int), [(0, 9, 12, 25)])
theorem kX0_daysUntilGrey : g_mk mX0_daysUntilGrey 3 := ⟨q1941, q110, ⟨by decide +kernel, by decide +kernel⟩, by decide +kernel, Nat.le_of_ble_eq_true rfl⟩
abbrev mX0_colourByBrightness : g_M := (yX0_colourByBrightness, cX0_colourByBrightness, 4, (Option.some Jvm.ClassFile.FieldType.int), [(0, 9, 12, 25)])
theorem kX0_colourByBrightness : g_mk mX0_colourByBrightness 3 := ⟨q1957, q110, ⟨by decide +kernel, by decide +kernel⟩, by decide +kernel, Nat.le_of_ble_eq_true rfl⟩
abbrev mX0_reportAt : g_M := (yX0_reportAt, cX0_reportAt, 4, (Option.some Jvm.ClassFile.FieldType.int), [(0, 9, 12, 25)])
theorem kX0_reportAt : g_mk mX0_reportAt 3 := ⟨q1975, q110, ⟨by decide +kernel, by decide +kernel⟩, by decide +kernel, Nat.le_of_ble_eq_true rfl⟩
abbrev mX0_toleranceOf : g_M := (yX0_toleranceOf, cX0_toleranceOf, 4, (Option.some Jvm.ClassFile.FieldType.int), [(0, 9, 12, 25)])
theorem kX0_toleranceOf : g_mk mX0_toleranceOf 3 := ⟨q1986, q110, ⟨by decide +kernel, by decide +kernel⟩, by decide +kernel, Nat.le_of_ble_eq_true rfl⟩
abbrev mX0_rewardOf : g_M := (yX0_rewardOf, cX0_rewardOf, 4, (Option.some Jvm.ClassFile.FieldType.int), [(0, 9, 12, 25)])
theorem kX0_rewardOf : g_mk mX0_rewardOf 3 := ⟨q1999, q110, ⟨by decide +kernel, by decide +kernel⟩, by decide +kernel, Nat.le_of_ble_eq_true rfl⟩
abbrev mX0_distanceFor : g_M := (yX0_distanceFor, cX0_distanceFor, 5, (Option.some Jvm.ClassFile.FieldType.int), [(0, 10, 13, 25)])
theorem kX0_distanceFor : g_mk mX0_distanceFor 4 := ⟨q2006, q110, ⟨by decide +kernel, by decide +kernel⟩, by decide +kernel, Nat.le_of_ble_eq_true rfl⟩
abbrev mX0_fits : g_M := (yX0_fits, cX0_fits, 5, (Option.some Jvm.ClassFile.FieldType.int), [(0, 17, 20, 25)])
theorem kX0_fits : g_mk mX0_fits 4 := ⟨q2014, q110, ⟨by decide +kernel, by decide +kernel⟩, by decide +kernel, Nat.le_of_ble_eq_true rfl⟩
abbrev mX0_nearestFor : g_M := (yX0_nearestFor, cX0_nearestFor, 4, (Option.some Jvm.ClassFile.FieldType.int), [(0, 9, 12, 25)])
theorem kX0_nearestFor : g_mk mX0_nearestFor 3 := ⟨q2022, q110, ⟨by decide +kernel, by decide +kernel⟩, by decide +kernel, Nat.le_of_ble_eq_true rfl⟩
abbrev mX0_distance : g_M := (yX0_distance, cX0_distance, 5, (Option.some Jvm.ClassFile.FieldType.int), [(0, 10, 13, 25)])
theorem kX0_distance : g_mk mX0_distance 4 := ⟨q2037, q110, ⟨by decide +kernel, by decide +kernel⟩, by decide +kernel, Nat.le_of_ble_eq_true rfl⟩
abbrev mX0_nearest : g_M := (yX0_nearest, cX0_nearest, 6, (Option.some Jvm.ClassFile.FieldType.int), [(0, 12, 15, 13), (0, 12, 19, 25)])
theorem kX0_nearest : g_mk mX0_nearest 5 := ⟨q2046, q110, ⟨by decide +kernel, by decide +kernel⟩, by decide +kernel, Nat.le_of_ble_eq_true rfl⟩
abbrev mX0_nearestByLooking : g_M := (yX0_nearestByLooking, cX0_nearestByLooking, 6, (Option.some Jvm.ClassFile.FieldType.int), [(0, 12, 15, 13), (0, 12, 19, 25)])
theorem kX0_nearestByLooking : g_mk mX0_nearestByLooking 5 := ⟨q2061, q110, ⟨by decide +kernel, by decide +kernel⟩, by decide +kernel, Nat.le_of_ble_eq_true rfl⟩
abbrev mX0_closestDistance : g_M := (yX0_closestDistance, cX0_closestDistance, 3, (Option.some Jvm.ClassFile.FieldType.int), [(0, 8, 11, 25)])
theorem kX0_closestDistance : g_mk mX0_closestDistance 2 := ⟨q2069, q110, ⟨by decide +kernel, by decide +kernel⟩, by decide +kernel, Nat.le_of_ble_eq_true rfl⟩
abbrev mX0_closestDistanceBySorting : g_M := (yX0_closestDistanceBySorting, cX0_closestDistanceBySorting, 3, (Option.some Jvm.ClassFile.FieldType.int), [(0, 8, 11, 25)])
theorem kX0_closestDistanceBySorting : g_mk mX0_closestDistanceBySorting 2 := ⟨q2077, q110, ⟨by decide +kernel, by decide +kernel⟩, by decide +kernel, Nat.le_of_ble_eq_true rfl⟩
abbrev mX0_settlementFor : g_M := (yX0_settlementFor, cX0_settlementFor, 4, (Option.some Jvm.ClassFile.FieldType.int), [(0, 9, 12, 25)])
theorem kX0_settlementFor : g_mk mX0_settlementFor 3 := ⟨q2085, q110, ⟨by decide +kernel, by decide +kernel⟩, by decide +kernel, Nat.le_of_ble_eq_true rfl⟩
abbrev mX0_paletteError : g_M := (yX0_paletteError, cX0_paletteError, 4, (Option.some Jvm.ClassFile.FieldType.int), [(0, 9, 12, 13)])
theorem kX0_paletteError : g_mk mX0_paletteError 3 := ⟨q2094, q110, ⟨by decide +kernel, by decide +kernel⟩, by decide +kernel, Nat.le_of_ble_eq_true rfl⟩
abbrev mX0_paletteErrorBySearch : g_M := (yX0_paletteErrorBySearch, cX0_paletteErrorBySearch, 4, (Option.some Jvm.ClassFile.FieldType.int), [(0, 9, 12, 13)])
theorem kX0_paletteErrorBySearch : g_mk mX0_paletteErrorBySearch 3 := ⟨q2109, q110, ⟨by decide +kernel, by decide +kernel⟩, by decide +kernel, Nat.le_of_ble_eq_true rfl⟩
abbrev mX0_paletteColour : g_M := (yX0_paletteColour, cX0_paletteColour, 5, (Option.some Jvm.ClassFile.FieldType.int), [(0, 10, 13, 13), (0, 10, 17, 25)])
theorem kX0_paletteColour : g_mk mX0_paletteColour 4 := ⟨q2117, q110, ⟨by decide +kernel, by decide +kernel⟩, by decide +kernel, Nat.le_of_ble_eq_true rfl⟩
abbrev mX0_meanBrightness : g_M := (yX0_meanBrightness, cX0_meanBrightness, 3, (Option.some Jvm.ClassFile.FieldType.int), [(0, 7, 10, 122)])
theorem kX0_meanBrightness : g_mk mX0_meanBrightness 2 := ⟨q2124, q110, ⟨by decide +kernel, by decide +kernel⟩, by decide +kernel, Nat.le_of_ble_eq_true rfl⟩
abbrev mX0_greyShare : g_M := (yX0_greyShare, cX0_greyShare, 3, (Option.some Jvm.ClassFile.FieldType.int), [(0, 8, 11, 122)])
theorem kX0_greyShare : g_mk mX0_greyShare 2 := ⟨q2158, q110, ⟨by decide +kernel, by decide +kernel⟩, by decide +kernel, Nat.le_of_ble_eq_true rfl⟩
abbrev mX0_renderColour : g_M := (yX0_renderColour, cX0_renderColour, 4, (Option.some Jvm.ClassFile.FieldType.int), [(0, 9, 12, 25)])
theorem kX0_renderColour : g_mk mX0_renderColour 3 := ⟨q2166, q110, ⟨by decide +kernel, by decide +kernel⟩, by decide +kernel, Nat.le_of_ble_eq_true rfl⟩
abbrev mX0_renderReport : g_M := (yX0_renderReport, cX0_renderReport, 4, (Option.some Jvm.ClassFile.FieldType.int), [(0, 9, 12, 25)])
theorem kX0_renderReport : g_mk mX0_renderReport 3 := ⟨q2202, q110, ⟨by decide +kernel, by decide +kernel⟩, by decide +kernel, Nat.le_of_ble_eq_true rfl⟩
abbrev mX0_outputAt : g_M := (yX0_outputAt, cX0_outputAt, 4, (Option.some Jvm.ClassFile.FieldType.int), [(0, 9, 12, 138)])
theorem kX0_outputAt : g_mk mX0_outputAt 3 := ⟨q2222, q110, ⟨by decide +kernel, by decide +kernel⟩, by decide +kernel, Nat.le_of_ble_eq_true rfl⟩
abbrev mX0_type : g_M := (yX0_type, cX0_type, 4, (Option.some Jvm.ClassFile.FieldType.int), [(0, 9, 12, 13), (0, 9, 15, 15)])
theorem kX0_type : g_mk mX0_type 3 := ⟨q2271, q110, ⟨by decide +kernel, by decide +kernel⟩, by decide +kernel, Nat.le_of_ble_eq_true rfl⟩
abbrev mX0_runScript : g_M := (yX0_runScript, cX0_runScript, 3, (Option.some Jvm.ClassFile.FieldType.int), [(0, 8, 11, 13), (0, 8, 14, 15)])
theorem kX0_runScript : g_mk mX0_runScript 2 := ⟨q2297, q110, ⟨by decide +kernel, by decide +kernel⟩, by decide +kernel, Nat.le_of_ble_eq_true rfl⟩
abbrev mX0_errorPosition : g_M := (yX0_errorPosition, cX0_errorPosition, 3, (Option.some Jvm.ClassFile.FieldType.int), [(0, 8, 11, 25)])
theorem kX0_errorPosition : g_mk mX0_errorPosition 2 := ⟨q2635, q110, ⟨by decide +kernel, by decide +kernel⟩, by decide +kernel, Nat.le_of_ble_eq_true rfl⟩
abbrev mX0_failedCommand : g_M := (yX0_failedCommand, cX0_failedCommand, 3, (Option.some Jvm.ClassFile.FieldType.int), [(0, 8, 11, 25)])
theorem kX0_failedCommand : g_mk mX0_failedCommand 2 := ⟨q2642, q110, ⟨by decide +kernel, by decide +kernel⟩, by decide +kernel, Nat.le_of_ble_eq_true rfl⟩
abbrev mX0_failureKind : g_M := (yX0_failureKind, cX0_failureKind, 3, (Option.some Jvm.ClassFile.FieldType.int), [(0, 8, 11, 25)])
theorem kX0_failureKind : g_mk mX0_failureKind 2 := ⟨q2649, q110, ⟨by decide +kernel, by decide +kernel⟩, by decide +kernel, Nat.le_of_ble_eq_true rfl⟩
abbrev mX0_undo : g_M := (yX0_undo, cX0_undo, 3, (Option.some Jvm.ClassFile.FieldType.int), [(0, 8, 11, 25)])
theorem kX0_undo : g_mk mX0_undo 2 := ⟨q2656, q110, ⟨by decide +kernel, by decide +kernel⟩, by decide +kernel, Nat.le_of_ble_eq_true rfl⟩
abbrev mX0_restore : g_M := (yX0_restore, cX0_restore, 3, (Option.some Jvm.ClassFile.FieldType.int), [(0, 8, 11, 15)])
theorem kX0_restore : g_mk mX0_restore 2 := ⟨q2680, q110, ⟨by decide +kernel, by decide +kernel⟩, by decide +kernel, Nat.le_of_ble_eq_true rfl⟩
abbrev mX1_init : g_M := (yX1_init, cX1_init, 1, (Option.none : Option Jvm.ClassFile.FieldType), [])
theorem kX1_init : g_mk mX1_init 0 := ⟨q168, q111, ⟨by decide +kernel, by decide +kernel⟩, by decide +kernel, Nat.le_of_ble_eq_true rfl⟩
abbrev mX1_settle : g_M := (yX1_settle, cX1_settle, 1, (Option.some Jvm.ClassFile.FieldType.int), [])
theorem kX1_settle : g_mk mX1_settle 0 := ⟨q352, q111, ⟨by decide +kernel, by decide +kernel⟩, by decide +kernel, Nat.le_of_ble_eq_true rfl⟩
abbrev mX1_change : g_M := (yX1_change, cX1_change, 5, (Option.some Jvm.ClassFile.FieldType.int), [(8, 26, 27, 1)])
theorem kX1_change : g_mk mX1_change 2 := ⟨q357, q111, ⟨by decide +kernel, by decide +kernel⟩, by decide +kernel, Nat.le_of_ble_eq_true rfl⟩
abbrev mX1_areParts : g_M := (yX1_areParts, cX1_areParts, 6, (Option.some Jvm.ClassFile.FieldType.boolean), [])
theorem kX1_areParts : g_mk mX1_areParts 1 := ⟨q1040, q111, ⟨by decide +kernel, by decide +kernel⟩, by decide +kernel, Nat.le_of_ble_eq_true rfl⟩
abbrev mX1_isBetween : g_M := (yX1_isBetween, cX1_isBetween, 3, (Option.some Jvm.ClassFile.FieldType.boolean), [])
theorem kX1_isBetween : g_mk mX1_isBetween 3 := ⟨q1043, q111, ⟨by decide +kernel, by decide +kernel⟩, by decide +kernel, Nat.le_of_ble_eq_true rfl⟩
abbrev mX1_demand : g_M := (yX1_demand, cX1_demand, 2, (Option.none : Option Jvm.ClassFile.FieldType), [])
theorem kX1_demand : g_mk mX1_demand 2 := ⟨q1047, q111, ⟨by decide +kernel, by decide +kernel⟩, by decide +kernel, Nat.le_of_ble_eq_true rfl⟩
abbrev mX1_metricOf : g_M := (yX1_metricOf, cX1_metricOf, 1, (Option.some (Jvm.ClassFile.FieldType.object "ColourOffice$Metric")), [])
theorem kX1_metricOf : g_mk mX1_metricOf 1 := ⟨q1254, q111, ⟨by decide +kernel, by decide +kernel⟩, by decide +kernel, Nat.le_of_ble_eq_true rfl⟩
abbrev mX1_lambda_metricOf_0 : g_M := (yX1_lambda_metricOf_0, cX1_lambda_metricOf_0, 3, (Option.some Jvm.ClassFile.FieldType.int), [])
theorem kX1_lambda_metricOf_0 : g_mk mX1_lambda_metricOf_0 3 := ⟨q1256, q111, ⟨by decide +kernel, by decide +kernel⟩, by decide +kernel, Nat.le_of_ble_eq_true rfl⟩
abbrev mX1_lambda_metricOf_1 : g_M := (yX1_lambda_metricOf_1, cX1_lambda_metricOf_1, 3, (Option.some Jvm.ClassFile.FieldType.int), [])
theorem kX1_lambda_metricOf_1 : g_mk mX1_lambda_metricOf_1 3 := ⟨q1258, q111, ⟨by decide +kernel, by decide +kernel⟩, by decide +kernel, Nat.le_of_ble_eq_true rfl⟩
abbrev mX1_lambda_metricOf_2 : g_M := (yX1_lambda_metricOf_2, cX1_lambda_metricOf_2, 3, (Option.some Jvm.ClassFile.FieldType.int), [])
theorem kX1_lambda_metricOf_2 : g_mk mX1_lambda_metricOf_2 3 := ⟨q1260, q111, ⟨by decide +kernel, by decide +kernel⟩, by decide +kernel, Nat.le_of_ble_eq_true rfl⟩
abbrev mX1_distance : g_M := (yX1_distance, cX1_distance, 3, (Option.some Jvm.ClassFile.FieldType.int), [])
theorem kX1_distance : g_mk mX1_distance 3 := ⟨q1341, q111, ⟨by decide +kernel, by decide +kernel⟩, by decide +kernel, Nat.le_of_ble_eq_true rfl⟩
abbrev mX1_commit : g_M := (yX1_commit, cX1_commit, 3, (Option.some Jvm.ClassFile.FieldType.int), [])
theorem kX1_commit : g_mk mX1_commit 2 := ⟨q1520, q111, ⟨by decide +kernel, by decide +kernel⟩, by decide +kernel, Nat.le_of_ble_eq_true rfl⟩
abbrev mX1_colourCount : g_M := (yX1_colourCount, cX1_colourCount, 1, (Option.some Jvm.ClassFile.FieldType.int), [])
theorem kX1_colourCount : g_mk mX1_colourCount 0 := ⟨q1585, q111, ⟨by decide +kernel, by decide +kernel⟩, by decide +kernel, Nat.le_of_ble_eq_true rfl⟩
abbrev mX1_reportCount : g_M := (yX1_reportCount, cX1_reportCount, 1, (Option.some Jvm.ClassFile.FieldType.int), [])
theorem kX1_reportCount : g_mk mX1_reportCount 0 := ⟨q1590, q111, ⟨by decide +kernel, by decide +kernel⟩, by decide +kernel, Nat.le_of_ble_eq_true rfl⟩
abbrev mX1_bestReward : g_M := (yX1_bestReward, cX1_bestReward, 1, (Option.some Jvm.ClassFile.FieldType.int), [])
theorem kX1_bestReward : g_mk mX1_bestReward 0 := ⟨q1596, q111, ⟨by decide +kernel, by decide +kernel⟩, by decide +kernel, Nat.le_of_ble_eq_true rfl⟩
abbrev mX1_bestRewardByTrying : g_M := (yX1_bestRewardByTrying, cX1_bestRewardByTrying, 1, (Option.some Jvm.ClassFile.FieldType.int), [])
theorem kX1_bestRewardByTrying : g_mk mX1_bestRewardByTrying 0 := ⟨q1605, q111, ⟨by decide +kernel, by decide +kernel⟩, by decide +kernel, Nat.le_of_ble_eq_true rfl⟩
abbrev mX1_bestDifference : g_M := (yX1_bestDifference, cX1_bestDifference, 1, (Option.some Jvm.ClassFile.FieldType.int), [])
theorem kX1_bestDifference : g_mk mX1_bestDifference 0 := ⟨q1614, q111, ⟨by decide +kernel, by decide +kernel⟩, by decide +kernel, Nat.le_of_ble_eq_true rfl⟩
abbrev mX1_day : g_M := (yX1_day, cX1_day, 1, (Option.some Jvm.ClassFile.FieldType.int), [])
theorem kX1_day : g_mk mX1_day 0 := ⟨q1622, q111, ⟨by decide +kernel, by decide +kernel⟩, by decide +kernel, Nat.le_of_ble_eq_true rfl⟩
abbrev mX1_metric : g_M := (yX1_metric, cX1_metric, 1, (Option.some Jvm.ClassFile.FieldType.char), [])
theorem kX1_metric : g_mk mX1_metric 0 := ⟨q1626, q111, ⟨by decide +kernel, by decide +kernel⟩, by decide +kernel, Nat.le_of_ble_eq_true rfl⟩
abbrev mX1_coins : g_M := (yX1_coins, cX1_coins, 1, (Option.some Jvm.ClassFile.FieldType.int), [])
theorem kX1_coins : g_mk mX1_coins 0 := ⟨q1630, q111, ⟨by decide +kernel, by decide +kernel⟩, by decide +kernel, Nat.le_of_ble_eq_true rfl⟩
abbrev mX1_coinsByAccounts : g_M := (yX1_coinsByAccounts, cX1_coinsByAccounts, 1, (Option.some Jvm.ClassFile.FieldType.int), [])
theorem kX1_coinsByAccounts : g_mk mX1_coinsByAccounts 0 := ⟨q1634, q111, ⟨by decide +kernel, by decide +kernel⟩, by decide +kernel, Nat.le_of_ble_eq_true rfl⟩
abbrev mX1_returnedTotal : g_M := (yX1_returnedTotal, cX1_returnedTotal, 1, (Option.some Jvm.ClassFile.FieldType.int), [])
theorem kX1_returnedTotal : g_mk mX1_returnedTotal 0 := ⟨q1642, q111, ⟨by decide +kernel, by decide +kernel⟩, by decide +kernel, Nat.le_of_ble_eq_true rfl⟩
abbrev mX1_isConsistent : g_M := (yX1_isConsistent, cX1_isConsistent, 1, (Option.some Jvm.ClassFile.FieldType.boolean), [])
theorem kX1_isConsistent : g_mk mX1_isConsistent 0 := ⟨q1646, q111, ⟨by decide +kernel, by decide +kernel⟩, by decide +kernel, Nat.le_of_ble_eq_true rfl⟩
abbrev mX1_save : g_M := (yX1_save, cX1_save, 1, (Option.some Jvm.ClassFile.FieldType.int), [])
theorem kX1_save : g_mk mX1_save 0 := ⟨q1814, q111, ⟨by decide +kernel, by decide +kernel⟩, by decide +kernel, Nat.le_of_ble_eq_true rfl⟩
abbrev mX1_addColour : g_M := (yX1_addColour, cX1_addColour, 5, (Option.some Jvm.ClassFile.FieldType.int), [])
theorem kX1_addColour : g_mk mX1_addColour 4 := ⟨q1824, q111, ⟨by decide +kernel, by decide +kernel⟩, by decide +kernel, Nat.le_of_ble_eq_true rfl⟩
abbrev mX1_report : g_M := (yX1_report, cX1_report, 6, (Option.some Jvm.ClassFile.FieldType.int), [])
theorem kX1_report : g_mk mX1_report 5 := ⟨q1832, q111, ⟨by decide +kernel, by decide +kernel⟩, by decide +kernel, Nat.le_of_ble_eq_true rfl⟩
abbrev mX1_withdraw : g_M := (yX1_withdraw, cX1_withdraw, 2, (Option.some Jvm.ClassFile.FieldType.int), [])
theorem kX1_withdraw : g_mk mX1_withdraw 1 := ⟨q1841, q111, ⟨by decide +kernel, by decide +kernel⟩, by decide +kernel, Nat.le_of_ble_eq_true rfl⟩
abbrev mX1_discard : g_M := (yX1_discard, cX1_discard, 2, (Option.some Jvm.ClassFile.FieldType.int), [])
theorem kX1_discard : g_mk mX1_discard 1 := ⟨q1849, q111, ⟨by decide +kernel, by decide +kernel⟩, by decide +kernel, Nat.le_of_ble_eq_true rfl⟩
abbrev mX1_setMetric : g_M := (yX1_setMetric, cX1_setMetric, 2, (Option.some Jvm.ClassFile.FieldType.char), [])
theorem kX1_setMetric : g_mk mX1_setMetric 1 := ⟨q1857, q111, ⟨by decide +kernel, by decide +kernel⟩, by decide +kernel, Nat.le_of_ble_eq_true rfl⟩
abbrev mX1_giveBack : g_M := (yX1_giveBack, cX1_giveBack, 3, (Option.some Jvm.ClassFile.FieldType.int), [])
theorem kX1_giveBack : g_mk mX1_giveBack 2 := ⟨q1866, q111, ⟨by decide +kernel, by decide +kernel⟩, by decide +kernel, Nat.le_of_ble_eq_true rfl⟩
abbrev mX1_mix : g_M := (yX1_mix, cX1_mix, 3, (Option.some Jvm.ClassFile.FieldType.int), [])
theorem kX1_mix : g_mk mX1_mix 2 := ⟨q1874, q111, ⟨by decide +kernel, by decide +kernel⟩, by decide +kernel, Nat.le_of_ble_eq_true rfl⟩
abbrev mX1_passDays : g_M := (yX1_passDays, cX1_passDays, 2, (Option.some Jvm.ClassFile.FieldType.int), [])
theorem kX1_passDays : g_mk mX1_passDays 1 := ⟨q1882, q111, ⟨by decide +kernel, by decide +kernel⟩, by decide +kernel, Nat.le_of_ble_eq_true rfl⟩
abbrev mX1_colourAt : g_M := (yX1_colourAt, cX1_colourAt, 2, (Option.some Jvm.ClassFile.FieldType.int), [])
theorem kX1_colourAt : g_mk mX1_colourAt 1 := ⟨q1890, q111, ⟨by decide +kernel, by decide +kernel⟩, by decide +kernel, Nat.le_of_ble_eq_true rfl⟩
abbrev mX1_checkElement : g_M := (yX1_checkElement, cX1_checkElement, 1, (Option.none : Option Jvm.ClassFile.FieldType), [])
theorem kX1_checkElement : g_mk mX1_checkElement 1 := ⟨q1893, q111, ⟨by decide +kernel, by decide +kernel⟩, by decide +kernel, Nat.le_of_ble_eq_true rfl⟩
abbrev mX1_red : g_M := (yX1_red, cX1_red, 2, (Option.some Jvm.ClassFile.FieldType.int), [])
theorem kX1_red : g_mk mX1_red 1 := ⟨q1903, q111, ⟨by decide +kernel, by decide +kernel⟩, by decide +kernel, Nat.le_of_ble_eq_true rfl⟩
abbrev mX1_colourWith : g_M := (yX1_colourWith, cX1_colourWith, 2, (Option.some (Jvm.ClassFile.FieldType.object "ColourOffice$Found")), [])
theorem kX1_colourWith : g_mk mX1_colourWith 1 := ⟨q1907, q111, ⟨by decide +kernel, by decide +kernel⟩, by decide +kernel, Nat.le_of_ble_eq_true rfl⟩
abbrev mX1_green : g_M := (yX1_green, cX1_green, 2, (Option.some Jvm.ClassFile.FieldType.int), [])
theorem kX1_green : g_mk mX1_green 1 := ⟨q1917, q111, ⟨by decide +kernel, by decide +kernel⟩, by decide +kernel, Nat.le_of_ble_eq_true rfl⟩
abbrev mX1_blue : g_M := (yX1_blue, cX1_blue, 2, (Option.some Jvm.ClassFile.FieldType.int), [])
theorem kX1_blue : g_mk mX1_blue 1 := ⟨q1924, q111, ⟨by decide +kernel, by decide +kernel⟩, by decide +kernel, Nat.le_of_ble_eq_true rfl⟩
abbrev mX1_fastness : g_M := (yX1_fastness, cX1_fastness, 2, (Option.some Jvm.ClassFile.FieldType.int), [])
theorem kX1_fastness : g_mk mX1_fastness 1 := ⟨q1931, q111, ⟨by decide +kernel, by decide +kernel⟩, by decide +kernel, Nat.le_of_ble_eq_true rfl⟩
abbrev mX1_age : g_M := (yX1_age, cX1_age, 2, (Option.some Jvm.ClassFile.FieldType.int), [])
theorem kX1_age : g_mk mX1_age 1 := ⟨q1938, q111, ⟨by decide +kernel, by decide +kernel⟩, by decide +kernel, Nat.le_of_ble_eq_true rfl⟩
abbrev mX1_daysUntilGrey : g_M := (yX1_daysUntilGrey, cX1_daysUntilGrey, 2, (Option.some Jvm.ClassFile.FieldType.int), [])
theorem kX1_daysUntilGrey : g_mk mX1_daysUntilGrey 1 := ⟨q1945, q111, ⟨by decide +kernel, by decide +kernel⟩, by decide +kernel, Nat.le_of_ble_eq_true rfl⟩
abbrev mX1_colourByBrightness : g_M := (yX1_colourByBrightness, cX1_colourByBrightness, 2, (Option.some Jvm.ClassFile.FieldType.int), [])
theorem kX1_colourByBrightness : g_mk mX1_colourByBrightness 1 := ⟨q1961, q111, ⟨by decide +kernel, by decide +kernel⟩, by decide +kernel, Nat.le_of_ble_eq_true rfl⟩
abbrev mX1_found : g_M := (yX1_found, cX1_found, 1, (Option.some Jvm.ClassFile.FieldType.int), [])
theorem kX1_found : g_mk mX1_found 1 := ⟨q1972, q111, ⟨by decide +kernel, by decide +kernel⟩, by decide +kernel, Nat.le_of_ble_eq_true rfl⟩
abbrev mX1_reportAt : g_M := (yX1_reportAt, cX1_reportAt, 2, (Option.some Jvm.ClassFile.FieldType.int), [])
theorem kX1_reportAt : g_mk mX1_reportAt 1 := ⟨q1979, q111, ⟨by decide +kernel, by decide +kernel⟩, by decide +kernel, Nat.le_of_ble_eq_true rfl⟩
abbrev mX1_toleranceOf : g_M := (yX1_toleranceOf, cX1_toleranceOf, 2, (Option.some Jvm.ClassFile.FieldType.int), [])
theorem kX1_toleranceOf : g_mk mX1_toleranceOf 1 := ⟨q1990, q111, ⟨by decide +kernel, by decide +kernel⟩, by decide +kernel, Nat.le_of_ble_eq_true rfl⟩
abbrev mX1_reportWith : g_M := (yX1_reportWith, cX1_reportWith, 2, (Option.some (Jvm.ClassFile.FieldType.object "ColourOffice$Report")), [])
theorem kX1_reportWith : g_mk mX1_reportWith 1 := ⟨q1994, q111, ⟨by decide +kernel, by decide +kernel⟩, by decide +kernel, Nat.le_of_ble_eq_true rfl⟩
abbrev mX1_rewardOf : g_M := (yX1_rewardOf, cX1_rewardOf, 2, (Option.some Jvm.ClassFile.FieldType.int), [])
theorem kX1_rewardOf : g_mk mX1_rewardOf 1 := ⟨q2003, q111, ⟨by decide +kernel, by decide +kernel⟩, by decide +kernel, Nat.le_of_ble_eq_true rfl⟩
abbrev mX1_distanceFor : g_M := (yX1_distanceFor, cX1_distanceFor, 3, (Option.some Jvm.ClassFile.FieldType.int), [])
theorem kX1_distanceFor : g_mk mX1_distanceFor 2 := ⟨q2010, q111, ⟨by decide +kernel, by decide +kernel⟩, by decide +kernel, Nat.le_of_ble_eq_true rfl⟩
abbrev mX1_fits : g_M := (yX1_fits, cX1_fits, 3, (Option.some Jvm.ClassFile.FieldType.boolean), [])
theorem kX1_fits : g_mk mX1_fits 2 := ⟨q2018, q111, ⟨by decide +kernel, by decide +kernel⟩, by decide +kernel, Nat.le_of_ble_eq_true rfl⟩
abbrev mX1_nearestFor : g_M := (yX1_nearestFor, cX1_nearestFor, 2, (Option.some Jvm.ClassFile.FieldType.int), [])
theorem kX1_nearestFor : g_mk mX1_nearestFor 1 := ⟨q2026, q111, ⟨by decide +kernel, by decide +kernel⟩, by decide +kernel, Nat.le_of_ble_eq_true rfl⟩
abbrev mX1_idOf : g_M := (yX1_idOf, cX1_idOf, 1, (Option.some Jvm.ClassFile.FieldType.int), [])
theorem kX1_idOf : g_mk mX1_idOf 1 := ⟨q2031, q111, ⟨by decide +kernel, by decide +kernel⟩, by decide +kernel, Nat.le_of_ble_eq_true rfl⟩
abbrev mX1_distance_2 : g_M := (yX1_distance_2, cX1_distance_2, 3, (Option.some Jvm.ClassFile.FieldType.int), [])
theorem kX1_distance_2 : g_mk mX1_distance_2 2 := ⟨q2041, q111, ⟨by decide +kernel, by decide +kernel⟩, by decide +kernel, Nat.le_of_ble_eq_true rfl⟩
abbrev mX1_nearest : g_M := (yX1_nearest, cX1_nearest, 4, (Option.some Jvm.ClassFile.FieldType.int), [])
theorem kX1_nearest : g_mk mX1_nearest 3 := ⟨q2050, q111, ⟨by decide +kernel, by decide +kernel⟩, by decide +kernel, Nat.le_of_ble_eq_true rfl⟩
abbrev mX1_checkArgument : g_M := (yX1_checkArgument, cX1_checkArgument, 1, (Option.none : Option Jvm.ClassFile.FieldType), [])
theorem kX1_checkArgument : g_mk mX1_checkArgument 1 := ⟨q2054, q111, ⟨by decide +kernel, by decide +kernel⟩, by decide +kernel, Nat.le_of_ble_eq_true rfl⟩
abbrev mX1_nearestByLooking : g_M := (yX1_nearestByLooking, cX1_nearestByLooking, 4, (Option.some Jvm.ClassFile.FieldType.int), [])
theorem kX1_nearestByLooking : g_mk mX1_nearestByLooking 3 := ⟨q2065, q111, ⟨by decide +kernel, by decide +kernel⟩, by decide +kernel, Nat.le_of_ble_eq_true rfl⟩
abbrev mX1_closestDistance : g_M := (yX1_closestDistance, cX1_closestDistance, 1, (Option.some Jvm.ClassFile.FieldType.int), [])
theorem kX1_closestDistance : g_mk mX1_closestDistance 0 := ⟨q2073, q111, ⟨by decide +kernel, by decide +kernel⟩, by decide +kernel, Nat.le_of_ble_eq_true rfl⟩
abbrev mX1_closestDistanceBySorting : g_M := (yX1_closestDistanceBySorting, cX1_closestDistanceBySorting, 1, (Option.some Jvm.ClassFile.FieldType.int), [])
theorem kX1_closestDistanceBySorting : g_mk mX1_closestDistanceBySorting 0 := ⟨q2081, q111, ⟨by decide +kernel, by decide +kernel⟩, by decide +kernel, Nat.le_of_ble_eq_true rfl⟩
abbrev mX1_settlementFor : g_M := (yX1_settlementFor, cX1_settlementFor, 3, (Option.some Jvm.ClassFile.FieldType.int), [])
theorem kX1_settlementFor : g_mk mX1_settlementFor 1 := ⟨q2089, q111, ⟨by decide +kernel, by decide +kernel⟩, by decide +kernel, Nat.le_of_ble_eq_true rfl⟩
abbrev mX1_paletteError : g_M := (yX1_paletteError, cX1_paletteError, 3, (Option.some Jvm.ClassFile.FieldType.int), [])
theorem kX1_paletteError : g_mk mX1_paletteError 1 := ⟨q2098, q111, ⟨by decide +kernel, by decide +kernel⟩, by decide +kernel, Nat.le_of_ble_eq_true rfl⟩
abbrev mX1_palettes : g_M := (yX1_palettes, cX1_palettes, 2, (Option.some (Jvm.ClassFile.FieldType.object "ColourOffice$Palettes")), [])
theorem kX1_palettes : g_mk mX1_palettes 1 := ⟨q2102, q111, ⟨by decide +kernel, by decide +kernel⟩, by decide +kernel, Nat.le_of_ble_eq_true rfl⟩
abbrev mX1_paletteErrorBySearch : g_M := (yX1_paletteErrorBySearch, cX1_paletteErrorBySearch, 2, (Option.some Jvm.ClassFile.FieldType.int), [])
theorem kX1_paletteErrorBySearch : g_mk mX1_paletteErrorBySearch 1 := ⟨q2113, q111, ⟨by decide +kernel, by decide +kernel⟩, by decide +kernel, Nat.le_of_ble_eq_true rfl⟩
abbrev mX1_paletteColour : g_M := (yX1_paletteColour, cX1_paletteColour, 6, (Option.some Jvm.ClassFile.FieldType.int), [])
theorem kX1_paletteColour : g_mk mX1_paletteColour 2 := ⟨q2121, q111, ⟨by decide +kernel, by decide +kernel⟩, by decide +kernel, Nat.le_of_ble_eq_true rfl⟩
abbrev mX1_meanBrightness : g_M := (yX1_meanBrightness, cX1_meanBrightness, 2, (Option.some Jvm.ClassFile.FieldType.double), [])
theorem kX1_meanBrightness : g_mk mX1_meanBrightness 0 := ⟨q2142, q111, ⟨by decide +kernel, by decide +kernel⟩, by decide +kernel, Nat.le_of_ble_eq_true rfl⟩
abbrev mX1_coloursAsDivisor : g_M := (yX1_coloursAsDivisor, cX1_coloursAsDivisor, 1, (Option.some Jvm.ClassFile.FieldType.int), [])
theorem kX1_coloursAsDivisor : g_mk mX1_coloursAsDivisor 0 := ⟨q2146, q111, ⟨by decide +kernel, by decide +kernel⟩, by decide +kernel, Nat.le_of_ble_eq_true rfl⟩
abbrev mX1_greyShare : g_M := (yX1_greyShare, cX1_greyShare, 2, (Option.some Jvm.ClassFile.FieldType.float), [])
theorem kX1_greyShare : g_mk mX1_greyShare 0 := ⟨q2162, q111, ⟨by decide +kernel, by decide +kernel⟩, by decide +kernel, Nat.le_of_ble_eq_true rfl⟩
abbrev mX1_renderColour : g_M := (yX1_renderColour, cX1_renderColour, 2, (Option.some Jvm.ClassFile.FieldType.int), [])
theorem kX1_renderColour : g_mk mX1_renderColour 1 := ⟨q2170, q111, ⟨by decide +kernel, by decide +kernel⟩, by decide +kernel, Nat.le_of_ble_eq_true rfl⟩
abbrev mX1_write : g_M := (yX1_write, cX1_write, 2, (Option.some Jvm.ClassFile.FieldType.int), [])
theorem kX1_write : g_mk mX1_write 1 := ⟨q2198, q111, ⟨by decide +kernel, by decide +kernel⟩, by decide +kernel, Nat.le_of_ble_eq_true rfl⟩
abbrev mX1_renderReport : g_M := (yX1_renderReport, cX1_renderReport, 2, (Option.some Jvm.ClassFile.FieldType.int), [])
theorem kX1_renderReport : g_mk mX1_renderReport 1 := ⟨q2206, q111, ⟨by decide +kernel, by decide +kernel⟩, by decide +kernel, Nat.le_of_ble_eq_true rfl⟩
abbrev mX1_outputAt : g_M := (yX1_outputAt, cX1_outputAt, 2, (Option.some Jvm.ClassFile.FieldType.char), [])
theorem kX1_outputAt : g_mk mX1_outputAt 1 := ⟨q2242, q111, ⟨by decide +kernel, by decide +kernel⟩, by decide +kernel, Nat.le_of_ble_eq_true rfl⟩
abbrev mX1_checkIndex : g_M := (yX1_checkIndex, cX1_checkIndex, 1, (Option.none : Option Jvm.ClassFile.FieldType), [])
theorem kX1_checkIndex : g_mk mX1_checkIndex 1 := ⟨q2245, q111, ⟨by decide +kernel, by decide +kernel⟩, by decide +kernel, Nat.le_of_ble_eq_true rfl⟩
abbrev mX1_type : g_M := (yX1_type, cX1_type, 2, (Option.some Jvm.ClassFile.FieldType.int), [])
theorem kX1_type : g_mk mX1_type 1 := ⟨q2275, q111, ⟨by decide +kernel, by decide +kernel⟩, by decide +kernel, Nat.le_of_ble_eq_true rfl⟩
abbrev mX1_checkState : g_M := (yX1_checkState, cX1_checkState, 1, (Option.none : Option Jvm.ClassFile.FieldType), [])
theorem kX1_checkState : g_mk mX1_checkState 1 := ⟨q2279, q111, ⟨by decide +kernel, by decide +kernel⟩, by decide +kernel, Nat.le_of_ble_eq_true rfl⟩
abbrev mX1_runScript : g_M := (yX1_runScript, cX1_runScript, 4, (Option.some Jvm.ClassFile.FieldType.int), [(8, 24, 34, 386), (8, 24, 34, 381), (8, 24, 45, 0), (34, 46, 45, 0)])
theorem kX1_runScript : g_mk mX1_runScript 0 := ⟨q2301, q111, ⟨by decide +kernel, by decide +kernel⟩, by decide +kernel, Nat.le_of_ble_eq_true rfl⟩
abbrev mX1_execute : g_M := (yX1_execute, cX1_execute, 5, (Option.some Jvm.ClassFile.FieldType.int), [(20, 35, 38, 1)])
theorem kX1_execute : g_mk mX1_execute 1 := ⟨q2522, q111, ⟨by decide +kernel, by decide +kernel⟩, by decide +kernel, Nat.le_of_ble_eq_true rfl⟩
abbrev mX1_note : g_M := (yX1_note, cX1_note, 4, (Option.none : Option Jvm.ClassFile.FieldType), [])
theorem kX1_note : g_mk mX1_note 1 := ⟨q2595, q111, ⟨by decide +kernel, by decide +kernel⟩, by decide +kernel, Nat.le_of_ble_eq_true rfl⟩
abbrev mX1_errorPosition : g_M := (yX1_errorPosition, cX1_errorPosition, 1, (Option.some Jvm.ClassFile.FieldType.int), [])
theorem kX1_errorPosition : g_mk mX1_errorPosition 0 := ⟨q2639, q111, ⟨by decide +kernel, by decide +kernel⟩, by decide +kernel, Nat.le_of_ble_eq_true rfl⟩
abbrev mX1_failedCommand : g_M := (yX1_failedCommand, cX1_failedCommand, 1, (Option.some Jvm.ClassFile.FieldType.int), [])
theorem kX1_failedCommand : g_mk mX1_failedCommand 0 := ⟨q2646, q111, ⟨by decide +kernel, by decide +kernel⟩, by decide +kernel, Nat.le_of_ble_eq_true rfl⟩
abbrev mX1_failureKind : g_M := (yX1_failureKind, cX1_failureKind, 1, (Option.some Jvm.ClassFile.FieldType.char), [])
theorem kX1_failureKind : g_mk mX1_failureKind 0 := ⟨q2653, q111, ⟨by decide +kernel, by decide +kernel⟩, by decide +kernel, Nat.le_of_ble_eq_true rfl⟩
abbrev mX1_undo : g_M := (yX1_undo, cX1_undo, 1, (Option.some Jvm.ClassFile.FieldType.int), [])
theorem kX1_undo : g_mk mX1_undo 0 := ⟨q2660, q111, ⟨by decide +kernel, by decide +kernel⟩, by decide +kernel, Nat.le_of_ble_eq_true rfl⟩
abbrev mX1_restore : g_M := (yX1_restore, cX1_restore, 1, (Option.some Jvm.ClassFile.FieldType.int), [])
theorem kX1_restore : g_mk mX1_restore 0 := ⟨q2684, q111, ⟨by decide +kernel, by decide +kernel⟩, by decide +kernel, Nat.le_of_ble_eq_true rfl⟩
abbrev mX2_init : g_M := (yX2_init, cX2_init, 1, (Option.none : Option Jvm.ClassFile.FieldType), [])
theorem kX2_init : g_mk mX2_init 0 := ⟨q176, q112, ⟨by decide +kernel, by decide +kernel⟩, by decide +kernel, Nat.le_of_ble_eq_true rfl⟩
abbrev mX2_copy : g_M := (yX2_copy, cX2_copy, 3, (Option.some (Jvm.ClassFile.FieldType.object "ColourOffice$Office")), [])
theorem kX2_copy : g_mk mX2_copy 0 := ⟨q362, q112, ⟨by decide +kernel, by decide +kernel⟩, by decide +kernel, Nat.le_of_ble_eq_true rfl⟩
abbrev mX2_addColour : g_M := (yX2_addColour, cX2_addColour, 5, (Option.some Jvm.ClassFile.FieldType.int), [])
theorem kX2_addColour : g_mk mX2_addColour 4 := ⟨q1037, q112, ⟨by decide +kernel, by decide +kernel⟩, by decide +kernel, Nat.le_of_ble_eq_true rfl⟩
abbrev mX2_add : g_M := (yX2_add, cX2_add, 3, (Option.some Jvm.ClassFile.FieldType.int), [])
theorem kX2_add : g_mk mX2_add 2 := ⟨q1090, q112, ⟨by decide +kernel, by decide +kernel⟩, by decide +kernel, Nat.le_of_ble_eq_true rfl⟩
abbrev mX2_addReport : g_M := (yX2_addReport, cX2_addReport, 4, (Option.some Jvm.ClassFile.FieldType.int), [])
theorem kX2_addReport : g_mk mX2_addReport 3 := ⟨q1101, q112, ⟨by decide +kernel, by decide +kernel⟩, by decide +kernel, Nat.le_of_ble_eq_true rfl⟩
abbrev mX2_withdraw : g_M := (yX2_withdraw, cX2_withdraw, 2, (Option.some Jvm.ClassFile.FieldType.int), [])
theorem kX2_withdraw : g_mk mX2_withdraw 1 := ⟨q1138, q112, ⟨by decide +kernel, by decide +kernel⟩, by decide +kernel, Nat.le_of_ble_eq_true rfl⟩
abbrev mX2_hasReport : g_M := (yX2_hasReport, cX2_hasReport, 2, (Option.some Jvm.ClassFile.FieldType.boolean), [])
theorem kX2_hasReport : g_mk mX2_hasReport 1 := ⟨q1142, q112, ⟨by decide +kernel, by decide +kernel⟩, by decide +kernel, Nat.le_of_ble_eq_true rfl⟩
abbrev mX2_placeOfReport : g_M := (yX2_placeOfReport, cX2_placeOfReport, 4, (Option.some Jvm.ClassFile.FieldType.int), [])
theorem kX2_placeOfReport : g_mk mX2_placeOfReport 1 := ⟨q1146, q112, ⟨by decide +kernel, by decide +kernel⟩, by decide +kernel, Nat.le_of_ble_eq_true rfl⟩
abbrev mX2_discard : g_M := (yX2_discard, cX2_discard, 2, (Option.some Jvm.ClassFile.FieldType.int), [])
theorem kX2_discard : g_mk mX2_discard 1 := ⟨q1173, q112, ⟨by decide +kernel, by decide +kernel⟩, by decide +kernel, Nat.le_of_ble_eq_true rfl⟩
abbrev mX2_hasColour : g_M := (yX2_hasColour, cX2_hasColour, 2, (Option.some Jvm.ClassFile.FieldType.boolean), [])
theorem kX2_hasColour : g_mk mX2_hasColour 1 := ⟨q1177, q112, ⟨by decide +kernel, by decide +kernel⟩, by decide +kernel, Nat.le_of_ble_eq_true rfl⟩
abbrev mX2_setMetric : g_M := (yX2_setMetric, cX2_setMetric, 3, (Option.some Jvm.ClassFile.FieldType.int), [])
theorem kX2_setMetric : g_mk mX2_setMetric 1 := ⟨q1190, q112, ⟨by decide +kernel, by decide +kernel⟩, by decide +kernel, Nat.le_of_ble_eq_true rfl⟩
abbrev mX2_giveBack : g_M := (yX2_giveBack, cX2_giveBack, 4, (Option.some Jvm.ClassFile.FieldType.int), [])
theorem kX2_giveBack : g_mk mX2_giveBack 2 := ⟨q1241, q112, ⟨by decide +kernel, by decide +kernel⟩, by decide +kernel, Nat.le_of_ble_eq_true rfl⟩
abbrev mX2_tree : g_M := (yX2_tree, cX2_tree, 1, (Option.some (Jvm.ClassFile.FieldType.object "ColourOffice$Tree")), [])
theorem kX2_tree : g_mk mX2_tree 0 := ⟨q1245, q112, ⟨by decide +kernel, by decide +kernel⟩, by decide +kernel, Nat.le_of_ble_eq_true rfl⟩
abbrev mX2_metric : g_M := (yX2_metric, cX2_metric, 1, (Option.some (Jvm.ClassFile.FieldType.object "ColourOffice$Metric")), [])
theorem kX2_metric : g_mk mX2_metric 0 := ⟨q1251, q112, ⟨by decide +kernel, by decide +kernel⟩, by decide +kernel, Nat.le_of_ble_eq_true rfl⟩
abbrev mX2_report : g_M := (yX2_report, cX2_report, 2, (Option.some (Jvm.ClassFile.FieldType.object "ColourOffice$Report")), [])
theorem kX2_report : g_mk mX2_report 1 := ⟨q1321, q112, ⟨by decide +kernel, by decide +kernel⟩, by decide +kernel, Nat.le_of_ble_eq_true rfl⟩
abbrev mX2_fits : g_M := (yX2_fits, cX2_fits, 3, (Option.some Jvm.ClassFile.FieldType.boolean), [])
theorem kX2_fits : g_mk mX2_fits 2 := ⟨q1391, q112, ⟨by decide +kernel, by decide +kernel⟩, by decide +kernel, Nat.le_of_ble_eq_true rfl⟩
abbrev mX2_distanceFor : g_M := (yX2_distanceFor, cX2_distanceFor, 3, (Option.some Jvm.ClassFile.FieldType.int), [])
theorem kX2_distanceFor : g_mk mX2_distanceFor 2 := ⟨q1395, q112, ⟨by decide +kernel, by decide +kernel⟩, by decide +kernel, Nat.le_of_ble_eq_true rfl⟩
abbrev mX2_colour : g_M := (yX2_colour, cX2_colour, 2, (Option.some (Jvm.ClassFile.FieldType.object "ColourOffice$Found")), [])
theorem kX2_colour : g_mk mX2_colour 1 := ⟨q1399, q112, ⟨by decide +kernel, by decide +kernel⟩, by decide +kernel, Nat.le_of_ble_eq_true rfl⟩
abbrev mX2_handOver : g_M := (yX2_handOver, cX2_handOver, 4, (Option.some Jvm.ClassFile.FieldType.int), [])
theorem kX2_handOver : g_mk mX2_handOver 2 := ⟨q1408, q112, ⟨by decide +kernel, by decide +kernel⟩, by decide +kernel, Nat.le_of_ble_eq_true rfl⟩
abbrev mX2_settle : g_M := (yX2_settle, cX2_settle, 5, (Option.some Jvm.ClassFile.FieldType.int), [])
theorem kX2_settle : g_mk mX2_settle 0 := ⟨q1412, q112, ⟨by decide +kernel, by decide +kernel⟩, by decide +kernel, Nat.le_of_ble_eq_true rfl⟩
abbrev mX2_settlement : g_M := (yX2_settlement, cX2_settlement, 1, (Option.some (Jvm.ClassFile.FieldType.object "ColourOffice$Settlement")), [])
theorem kX2_settlement : g_mk mX2_settlement 0 := ⟨q1416, q112, ⟨by decide +kernel, by decide +kernel⟩, by decide +kernel, Nat.le_of_ble_eq_true rfl⟩
abbrev mX2_mix : g_M := (yX2_mix, cX2_mix, 5, (Option.some Jvm.ClassFile.FieldType.int), [])
theorem kX2_mix : g_mk mX2_mix 2 := ⟨q1475, q112, ⟨by decide +kernel, by decide +kernel⟩, by decide +kernel, Nat.le_of_ble_eq_true rfl⟩
abbrev mX2_passDays : g_M := (yX2_passDays, cX2_passDays, 4, (Option.some Jvm.ClassFile.FieldType.int), [])
theorem kX2_passDays : g_mk mX2_passDays 1 := ⟨q1491, q112, ⟨by decide +kernel, by decide +kernel⟩, by decide +kernel, Nat.le_of_ble_eq_true rfl⟩
abbrev mX2_greyCount : g_M := (yX2_greyCount, cX2_greyCount, 4, (Option.some Jvm.ClassFile.FieldType.int), [])
theorem kX2_greyCount : g_mk mX2_greyCount 0 := ⟨q1510, q112, ⟨by decide +kernel, by decide +kernel⟩, by decide +kernel, Nat.le_of_ble_eq_true rfl⟩
abbrev mX2_coinsByAccounts : g_M := (yX2_coinsByAccounts, cX2_coinsByAccounts, 1, (Option.some Jvm.ClassFile.FieldType.int), [])
theorem kX2_coinsByAccounts : g_mk mX2_coinsByAccounts 0 := ⟨q1638, q112, ⟨by decide +kernel, by decide +kernel⟩, by decide +kernel, Nat.le_of_ble_eq_true rfl⟩
abbrev mX2_isConsistent : g_M := (yX2_isConsistent, cX2_isConsistent, 3, (Option.some Jvm.ClassFile.FieldType.boolean), [])
theorem kX2_isConsistent : g_mk mX2_isConsistent 0 := ⟨q1650, q112, ⟨by decide +kernel, by decide +kernel⟩, by decide +kernel, Nat.le_of_ble_eq_true rfl⟩
abbrev mX2_areNearestAlike : g_M := (yX2_areNearestAlike, cX2_areNearestAlike, 5, (Option.some Jvm.ClassFile.FieldType.boolean), [])
theorem kX2_areNearestAlike : g_mk mX2_areNearestAlike 0 := ⟨q1654, q112, ⟨by decide +kernel, by decide +kernel⟩, by decide +kernel, Nat.le_of_ble_eq_true rfl⟩
abbrev mX2_arePalettesAlike : g_M := (yX2_arePalettesAlike, cX2_arePalettesAlike, 4, (Option.some Jvm.ClassFile.FieldType.boolean), [])
theorem kX2_arePalettesAlike : g_mk mX2_arePalettesAlike 0 := ⟨q1668, q112, ⟨by decide +kernel, by decide +kernel⟩, by decide +kernel, Nat.le_of_ble_eq_true rfl⟩
abbrev mX2_closestDistance : g_M := (yX2_closestDistance, cX2_closestDistance, 5, (Option.some Jvm.ClassFile.FieldType.int), [])
theorem kX2_closestDistance : g_mk mX2_closestDistance 0 := ⟨q1724, q112, ⟨by decide +kernel, by decide +kernel⟩, by decide +kernel, Nat.le_of_ble_eq_true rfl⟩
abbrev mX2_closestDistanceBySorting : g_M := (yX2_closestDistanceBySorting, cX2_closestDistanceBySorting, 6, (Option.some Jvm.ClassFile.FieldType.int), [])
theorem kX2_closestDistanceBySorting : g_mk mX2_closestDistanceBySorting 0 := ⟨q1729, q112, ⟨by decide +kernel, by decide +kernel⟩, by decide +kernel, Nat.le_of_ble_eq_true rfl⟩
abbrev mX2_sortedByRed : g_M := (yX2_sortedByRed, cX2_sortedByRed, 4, (Option.some (Jvm.ClassFile.FieldType.object "java/util/List")), [])
theorem kX2_sortedByRed : g_mk mX2_sortedByRed 0 := ⟨q1733, q112, ⟨by decide +kernel, by decide +kernel⟩, by decide +kernel, Nat.le_of_ble_eq_true rfl⟩
abbrev mX2_redBound : g_M := (yX2_redBound, cX2_redBound, 3, (Option.some Jvm.ClassFile.FieldType.int), [])
theorem kX2_redBound : g_mk mX2_redBound 3 := ⟨q1805, q112, ⟨by decide +kernel, by decide +kernel⟩, by decide +kernel, Nat.le_of_ble_eq_true rfl⟩
abbrev mX2_colourAt : g_M := (yX2_colourAt, cX2_colourAt, 8, (Option.some Jvm.ClassFile.FieldType.int), [])
theorem kX2_colourAt : g_mk mX2_colourAt 1 := ⟨q1965, q112, ⟨by decide +kernel, by decide +kernel⟩, by decide +kernel, Nat.le_of_ble_eq_true rfl⟩
abbrev mX2_brightness : g_M := (yX2_brightness, cX2_brightness, 4, (Option.some Jvm.ClassFile.FieldType.int), [])
theorem kX2_brightness : g_mk mX2_brightness 0 := ⟨q2155, q112, ⟨by decide +kernel, by decide +kernel⟩, by decide +kernel, Nat.le_of_ble_eq_true rfl⟩
abbrev mX3_init : g_M := (yX3_init, cX3_init, 1, (Option.none : Option Jvm.ClassFile.FieldType), [])
theorem kX3_init : g_mk mX3_init 0 := ⟨q182, q113, ⟨by decide +kernel, by decide +kernel⟩, by decide +kernel, Nat.le_of_ble_eq_true rfl⟩
abbrev mX3_copy : g_M := (yX3_copy, cX3_copy, 4, (Option.some (Jvm.ClassFile.FieldType.object "ColourOffice$Shelf")), [])
theorem kX3_copy : g_mk mX3_copy 0 := ⟨q368, q113, ⟨by decide +kernel, by decide +kernel⟩, by decide +kernel, Nat.le_of_ble_eq_true rfl⟩
abbrev mX3_iterator : g_M := (yX3_iterator, cX3_iterator, 1, (Option.some (Jvm.ClassFile.FieldType.object "java/util/Iterator")), [])
theorem kX3_iterator : g_mk mX3_iterator 0 := ⟨q374, q113, ⟨by decide +kernel, by decide +kernel⟩, by decide +kernel, Nat.le_of_ble_eq_true rfl⟩
abbrev mX3_add : g_M := (yX3_add, cX3_add, 2, (Option.none : Option Jvm.ClassFile.FieldType), [])
theorem kX3_add : g_mk mX3_add 1 := ⟨q524, q113, ⟨by decide +kernel, by decide +kernel⟩, by decide +kernel, Nat.le_of_ble_eq_true rfl⟩
abbrev mX3_count : g_M := (yX3_count, cX3_count, 1, (Option.some Jvm.ClassFile.FieldType.int), [])
theorem kX3_count : g_mk mX3_count 0 := ⟨q1076, q113, ⟨by decide +kernel, by decide +kernel⟩, by decide +kernel, Nat.le_of_ble_eq_true rfl⟩
abbrev mX3_placeOf : g_M := (yX3_placeOf, cX3_placeOf, 4, (Option.some Jvm.ClassFile.FieldType.int), [])
theorem kX3_placeOf : g_mk mX3_placeOf 1 := ⟨q1181, q113, ⟨by decide +kernel, by decide +kernel⟩, by decide +kernel, Nat.le_of_ble_eq_true rfl⟩
abbrev mX3_remove : g_M := (yX3_remove, cX3_remove, 3, (Option.none : Option Jvm.ClassFile.FieldType), [])
theorem kX3_remove : g_mk mX3_remove 1 := ⟨q1185, q113, ⟨by decide +kernel, by decide +kernel⟩, by decide +kernel, Nat.le_of_ble_eq_true rfl⟩
abbrev mX3_at : g_M := (yX3_at, cX3_at, 2, (Option.some (Jvm.ClassFile.FieldType.object "ColourOffice$Found")), [])
theorem kX3_at : g_mk mX3_at 1 := ⟨q1403, q113, ⟨by decide +kernel, by decide +kernel⟩, by decide +kernel, Nat.le_of_ble_eq_true rfl⟩
abbrev mJ0_init : g_M := (yJ0_init, cJ0_init, 1, (Option.none : Option Jvm.ClassFile.FieldType), [])
theorem kJ0_init : g_mk mJ0_init 0 := ⟨q205, q114, ⟨by decide +kernel, by decide +kernel⟩, by decide +kernel, Nat.le_of_ble_eq_true rfl⟩
abbrev mJ1_init : g_M := (yJ1_init, cJ1_init, 1, (Option.none : Option Jvm.ClassFile.FieldType), [])
theorem kJ1_init : g_mk mJ1_init 0 := ⟨q202, q115, ⟨by decide +kernel, by decide +kernel⟩, by decide +kernel, Nat.le_of_ble_eq_true rfl⟩
abbrev mJ2_init : g_M := (yJ2_init, cJ2_init, 1, (Option.none : Option Jvm.ClassFile.FieldType), [])
theorem kJ2_init : g_mk mJ2_init 0 := ⟨q199, q116, ⟨by decide +kernel, by decide +kernel⟩, by decide +kernel, Nat.le_of_ble_eq_true rfl⟩
abbrev mJ2_size : g_M := (yJ2_size, cJ2_size, 1, (Option.some Jvm.ClassFile.FieldType.int), [])
theorem kJ2_size : g_mk mJ2_size 0 := ⟨q534, q116, ⟨by decide +kernel, by decide +kernel⟩, by decide +kernel, Nat.le_of_ble_eq_true rfl⟩
abbrev mJ2_get : g_M := (yJ2_get, cJ2_get, 2, (Option.some (Jvm.ClassFile.FieldType.object "java/lang/Object")), [])
theorem kJ2_get : g_mk mJ2_get 1 := ⟨q549, q116, ⟨by decide +kernel, by decide +kernel⟩, by decide +kernel, Nat.le_of_ble_eq_true rfl⟩
abbrev mJ2_elementData : g_M := (yJ2_elementData, cJ2_elementData, 2, (Option.some (Jvm.ClassFile.FieldType.object "java/lang/Object")), [])
theorem kJ2_elementData : g_mk mJ2_elementData 1 := ⟨q559, q116, ⟨by decide +kernel, by decide +kernel⟩, by decide +kernel, Nat.le_of_ble_eq_true rfl⟩
abbrev mJ2_add : g_M := (yJ2_add, cJ2_add, 2, (Option.some Jvm.ClassFile.FieldType.boolean), [])
theorem kJ2_add : g_mk mJ2_add 1 := ⟨q845, q116, ⟨by decide +kernel, by decide +kernel⟩, by decide +kernel, Nat.le_of_ble_eq_true rfl⟩
abbrev mJ2_add_2 : g_M := (yJ2_add_2, cJ2_add_2, 4, (Option.none : Option Jvm.ClassFile.FieldType), [])
theorem kJ2_add_2 : g_mk mJ2_add_2 3 := ⟨q849, q116, ⟨by decide +kernel, by decide +kernel⟩, by decide +kernel, Nat.le_of_ble_eq_true rfl⟩
abbrev mJ2_grow : g_M := (yJ2_grow, cJ2_grow, 1, (Option.some (Jvm.ClassFile.FieldType.array (Jvm.ClassFile.FieldType.object "java/lang/Object"))), [])
theorem kJ2_grow : g_mk mJ2_grow 0 := ⟨q853, q116, ⟨by decide +kernel, by decide +kernel⟩, by decide +kernel, Nat.le_of_ble_eq_true rfl⟩
abbrev mJ2_grow_2 : g_M := (yJ2_grow_2, cJ2_grow_2, 4, (Option.some (Jvm.ClassFile.FieldType.array (Jvm.ClassFile.FieldType.object "java/lang/Object"))), [])
theorem kJ2_grow_2 : g_mk mJ2_grow_2 1 := ⟨q857, q116, ⟨by decide +kernel, by decide +kernel⟩, by decide +kernel, Nat.le_of_ble_eq_true rfl⟩
abbrev mJ2_remove : g_M := (yJ2_remove, cJ2_remove, 4, (Option.some (Jvm.ClassFile.FieldType.object "java/lang/Object")), [])
theorem kJ2_remove : g_mk mJ2_remove 1 := ⟨q1155, q116, ⟨by decide +kernel, by decide +kernel⟩, by decide +kernel, Nat.le_of_ble_eq_true rfl⟩
abbrev mJ2_fastRemove : g_M := (yJ2_fastRemove, cJ2_fastRemove, 4, (Option.none : Option Jvm.ClassFile.FieldType), [])
theorem kJ2_fastRemove : g_mk mJ2_fastRemove 2 := ⟨q1159, q116, ⟨by decide +kernel, by decide +kernel⟩, by decide +kernel, Nat.le_of_ble_eq_true rfl⟩
abbrev mJ2_add_3 : g_M := (yJ2_add_3, cJ2_add_3, 5, (Option.none : Option Jvm.ClassFile.FieldType), [])
theorem kJ2_add_3 : g_mk mJ2_add_3 2 := ⟨q1768, q116, ⟨by decide +kernel, by decide +kernel⟩, by decide +kernel, Nat.le_of_ble_eq_true rfl⟩
abbrev mJ2_rangeCheckForAdd : g_M := (yJ2_rangeCheckForAdd, cJ2_rangeCheckForAdd, 2, (Option.none : Option Jvm.ClassFile.FieldType), [])
theorem kJ2_rangeCheckForAdd : g_mk mJ2_rangeCheckForAdd 1 := ⟨q1772, q116, ⟨by decide +kernel, by decide +kernel⟩, by decide +kernel, Nat.le_of_ble_eq_true rfl⟩
abbrev mJ2_outOfBoundsMsg : g_M := (yJ2_outOfBoundsMsg, cJ2_outOfBoundsMsg, 2, (Option.some (Jvm.ClassFile.FieldType.object "java/lang/String")), [])
theorem kJ2_outOfBoundsMsg : g_mk mJ2_outOfBoundsMsg 1 := ⟨q1777, q116, ⟨by decide +kernel, by decide +kernel⟩, by decide +kernel, Nat.le_of_ble_eq_true rfl⟩
abbrev mX4_init : g_M := (yX4_init, cX4_init, 1, (Option.none : Option Jvm.ClassFile.FieldType), [])
theorem kX4_init : g_mk mX4_init 0 := ⟨q264, q117, ⟨by decide +kernel, by decide +kernel⟩, by decide +kernel, Nat.le_of_ble_eq_true rfl⟩
abbrev mJ3_init : g_M := (yJ3_init, cJ3_init, 1, (Option.none : Option Jvm.ClassFile.FieldType), [])
theorem kJ3_init : g_mk mJ3_init 0 := ⟨q273, q118, ⟨by decide +kernel, by decide +kernel⟩, by decide +kernel, Nat.le_of_ble_eq_true rfl⟩
abbrev mJ4_init : g_M := (yJ4_init, cJ4_init, 1, (Option.none : Option Jvm.ClassFile.FieldType), [])
theorem kJ4_init : g_mk mJ4_init 0 := ⟨q270, q119, ⟨by decide +kernel, by decide +kernel⟩, by decide +kernel, Nat.le_of_ble_eq_true rfl⟩
abbrev mJ4_size : g_M := (yJ4_size, cJ4_size, 1, (Option.some Jvm.ClassFile.FieldType.int), [])
theorem kJ4_size : g_mk mJ4_size 0 := ⟨q540, q119, ⟨by decide +kernel, by decide +kernel⟩, by decide +kernel, Nat.le_of_ble_eq_true rfl⟩
abbrev mJ4_get : g_M := (yJ4_get, cJ4_get, 2, (Option.some (Jvm.ClassFile.FieldType.object "java/lang/Object")), [])
theorem kJ4_get : g_mk mJ4_get 1 := ⟨q564, q119, ⟨by decide +kernel, by decide +kernel⟩, by decide +kernel, Nat.le_of_ble_eq_true rfl⟩
abbrev mJ4_checkElementIndex : g_M := (yJ4_checkElementIndex, cJ4_checkElementIndex, 2, (Option.none : Option Jvm.ClassFile.FieldType), [])
theorem kJ4_checkElementIndex : g_mk mJ4_checkElementIndex 1 := ⟨q568, q119, ⟨by decide +kernel, by decide +kernel⟩, by decide +kernel, Nat.le_of_ble_eq_true rfl⟩
abbrev mJ4_isElementIndex : g_M := (yJ4_isElementIndex, cJ4_isElementIndex, 2, (Option.some Jvm.ClassFile.FieldType.boolean), [])
theorem kJ4_isElementIndex : g_mk mJ4_isElementIndex 1 := ⟨q572, q119, ⟨by decide +kernel, by decide +kernel⟩, by decide +kernel, Nat.le_of_ble_eq_true rfl⟩
abbrev mJ4_outOfBoundsMsg : g_M := (yJ4_outOfBoundsMsg, cJ4_outOfBoundsMsg, 2, (Option.some (Jvm.ClassFile.FieldType.object "java/lang/String")), [])
theorem kJ4_outOfBoundsMsg : g_mk mJ4_outOfBoundsMsg 1 := ⟨q585, q119, ⟨by decide +kernel, by decide +kernel⟩, by decide +kernel, Nat.le_of_ble_eq_true rfl⟩
abbrev mJ4_node : g_M := (yJ4_node, cJ4_node, 4, (Option.some (Jvm.ClassFile.FieldType.object "java/util/LinkedList$Node")), [])
theorem kJ4_node : g_mk mJ4_node 1 := ⟨q835, q119, ⟨by decide +kernel, by decide +kernel⟩, by decide +kernel, Nat.le_of_ble_eq_true rfl⟩
abbrev mJ4_add : g_M := (yJ4_add, cJ4_add, 2, (Option.some Jvm.ClassFile.FieldType.boolean), [])
theorem kJ4_add : g_mk mJ4_add 1 := ⟨q912, q119, ⟨by decide +kernel, by decide +kernel⟩, by decide +kernel, Nat.le_of_ble_eq_true rfl⟩
abbrev mJ4_linkLast : g_M := (yJ4_linkLast, cJ4_linkLast, 4, (Option.none : Option Jvm.ClassFile.FieldType), [])
theorem kJ4_linkLast : g_mk mJ4_linkLast 1 := ⟨q916, q119, ⟨by decide +kernel, by decide +kernel⟩, by decide +kernel, Nat.le_of_ble_eq_true rfl⟩
abbrev mJ4_remove : g_M := (yJ4_remove, cJ4_remove, 2, (Option.some (Jvm.ClassFile.FieldType.object "java/lang/Object")), [])
theorem kJ4_remove : g_mk mJ4_remove 1 := ⟨q1165, q119, ⟨by decide +kernel, by decide +kernel⟩, by decide +kernel, Nat.le_of_ble_eq_true rfl⟩
abbrev mJ4_unlink : g_M := (yJ4_unlink, cJ4_unlink, 5, (Option.some (Jvm.ClassFile.FieldType.object "java/lang/Object")), [])
theorem kJ4_unlink : g_mk mJ4_unlink 1 := ⟨q1169, q119, ⟨by decide +kernel, by decide +kernel⟩, by decide +kernel, Nat.le_of_ble_eq_true rfl⟩
abbrev mJ4_removeFirst : g_M := (yJ4_removeFirst, cJ4_removeFirst, 2, (Option.some (Jvm.ClassFile.FieldType.object "java/lang/Object")), [])
theorem kJ4_removeFirst : g_mk mJ4_removeFirst 0 := ⟨q1529, q119, ⟨by decide +kernel, by decide +kernel⟩, by decide +kernel, Nat.le_of_ble_eq_true rfl⟩
abbrev mJ4_unlinkFirst : g_M := (yJ4_unlinkFirst, cJ4_unlinkFirst, 4, (Option.some (Jvm.ClassFile.FieldType.object "java/lang/Object")), [])
theorem kJ4_unlinkFirst : g_mk mJ4_unlinkFirst 1 := ⟨q1535, q119, ⟨by decide +kernel, by decide +kernel⟩, by decide +kernel, Nat.le_of_ble_eq_true rfl⟩
abbrev mJ4_addLast : g_M := (yJ4_addLast, cJ4_addLast, 2, (Option.none : Option Jvm.ClassFile.FieldType), [])
theorem kJ4_addLast : g_mk mJ4_addLast 1 := ⟨q1539, q119, ⟨by decide +kernel, by decide +kernel⟩, by decide +kernel, Nat.le_of_ble_eq_true rfl⟩
abbrev mJ4_add_2 : g_M := (yJ4_add_2, cJ4_add_2, 3, (Option.none : Option Jvm.ClassFile.FieldType), [])
theorem kJ4_add_2 : g_mk mJ4_add_2 2 := ⟨q1790, q119, ⟨by decide +kernel, by decide +kernel⟩, by decide +kernel, Nat.le_of_ble_eq_true rfl⟩
abbrev mJ4_checkPositionIndex : g_M := (yJ4_checkPositionIndex, cJ4_checkPositionIndex, 2, (Option.none : Option Jvm.ClassFile.FieldType), [])
theorem kJ4_checkPositionIndex : g_mk mJ4_checkPositionIndex 1 := ⟨q1794, q119, ⟨by decide +kernel, by decide +kernel⟩, by decide +kernel, Nat.le_of_ble_eq_true rfl⟩
abbrev mJ4_isPositionIndex : g_M := (yJ4_isPositionIndex, cJ4_isPositionIndex, 2, (Option.some Jvm.ClassFile.FieldType.boolean), [])
theorem kJ4_isPositionIndex : g_mk mJ4_isPositionIndex 1 := ⟨q1798, q119, ⟨by decide +kernel, by decide +kernel⟩, by decide +kernel, Nat.le_of_ble_eq_true rfl⟩
abbrev mJ4_linkBefore : g_M := (yJ4_linkBefore, cJ4_linkBefore, 5, (Option.none : Option Jvm.ClassFile.FieldType), [])
theorem kJ4_linkBefore : g_mk mJ4_linkBefore 2 := ⟨q1802, q119, ⟨by decide +kernel, by decide +kernel⟩, by decide +kernel, Nat.le_of_ble_eq_true rfl⟩
abbrev mJ4_removeLast : g_M := (yJ4_removeLast, cJ4_removeLast, 2, (Option.some (Jvm.ClassFile.FieldType.object "java/lang/Object")), [])
theorem kJ4_removeLast : g_mk mJ4_removeLast 0 := ⟨q2672, q119, ⟨by decide +kernel, by decide +kernel⟩, by decide +kernel, Nat.le_of_ble_eq_true rfl⟩
abbrev mJ4_unlinkLast : g_M := (yJ4_unlinkLast, cJ4_unlinkLast, 4, (Option.some (Jvm.ClassFile.FieldType.object "java/lang/Object")), [])
theorem kJ4_unlinkLast : g_mk mJ4_unlinkLast 1 := ⟨q2676, q119, ⟨by decide +kernel, by decide +kernel⟩, by decide +kernel, Nat.le_of_ble_eq_true rfl⟩
abbrev mJ4_clear : g_M := (yJ4_clear, cJ4_clear, 3, (Option.none : Option Jvm.ClassFile.FieldType), [])
theorem kJ4_clear : g_mk mJ4_clear 0 := ⟨q2692, q119, ⟨by decide +kernel, by decide +kernel⟩, by decide +kernel, Nat.le_of_ble_eq_true rfl⟩
abbrev mJ5_init : g_M := (yJ5_init, cJ5_init, 2, (Option.none : Option Jvm.ClassFile.FieldType), [])
theorem kJ5_init : g_mk mJ5_init 1 := ⟨q297, q120, ⟨by decide +kernel, by decide +kernel⟩, by decide +kernel, Nat.le_of_ble_eq_true rfl⟩
abbrev mJ5_append : g_M := (yJ5_append, cJ5_append, 3, (Option.some (Jvm.ClassFile.FieldType.object "java/lang/AbstractStringBuilder")), [])
theorem kJ5_append : g_mk mJ5_append 1 := ⟨q595, q120, ⟨by decide +kernel, by decide +kernel⟩, by decide +kernel, Nat.le_of_ble_eq_true rfl⟩
abbrev mJ5_appendNull : g_M := (yJ5_appendNull, cJ5_appendNull, 3, (Option.some (Jvm.ClassFile.FieldType.object "java/lang/AbstractStringBuilder")), [])
theorem kJ5_appendNull : g_mk mJ5_appendNull 0 := ⟨q599, q120, ⟨by decide +kernel, by decide +kernel⟩, by decide +kernel, Nat.le_of_ble_eq_true rfl⟩
abbrev mJ5_ensureCapacityInternal : g_M := (yJ5_ensureCapacityInternal, cJ5_ensureCapacityInternal, 3, (Option.none : Option Jvm.ClassFile.FieldType), [])
theorem kJ5_ensureCapacityInternal : g_mk mJ5_ensureCapacityInternal 1 := ⟨q603, q120, ⟨by decide +kernel, by decide +kernel⟩, by decide +kernel, Nat.le_of_ble_eq_true rfl⟩
abbrev mJ5_newCapacity : g_M := (yJ5_newCapacity, cJ5_newCapacity, 6, (Option.some Jvm.ClassFile.FieldType.int), [])
theorem kJ5_newCapacity : g_mk mJ5_newCapacity 1 := ⟨q607, q120, ⟨by decide +kernel, by decide +kernel⟩, by decide +kernel, Nat.le_of_ble_eq_true rfl⟩
abbrev mJ5_isLatin1 : g_M := (yJ5_isLatin1, cJ5_isLatin1, 1, (Option.some Jvm.ClassFile.FieldType.boolean), [])
theorem kJ5_isLatin1 : g_mk mJ5_isLatin1 0 := ⟨q639, q120, ⟨by decide +kernel, by decide +kernel⟩, by decide +kernel, Nat.le_of_ble_eq_true rfl⟩
abbrev mJ5_putStringAt : g_M := (yJ5_putStringAt, cJ5_putStringAt, 3, (Option.none : Option Jvm.ClassFile.FieldType), [])
theorem kJ5_putStringAt : g_mk mJ5_putStringAt 2 := ⟨q678, q120, ⟨by decide +kernel, by decide +kernel⟩, by decide +kernel, Nat.le_of_ble_eq_true rfl⟩
abbrev mJ5_inflateIfNeededFor : g_M := (yJ5_inflateIfNeededFor, cJ5_inflateIfNeededFor, 2, (Option.none : Option Jvm.ClassFile.FieldType), [])
theorem kJ5_inflateIfNeededFor : g_mk mJ5_inflateIfNeededFor 1 := ⟨q682, q120, ⟨by decide +kernel, by decide +kernel⟩, by decide +kernel, Nat.le_of_ble_eq_true rfl⟩
abbrev mJ5_inflate : g_M := (yJ5_inflate, cJ5_inflate, 2, (Option.none : Option Jvm.ClassFile.FieldType), [])
theorem kJ5_inflate : g_mk mJ5_inflate 0 := ⟨q687, q120, ⟨by decide +kernel, by decide +kernel⟩, by decide +kernel, Nat.le_of_ble_eq_true rfl⟩
abbrev mJ5_append_2 : g_M := (yJ5_append_2, cJ5_append_2, 4, (Option.some (Jvm.ClassFile.FieldType.object "java/lang/AbstractStringBuilder")), [])
theorem kJ5_append_2 : g_mk mJ5_append_2 1 := ⟨q715, q120, ⟨by decide +kernel, by decide +kernel⟩, by decide +kernel, Nat.le_of_ble_eq_true rfl⟩
abbrev mJ5_getValue : g_M := (yJ5_getValue, cJ5_getValue, 1, (Option.some (Jvm.ClassFile.FieldType.array Jvm.ClassFile.FieldType.byte)), [])
theorem kJ5_getValue : g_mk mJ5_getValue 0 := ⟨q752, q120, ⟨by decide +kernel, by decide +kernel⟩, by decide +kernel, Nat.le_of_ble_eq_true rfl⟩
abbrev mJ5_length : g_M := (yJ5_length, cJ5_length, 1, (Option.some Jvm.ClassFile.FieldType.int), [])
theorem kJ5_length : g_mk mJ5_length 0 := ⟨q760, q120, ⟨by decide +kernel, by decide +kernel⟩, by decide +kernel, Nat.le_of_ble_eq_true rfl⟩
abbrev mJ5_append_3 : g_M := (yJ5_append_3, cJ5_append_3, 2, (Option.some (Jvm.ClassFile.FieldType.object "java/lang/AbstractStringBuilder")), [])
theorem kJ5_append_3 : g_mk mJ5_append_3 1 := ⟨q2288, q120, ⟨by decide +kernel, by decide +kernel⟩, by decide +kernel, Nat.le_of_ble_eq_true rfl⟩
abbrev mJ5_setLength : g_M := (yJ5_setLength, cJ5_setLength, 2, (Option.none : Option Jvm.ClassFile.FieldType), [])
theorem kJ5_setLength : g_mk mJ5_setLength 1 := ⟨q2546, q120, ⟨by decide +kernel, by decide +kernel⟩, by decide +kernel, Nat.le_of_ble_eq_true rfl⟩
abbrev mJ6_init : g_M := (yJ6_init, cJ6_init, 1, (Option.none : Option Jvm.ClassFile.FieldType), [])
theorem kJ6_init : g_mk mJ6_init 0 := ⟨q294, q121, ⟨by decide +kernel, by decide +kernel⟩, by decide +kernel, Nat.le_of_ble_eq_true rfl⟩
abbrev mJ6_append : g_M := (yJ6_append, cJ6_append, 2, (Option.some (Jvm.ClassFile.FieldType.object "java/lang/StringBuilder")), [])
theorem kJ6_append : g_mk mJ6_append 1 := ⟨q592, q121, ⟨by decide +kernel, by decide +kernel⟩, by decide +kernel, Nat.le_of_ble_eq_true rfl⟩
abbrev mJ6_append_2 : g_M := (yJ6_append_2, cJ6_append_2, 2, (Option.some (Jvm.ClassFile.FieldType.object "java/lang/StringBuilder")), [])
theorem kJ6_append_2 : g_mk mJ6_append_2 1 := ⟨q712, q121, ⟨by decide +kernel, by decide +kernel⟩, by decide +kernel, Nat.le_of_ble_eq_true rfl⟩
abbrev mJ6_toString : g_M := (yJ6_toString, cJ6_toString, 1, (Option.some (Jvm.ClassFile.FieldType.object "java/lang/String")), [])
theorem kJ6_toString : g_mk mJ6_toString 0 := ⟨q738, q121, ⟨by decide +kernel, by decide +kernel⟩, by decide +kernel, Nat.le_of_ble_eq_true rfl⟩
abbrev mJ6_length : g_M := (yJ6_length, cJ6_length, 1, (Option.some Jvm.ClassFile.FieldType.int), [])
theorem kJ6_length : g_mk mJ6_length 0 := ⟨q758, q121, ⟨by decide +kernel, by decide +kernel⟩, by decide +kernel, Nat.le_of_ble_eq_true rfl⟩
abbrev mJ6_append_3 : g_M := (yJ6_append_3, cJ6_append_3, 2, (Option.some (Jvm.ClassFile.FieldType.object "java/lang/StringBuilder")), [])
theorem kJ6_append_3 : g_mk mJ6_append_3 1 := ⟨q2285, q121, ⟨by decide +kernel, by decide +kernel⟩, by decide +kernel, Nat.le_of_ble_eq_true rfl⟩
abbrev mJ6_append_4 : g_M := (yJ6_append_4, cJ6_append_4, 2, (Option.some (Jvm.ClassFile.FieldType.object "java/lang/StringBuilder")), [])
theorem kJ6_append_4 : g_mk mJ6_append_4 1 := ⟨q2346, q121, ⟨by decide +kernel, by decide +kernel⟩, by decide +kernel, Nat.le_of_ble_eq_true rfl⟩
abbrev mJ6_setLength : g_M := (yJ6_setLength, cJ6_setLength, 2, (Option.none : Option Jvm.ClassFile.FieldType), [])
theorem kJ6_setLength : g_mk mJ6_setLength 1 := ⟨q2543, q121, ⟨by decide +kernel, by decide +kernel⟩, by decide +kernel, Nat.le_of_ble_eq_true rfl⟩
abbrev mJ7_checkBoundsBeginEnd : g_M := (yJ7_checkBoundsBeginEnd, cJ7_checkBoundsBeginEnd, 3, (Option.none : Option Jvm.ClassFile.FieldType), [])
theorem kJ7_checkBoundsBeginEnd : g_mk mJ7_checkBoundsBeginEnd 3 := ⟨q651, q122, ⟨by decide +kernel, by decide +kernel⟩, by decide +kernel, Nat.le_of_ble_eq_true rfl⟩
abbrev mJ7_length : g_M := (yJ7_length, cJ7_length, 1, (Option.some Jvm.ClassFile.FieldType.int), [])
theorem kJ7_length : g_mk mJ7_length 0 := ⟨q669, q122, ⟨by decide +kernel, by decide +kernel⟩, by decide +kernel, Nat.le_of_ble_eq_true rfl⟩
abbrev mJ7_coder : g_M := (yJ7_coder, cJ7_coder, 1, (Option.some Jvm.ClassFile.FieldType.byte), [])
theorem kJ7_coder : g_mk mJ7_coder 0 := ⟨q673, q122, ⟨by decide +kernel, by decide +kernel⟩, by decide +kernel, Nat.le_of_ble_eq_true rfl⟩
abbrev mJ7_checkBoundsOffCount : g_M := (yJ7_checkBoundsOffCount, cJ7_checkBoundsOffCount, 3, (Option.some Jvm.ClassFile.FieldType.int), [])
theorem kJ7_checkBoundsOffCount : g_mk mJ7_checkBoundsOffCount 3 := ⟨q699, q122, ⟨by decide +kernel, by decide +kernel⟩, by decide +kernel, Nat.le_of_ble_eq_true rfl⟩
abbrev mJ7_getBytes : g_M := (yJ7_getBytes, cJ7_getBytes, 4, (Option.none : Option Jvm.ClassFile.FieldType), [])
theorem kJ7_getBytes : g_mk mJ7_getBytes 3 := ⟨q706, q122, ⟨by decide +kernel, by decide +kernel⟩, by decide +kernel, Nat.le_of_ble_eq_true rfl⟩
abbrev mJ7_init : g_M := (yJ7_init, cJ7_init, 2, (Option.none : Option Jvm.ClassFile.FieldType), [])
theorem kJ7_init : g_mk mJ7_init 1 := ⟨q743, q122, ⟨by decide +kernel, by decide +kernel⟩, by decide +kernel, Nat.le_of_ble_eq_true rfl⟩
abbrev mJ7_init_2 : g_M := (yJ7_init_2, cJ7_init_2, 5, (Option.none : Option Jvm.ClassFile.FieldType), [])
theorem kJ7_init_2 : g_mk mJ7_init_2 2 := ⟨q746, q122, ⟨by decide +kernel, by decide +kernel⟩, by decide +kernel, Nat.le_of_ble_eq_true rfl⟩
abbrev mJ7_hashCode : g_M := (yJ7_hashCode, cJ7_hashCode, 2, (Option.some Jvm.ClassFile.FieldType.int), [])
theorem kJ7_hashCode : g_mk mJ7_hashCode 0 := ⟨q956, q122, ⟨by decide +kernel, by decide +kernel⟩, by decide +kernel, Nat.le_of_ble_eq_true rfl⟩
abbrev mJ7_isLatin1 : g_M := (yJ7_isLatin1, cJ7_isLatin1, 1, (Option.some Jvm.ClassFile.FieldType.boolean), [])
theorem kJ7_isLatin1 : g_mk mJ7_isLatin1 0 := ⟨q960, q122, ⟨by decide +kernel, by decide +kernel⟩, by decide +kernel, Nat.le_of_ble_eq_true rfl⟩
abbrev mJ7_equals : g_M := (yJ7_equals, cJ7_equals, 3, (Option.some Jvm.ClassFile.FieldType.boolean), [])
theorem kJ7_equals : g_mk mJ7_equals 1 := ⟨q1018, q122, ⟨by decide +kernel, by decide +kernel⟩, by decide +kernel, Nat.le_of_ble_eq_true rfl⟩
abbrev mJ7_indexOf : g_M := (yJ7_indexOf, cJ7_indexOf, 2, (Option.some Jvm.ClassFile.FieldType.int), [])
theorem kJ7_indexOf : g_mk mJ7_indexOf 1 := ⟨q1195, q122, ⟨by decide +kernel, by decide +kernel⟩, by decide +kernel, Nat.le_of_ble_eq_true rfl⟩
abbrev mJ7_indexOf_2 : g_M := (yJ7_indexOf_2, cJ7_indexOf_2, 3, (Option.some Jvm.ClassFile.FieldType.int), [])
theorem kJ7_indexOf_2 : g_mk mJ7_indexOf_2 2 := ⟨q1199, q122, ⟨by decide +kernel, by decide +kernel⟩, by decide +kernel, Nat.le_of_ble_eq_true rfl⟩
abbrev mJ7_charAt : g_M := (yJ7_charAt, cJ7_charAt, 2, (Option.some Jvm.ClassFile.FieldType.char), [])
theorem kJ7_charAt : g_mk mJ7_charAt 1 := ⟨q2254, q122, ⟨by decide +kernel, by decide +kernel⟩, by decide +kernel, Nat.le_of_ble_eq_true rfl⟩
abbrev mJ7_checkIndex : g_M := (yJ7_checkIndex, cJ7_checkIndex, 2, (Option.none : Option Jvm.ClassFile.FieldType), [])
theorem kJ7_checkIndex : g_mk mJ7_checkIndex 2 := ⟨q2260, q122, ⟨by decide +kernel, by decide +kernel⟩, by decide +kernel, Nat.le_of_ble_eq_true rfl⟩
abbrev mJ7_valueOf : g_M := (yJ7_valueOf, cJ7_valueOf, 1, (Option.some (Jvm.ClassFile.FieldType.object "java/lang/String")), [])
theorem kJ7_valueOf : g_mk mJ7_valueOf 1 := ⟨q2349, q122, ⟨by decide +kernel, by decide +kernel⟩, by decide +kernel, Nat.le_of_ble_eq_true rfl⟩
abbrev mJ7_toString : g_M := (yJ7_toString, cJ7_toString, 1, (Option.some (Jvm.ClassFile.FieldType.object "java/lang/String")), [])
theorem kJ7_toString : g_mk mJ7_toString 0 := ⟨q2419, q122, ⟨by decide +kernel, by decide +kernel⟩, by decide +kernel, Nat.le_of_ble_eq_true rfl⟩
abbrev mJ7_contains : g_M := (yJ7_contains, cJ7_contains, 2, (Option.some Jvm.ClassFile.FieldType.boolean), [])
theorem kJ7_contains : g_mk mJ7_contains 1 := ⟨q2430, q122, ⟨by decide +kernel, by decide +kernel⟩, by decide +kernel, Nat.le_of_ble_eq_true rfl⟩
abbrev mJ7_indexOf_3 : g_M := (yJ7_indexOf_3, cJ7_indexOf_3, 3, (Option.some Jvm.ClassFile.FieldType.int), [])
theorem kJ7_indexOf_3 : g_mk mJ7_indexOf_3 1 := ⟨q2446, q122, ⟨by decide +kernel, by decide +kernel⟩, by decide +kernel, Nat.le_of_ble_eq_true rfl⟩
abbrev mJ8_newBytesFor : g_M := (yJ8_newBytesFor, cJ8_newBytesFor, 1, (Option.some (Jvm.ClassFile.FieldType.array Jvm.ClassFile.FieldType.byte)), [])
theorem kJ8_newBytesFor : g_mk mJ8_newBytesFor 1 := ⟨q303, q123, ⟨by decide +kernel, by decide +kernel⟩, by decide +kernel, Nat.le_of_ble_eq_true rfl⟩
abbrev mJ8_newBytesLength : g_M := (yJ8_newBytesLength, cJ8_newBytesLength, 1, (Option.some Jvm.ClassFile.FieldType.int), [])
theorem kJ8_newBytesLength : g_mk mJ8_newBytesLength 1 := ⟨q306, q123, ⟨by decide +kernel, by decide +kernel⟩, by decide +kernel, Nat.le_of_ble_eq_true rfl⟩
abbrev mJ8_putCharsAt : g_M := (yJ8_putCharsAt, cJ8_putCharsAt, 7, (Option.some Jvm.ClassFile.FieldType.int), [])
theorem kJ8_putCharsAt : g_mk mJ8_putCharsAt 6 := ⟨q642, q123, ⟨by decide +kernel, by decide +kernel⟩, by decide +kernel, Nat.le_of_ble_eq_true rfl⟩
abbrev mJ8_checkBoundsBeginEnd : g_M := (yJ8_checkBoundsBeginEnd, cJ8_checkBoundsBeginEnd, 3, (Option.none : Option Jvm.ClassFile.FieldType), [])
theorem kJ8_checkBoundsBeginEnd : g_mk mJ8_checkBoundsBeginEnd 3 := ⟨q645, q123, ⟨by decide +kernel, by decide +kernel⟩, by decide +kernel, Nat.le_of_ble_eq_true rfl⟩
abbrev mJ8_length : g_M := (yJ8_length, cJ8_length, 1, (Option.some Jvm.ClassFile.FieldType.int), [])
theorem kJ8_length : g_mk mJ8_length 1 := ⟨q648, q123, ⟨by decide +kernel, by decide +kernel⟩, by decide +kernel, Nat.le_of_ble_eq_true rfl⟩
abbrev mJ8_putChar : g_M := (yJ8_putChar, cJ8_putChar, 3, (Option.none : Option Jvm.ClassFile.FieldType), [])
theorem kJ8_putChar : g_mk mJ8_putChar 3 := ⟨q659, q123, ⟨by decide +kernel, by decide +kernel⟩, by decide +kernel, Nat.le_of_ble_eq_true rfl⟩
abbrev mJ8_inflate : g_M := (yJ8_inflate, cJ8_inflate, 6, (Option.none : Option Jvm.ClassFile.FieldType), [])
theorem kJ8_inflate : g_mk mJ8_inflate 5 := ⟨q693, q123, ⟨by decide +kernel, by decide +kernel⟩, by decide +kernel, Nat.le_of_ble_eq_true rfl⟩
abbrev mJ8_checkBoundsOffCount : g_M := (yJ8_checkBoundsOffCount, cJ8_checkBoundsOffCount, 3, (Option.none : Option Jvm.ClassFile.FieldType), [])
theorem kJ8_checkBoundsOffCount : g_mk mJ8_checkBoundsOffCount 3 := ⟨q696, q123, ⟨by decide +kernel, by decide +kernel⟩, by decide +kernel, Nat.le_of_ble_eq_true rfl⟩
abbrev mJ8_getChars : g_M := (yJ8_getChars, cJ8_getChars, 5, (Option.some Jvm.ClassFile.FieldType.int), [])
theorem kJ8_getChars : g_mk mJ8_getChars 4 := ⟨q728, q123, ⟨by decide +kernel, by decide +kernel⟩, by decide +kernel, Nat.le_of_ble_eq_true rfl⟩
abbrev mJ8_getChars_2 : g_M := (yJ8_getChars_2, cJ8_getChars_2, 7, (Option.some Jvm.ClassFile.FieldType.int), [])
theorem kJ8_getChars_2 : g_mk mJ8_getChars_2 3 := ⟨q731, q123, ⟨by decide +kernel, by decide +kernel⟩, by decide +kernel, Nat.le_of_ble_eq_true rfl⟩
abbrev mJ8_compress : g_M := (yJ8_compress, cJ8_compress, 6, (Option.some (Jvm.ClassFile.FieldType.array Jvm.ClassFile.FieldType.byte)), [])
theorem kJ8_compress : g_mk mJ8_compress 3 := ⟨q802, q123, ⟨by decide +kernel, by decide +kernel⟩, by decide +kernel, Nat.le_of_ble_eq_true rfl⟩
abbrev mJ8_compress_2 : g_M := (yJ8_compress_2, cJ8_compress_2, 7, (Option.some Jvm.ClassFile.FieldType.int), [])
theorem kJ8_compress_2 : g_mk mJ8_compress_2 5 := ⟨q805, q123, ⟨by decide +kernel, by decide +kernel⟩, by decide +kernel, Nat.le_of_ble_eq_true rfl⟩
abbrev mJ8_getChar : g_M := (yJ8_getChar, cJ8_getChar, 2, (Option.some Jvm.ClassFile.FieldType.char), [])
theorem kJ8_getChar : g_mk mJ8_getChar 2 := ⟨q808, q123, ⟨by decide +kernel, by decide +kernel⟩, by decide +kernel, Nat.le_of_ble_eq_true rfl⟩
abbrev mJ8_coderFromArrayLen : g_M := (yJ8_coderFromArrayLen, cJ8_coderFromArrayLen, 2, (Option.some Jvm.ClassFile.FieldType.byte), [])
theorem kJ8_coderFromArrayLen : g_mk mJ8_coderFromArrayLen 2 := ⟨q812, q123, ⟨by decide +kernel, by decide +kernel⟩, by decide +kernel, Nat.le_of_ble_eq_true rfl⟩
abbrev mJ8_hashCode : g_M := (yJ8_hashCode, cJ8_hashCode, 1, (Option.some Jvm.ClassFile.FieldType.int), [])
theorem kJ8_hashCode : g_mk mJ8_hashCode 1 := ⟨q1012, q123, ⟨by decide +kernel, by decide +kernel⟩, by decide +kernel, Nat.le_of_ble_eq_true rfl⟩
abbrev mJ8_indexOf : g_M := (yJ8_indexOf, cJ8_indexOf, 4, (Option.some Jvm.ClassFile.FieldType.int), [])
theorem kJ8_indexOf : g_mk mJ8_indexOf 4 := ⟨q1214, q123, ⟨by decide +kernel, by decide +kernel⟩, by decide +kernel, Nat.le_of_ble_eq_true rfl⟩
abbrev mJ8_indexOfChar : g_M := (yJ8_indexOfChar, cJ8_indexOfChar, 4, (Option.some Jvm.ClassFile.FieldType.int), [])
theorem kJ8_indexOfChar : g_mk mJ8_indexOfChar 4 := ⟨q1220, q123, ⟨by decide +kernel, by decide +kernel⟩, by decide +kernel, Nat.le_of_ble_eq_true rfl⟩
abbrev mJ8_indexOfCharUnsafe : g_M := (yJ8_indexOfCharUnsafe, cJ8_indexOfCharUnsafe, 5, (Option.some Jvm.ClassFile.FieldType.int), [])
theorem kJ8_indexOfCharUnsafe : g_mk mJ8_indexOfCharUnsafe 4 := ⟨q1223, q123, ⟨by decide +kernel, by decide +kernel⟩, by decide +kernel, Nat.le_of_ble_eq_true rfl⟩
abbrev mJ8_indexOfSupplementary : g_M := (yJ8_indexOfSupplementary, cJ8_indexOfSupplementary, 7, (Option.some Jvm.ClassFile.FieldType.int), [])
theorem kJ8_indexOfSupplementary : g_mk mJ8_indexOfSupplementary 4 := ⟨q1226, q123, ⟨by decide +kernel, by decide +kernel⟩, by decide +kernel, Nat.le_of_ble_eq_true rfl⟩
abbrev mJ8_charAt : g_M := (yJ8_charAt, cJ8_charAt, 2, (Option.some Jvm.ClassFile.FieldType.char), [])
theorem kJ8_charAt : g_mk mJ8_charAt 2 := ⟨q2264, q123, ⟨by decide +kernel, by decide +kernel⟩, by decide +kernel, Nat.le_of_ble_eq_true rfl⟩
abbrev mJ8_checkIndex : g_M := (yJ8_checkIndex, cJ8_checkIndex, 2, (Option.none : Option Jvm.ClassFile.FieldType), [])
theorem kJ8_checkIndex : g_mk mJ8_checkIndex 2 := ⟨q2267, q123, ⟨by decide +kernel, by decide +kernel⟩, by decide +kernel, Nat.le_of_ble_eq_true rfl⟩
abbrev mJ8_putCharSB : g_M := (yJ8_putCharSB, cJ8_putCharSB, 3, (Option.none : Option Jvm.ClassFile.FieldType), [])
theorem kJ8_putCharSB : g_mk mJ8_putCharSB 3 := ⟨q2294, q123, ⟨by decide +kernel, by decide +kernel⟩, by decide +kernel, Nat.le_of_ble_eq_true rfl⟩
abbrev mJ8_indexOf_2 : g_M := (yJ8_indexOf_2, cJ8_indexOf_2, 2, (Option.some Jvm.ClassFile.FieldType.int), [])
theorem kJ8_indexOf_2 : g_mk mJ8_indexOf_2 2 := ⟨q2455, q123, ⟨by decide +kernel, by decide +kernel⟩, by decide +kernel, Nat.le_of_ble_eq_true rfl⟩
abbrev mJ8_indexOfUnsafe : g_M := (yJ8_indexOfUnsafe, cJ8_indexOfUnsafe, 11, (Option.some Jvm.ClassFile.FieldType.int), [])
theorem kJ8_indexOfUnsafe : g_mk mJ8_indexOfUnsafe 5 := ⟨q2458, q123, ⟨by decide +kernel, by decide +kernel⟩, by decide +kernel, Nat.le_of_ble_eq_true rfl⟩
abbrev mJ8_indexOfLatin1 : g_M := (yJ8_indexOfLatin1, cJ8_indexOfLatin1, 2, (Option.some Jvm.ClassFile.FieldType.int), [])
theorem kJ8_indexOfLatin1 : g_mk mJ8_indexOfLatin1 2 := ⟨q2461, q123, ⟨by decide +kernel, by decide +kernel⟩, by decide +kernel, Nat.le_of_ble_eq_true rfl⟩
abbrev mJ8_indexOfLatin1Unsafe : g_M := (yJ8_indexOfLatin1Unsafe, cJ8_indexOfLatin1Unsafe, 11, (Option.some Jvm.ClassFile.FieldType.int), [])
theorem kJ8_indexOfLatin1Unsafe : g_mk mJ8_indexOfLatin1Unsafe 5 := ⟨q2464, q123, ⟨by decide +kernel, by decide +kernel⟩, by decide +kernel, Nat.le_of_ble_eq_true rfl⟩
abbrev mJ8_fillNull : g_M := (yJ8_fillNull, cJ8_fillNull, 3, (Option.none : Option Jvm.ClassFile.FieldType), [])
theorem kJ8_fillNull : g_mk mJ8_fillNull 3 := ⟨q2590, q123, ⟨by decide +kernel, by decide +kernel⟩, by decide +kernel, Nat.le_of_ble_eq_true rfl⟩
abbrev mX5_init : g_M := (yX5_init, cX5_init, 1, (Option.none : Option Jvm.ClassFile.FieldType), [])
theorem kX5_init : g_mk mX5_init 0 := ⟨q2697, q124, ⟨by decide +kernel, by decide +kernel⟩, by decide +kernel, Nat.le_of_ble_eq_true rfl⟩
abbrev mX5_thrown : g_M := (yX5_thrown, cX5_thrown, 1, (Option.some Jvm.ClassFile.FieldType.int), [])
theorem kX5_thrown : g_mk mX5_thrown 0 := ⟨q2772, q124, ⟨by decide +kernel, by decide +kernel⟩, by decide +kernel, Nat.le_of_ble_eq_true rfl⟩
abbrev mX5_addColour : g_M := (yX5_addColour, cX5_addColour, 6, (Option.some Jvm.ClassFile.FieldType.int), [])
theorem kX5_addColour : g_mk mX5_addColour 4 := ⟨q2776, q124, ⟨by decide +kernel, by decide +kernel⟩, by decide +kernel, Nat.le_of_ble_eq_true rfl⟩
abbrev mX5_begin : g_M := (yX5_begin, cX5_begin, 1, (Option.none : Option Jvm.ClassFile.FieldType), [])
theorem kX5_begin : g_mk mX5_begin 0 := ⟨q2780, q124, ⟨by decide +kernel, by decide +kernel⟩, by decide +kernel, Nat.le_of_ble_eq_true rfl⟩
abbrev mX5_copy : g_M := (yX5_copy, cX5_copy, 5, (Option.none : Option Jvm.ClassFile.FieldType), [])
theorem kX5_copy : g_mk mX5_copy 4 := ⟨q2783, q124, ⟨by decide +kernel, by decide +kernel⟩, by decide +kernel, Nat.le_of_ble_eq_true rfl⟩
abbrev mX5_cannotAdd : g_M := (yX5_cannotAdd, cX5_cannotAdd, 5, (Option.some Jvm.ClassFile.FieldType.int), [])
theorem kX5_cannotAdd : g_mk mX5_cannotAdd 4 := ⟨q2787, q124, ⟨by decide +kernel, by decide +kernel⟩, by decide +kernel, Nat.le_of_ble_eq_true rfl⟩
abbrev mX5_areParts : g_M := (yX5_areParts, cX5_areParts, 3, (Option.some Jvm.ClassFile.FieldType.boolean), [])
theorem kX5_areParts : g_mk mX5_areParts 3 := ⟨q2790, q124, ⟨by decide +kernel, by decide +kernel⟩, by decide +kernel, Nat.le_of_ble_eq_true rfl⟩
abbrev mX5_in : g_M := (yX5_in, cX5_in, 3, (Option.some Jvm.ClassFile.FieldType.boolean), [])
theorem kX5_in : g_mk mX5_in 3 := ⟨q2793, q124, ⟨by decide +kernel, by decide +kernel⟩, by decide +kernel, Nat.le_of_ble_eq_true rfl⟩
abbrev mX5_fail : g_M := (yX5_fail, cX5_fail, 2, (Option.some Jvm.ClassFile.FieldType.int), [])
theorem kX5_fail : g_mk mX5_fail 1 := ⟨q2797, q124, ⟨by decide +kernel, by decide +kernel⟩, by decide +kernel, Nat.le_of_ble_eq_true rfl⟩
abbrev mX5_adds : g_M := (yX5_adds, cX5_adds, 5, (Option.some Jvm.ClassFile.FieldType.int), [])
theorem kX5_adds : g_mk mX5_adds 4 := ⟨q2801, q124, ⟨by decide +kernel, by decide +kernel⟩, by decide +kernel, Nat.le_of_ble_eq_true rfl⟩
abbrev mX5_colourRow : g_M := (yX5_colourRow, cX5_colourRow, 1, (Option.some Jvm.ClassFile.FieldType.int), [])
theorem kX5_colourRow : g_mk mX5_colourRow 1 := ⟨q2804, q124, ⟨by decide +kernel, by decide +kernel⟩, by decide +kernel, Nat.le_of_ble_eq_true rfl⟩
abbrev mX5_lay : g_M := (yX5_lay, cX5_lay, 8, (Option.none : Option Jvm.ClassFile.FieldType), [])
theorem kX5_lay : g_mk mX5_lay 7 := ⟨q2808, q124, ⟨by decide +kernel, by decide +kernel⟩, by decide +kernel, Nat.le_of_ble_eq_true rfl⟩
abbrev mX5_commit : g_M := (yX5_commit, cX5_commit, 3, (Option.some Jvm.ClassFile.FieldType.int), [])
theorem kX5_commit : g_mk mX5_commit 1 := ⟨q2812, q124, ⟨by decide +kernel, by decide +kernel⟩, by decide +kernel, Nat.le_of_ble_eq_true rfl⟩
abbrev mX5_report : g_M := (yX5_report, cX5_report, 7, (Option.some Jvm.ClassFile.FieldType.int), [])
theorem kX5_report : g_mk mX5_report 5 := ⟨q2816, q124, ⟨by decide +kernel, by decide +kernel⟩, by decide +kernel, Nat.le_of_ble_eq_true rfl⟩
abbrev mX5_cannotReport : g_M := (yX5_cannotReport, cX5_cannotReport, 6, (Option.some Jvm.ClassFile.FieldType.int), [])
theorem kX5_cannotReport : g_mk mX5_cannotReport 5 := ⟨q2820, q124, ⟨by decide +kernel, by decide +kernel⟩, by decide +kernel, Nat.le_of_ble_eq_true rfl⟩
abbrev mX5_reports : g_M := (yX5_reports, cX5_reports, 6, (Option.some Jvm.ClassFile.FieldType.int), [])
theorem kX5_reports : g_mk mX5_reports 5 := ⟨q2824, q124, ⟨by decide +kernel, by decide +kernel⟩, by decide +kernel, Nat.le_of_ble_eq_true rfl⟩
abbrev mX5_reportRow : g_M := (yX5_reportRow, cX5_reportRow, 1, (Option.some Jvm.ClassFile.FieldType.int), [])
theorem kX5_reportRow : g_mk mX5_reportRow 1 := ⟨q2827, q124, ⟨by decide +kernel, by decide +kernel⟩, by decide +kernel, Nat.le_of_ble_eq_true rfl⟩
abbrev mX5_withdraw : g_M := (yX5_withdraw, cX5_withdraw, 2, (Option.some Jvm.ClassFile.FieldType.int), [])
theorem kX5_withdraw : g_mk mX5_withdraw 1 := ⟨q2831, q124, ⟨by decide +kernel, by decide +kernel⟩, by decide +kernel, Nat.le_of_ble_eq_true rfl⟩
abbrev mX5_openReport : g_M := (yX5_openReport, cX5_openReport, 3, (Option.some Jvm.ClassFile.FieldType.int), [])
theorem kX5_openReport : g_mk mX5_openReport 1 := ⟨q2835, q124, ⟨by decide +kernel, by decide +kernel⟩, by decide +kernel, Nat.le_of_ble_eq_true rfl⟩
abbrev mX5_r : g_M := (yX5_r, cX5_r, 3, (Option.some Jvm.ClassFile.FieldType.int), [])
theorem kX5_r : g_mk mX5_r 2 := ⟨q2839, q124, ⟨by decide +kernel, by decide +kernel⟩, by decide +kernel, Nat.le_of_ble_eq_true rfl⟩
abbrev mX5_withdraws : g_M := (yX5_withdraws, cX5_withdraws, 2, (Option.some Jvm.ClassFile.FieldType.int), [])
theorem kX5_withdraws : g_mk mX5_withdraws 1 := ⟨q2843, q124, ⟨by decide +kernel, by decide +kernel⟩, by decide +kernel, Nat.le_of_ble_eq_true rfl⟩
abbrev mX5_removeReport : g_M := (yX5_removeReport, cX5_removeReport, 2, (Option.none : Option Jvm.ClassFile.FieldType), [])
theorem kX5_removeReport : g_mk mX5_removeReport 1 := ⟨q2847, q124, ⟨by decide +kernel, by decide +kernel⟩, by decide +kernel, Nat.le_of_ble_eq_true rfl⟩
abbrev mX5_close : g_M := (yX5_close, cX5_close, 5, (Option.none : Option Jvm.ClassFile.FieldType), [])
theorem kX5_close : g_mk mX5_close 3 := ⟨q2851, q124, ⟨by decide +kernel, by decide +kernel⟩, by decide +kernel, Nat.le_of_ble_eq_true rfl⟩
abbrev mX5_discard : g_M := (yX5_discard, cX5_discard, 2, (Option.some Jvm.ClassFile.FieldType.int), [])
theorem kX5_discard : g_mk mX5_discard 1 := ⟨q2855, q124, ⟨by decide +kernel, by decide +kernel⟩, by decide +kernel, Nat.le_of_ble_eq_true rfl⟩
abbrev mX5_colour : g_M := (yX5_colour, cX5_colour, 3, (Option.some Jvm.ClassFile.FieldType.int), [])
theorem kX5_colour : g_mk mX5_colour 1 := ⟨q2859, q124, ⟨by decide +kernel, by decide +kernel⟩, by decide +kernel, Nat.le_of_ble_eq_true rfl⟩
abbrev mX5_c : g_M := (yX5_c, cX5_c, 3, (Option.some Jvm.ClassFile.FieldType.int), [])
theorem kX5_c : g_mk mX5_c 2 := ⟨q2863, q124, ⟨by decide +kernel, by decide +kernel⟩, by decide +kernel, Nat.le_of_ble_eq_true rfl⟩
abbrev mX5_discards : g_M := (yX5_discards, cX5_discards, 2, (Option.some Jvm.ClassFile.FieldType.int), [])
theorem kX5_discards : g_mk mX5_discards 1 := ⟨q2867, q124, ⟨by decide +kernel, by decide +kernel⟩, by decide +kernel, Nat.le_of_ble_eq_true rfl⟩
abbrev mX5_removeColour : g_M := (yX5_removeColour, cX5_removeColour, 2, (Option.none : Option Jvm.ClassFile.FieldType), [])
theorem kX5_removeColour : g_mk mX5_removeColour 1 := ⟨q2871, q124, ⟨by decide +kernel, by decide +kernel⟩, by decide +kernel, Nat.le_of_ble_eq_true rfl⟩
abbrev mX5_setMetric : g_M := (yX5_setMetric, cX5_setMetric, 2, (Option.some Jvm.ClassFile.FieldType.char), [])
theorem kX5_setMetric : g_mk mX5_setMetric 1 := ⟨q2875, q124, ⟨by decide +kernel, by decide +kernel⟩, by decide +kernel, Nat.le_of_ble_eq_true rfl⟩
abbrev mX5_isMetric : g_M := (yX5_isMetric, cX5_isMetric, 1, (Option.some Jvm.ClassFile.FieldType.boolean), [])
theorem kX5_isMetric : g_mk mX5_isMetric 1 := ⟨q2878, q124, ⟨by decide +kernel, by decide +kernel⟩, by decide +kernel, Nat.le_of_ble_eq_true rfl⟩
abbrev mX5_measures : g_M := (yX5_measures, cX5_measures, 3, (Option.some Jvm.ClassFile.FieldType.int), [])
theorem kX5_measures : g_mk mX5_measures 1 := ⟨q2882, q124, ⟨by decide +kernel, by decide +kernel⟩, by decide +kernel, Nat.le_of_ble_eq_true rfl⟩
abbrev mX5_giveBack : g_M := (yX5_giveBack, cX5_giveBack, 4, (Option.some Jvm.ClassFile.FieldType.int), [])
theorem kX5_giveBack : g_mk mX5_giveBack 2 := ⟨q2886, q124, ⟨by decide +kernel, by decide +kernel⟩, by decide +kernel, Nat.le_of_ble_eq_true rfl⟩
abbrev mX5_cannotGive : g_M := (yX5_cannotGive, cX5_cannotGive, 4, (Option.some Jvm.ClassFile.FieldType.int), [])
theorem kX5_cannotGive : g_mk mX5_cannotGive 2 := ⟨q2890, q124, ⟨by decide +kernel, by decide +kernel⟩, by decide +kernel, Nat.le_of_ble_eq_true rfl⟩
abbrev mX5_nearestTo : g_M := (yX5_nearestTo, cX5_nearestTo, 4, (Option.some Jvm.ClassFile.FieldType.int), [])
theorem kX5_nearestTo : g_mk mX5_nearestTo 1 := ⟨q2894, q124, ⟨by decide +kernel, by decide +kernel⟩, by decide +kernel, Nat.le_of_ble_eq_true rfl⟩
abbrev mX5_apart : g_M := (yX5_apart, cX5_apart, 7, (Option.some Jvm.ClassFile.FieldType.int), [])
theorem kX5_apart : g_mk mX5_apart 2 := ⟨q2898, q124, ⟨by decide +kernel, by decide +kernel⟩, by decide +kernel, Nat.le_of_ble_eq_true rfl⟩
abbrev mX5_size : g_M := (yX5_size, cX5_size, 1, (Option.some Jvm.ClassFile.FieldType.int), [])
theorem kX5_size : g_mk mX5_size 1 := ⟨q2901, q124, ⟨by decide +kernel, by decide +kernel⟩, by decide +kernel, Nat.le_of_ble_eq_true rfl⟩
abbrev mX5_isFit : g_M := (yX5_isFit, cX5_isFit, 3, (Option.some Jvm.ClassFile.FieldType.boolean), [])
theorem kX5_isFit : g_mk mX5_isFit 2 := ⟨q2905, q124, ⟨by decide +kernel, by decide +kernel⟩, by decide +kernel, Nat.le_of_ble_eq_true rfl⟩
abbrev mX5_apartFor : g_M := (yX5_apartFor, cX5_apartFor, 3, (Option.some Jvm.ClassFile.FieldType.int), [])
theorem kX5_apartFor : g_mk mX5_apartFor 2 := ⟨q2909, q124, ⟨by decide +kernel, by decide +kernel⟩, by decide +kernel, Nat.le_of_ble_eq_true rfl⟩
abbrev mX5_gives : g_M := (yX5_gives, cX5_gives, 5, (Option.some Jvm.ClassFile.FieldType.int), [])
theorem kX5_gives : g_mk mX5_gives 2 := ⟨q2913, q124, ⟨by decide +kernel, by decide +kernel⟩, by decide +kernel, Nat.le_of_ble_eq_true rfl⟩
abbrev mX5_settle : g_M := (yX5_settle, cX5_settle, 1, (Option.some Jvm.ClassFile.FieldType.int), [])
theorem kX5_settle : g_mk mX5_settle 0 := ⟨q2917, q124, ⟨by decide +kernel, by decide +kernel⟩, by decide +kernel, Nat.le_of_ble_eq_true rfl⟩
abbrev mX5_settleAll : g_M := (yX5_settleAll, cX5_settleAll, 4, (Option.some Jvm.ClassFile.FieldType.int), [])
theorem kX5_settleAll : g_mk mX5_settleAll 0 := ⟨q2921, q124, ⟨by decide +kernel, by decide +kernel⟩, by decide +kernel, Nat.le_of_ble_eq_true rfl⟩
abbrev mX5_settling : g_M := (yX5_settling, cX5_settling, 6, (Option.some Jvm.ClassFile.FieldType.int), [])
theorem kX5_settling : g_mk mX5_settling 0 := ⟨q2925, q124, ⟨by decide +kernel, by decide +kernel⟩, by decide +kernel, Nat.le_of_ble_eq_true rfl⟩
abbrev mX5_gain : g_M := (yX5_gain, cX5_gain, 3, (Option.some Jvm.ClassFile.FieldType.int), [])
theorem kX5_gain : g_mk mX5_gain 2 := ⟨q2929, q124, ⟨by decide +kernel, by decide +kernel⟩, by decide +kernel, Nat.le_of_ble_eq_true rfl⟩
abbrev mX5_settled : g_M := (yX5_settled, cX5_settled, 4, (Option.some Jvm.ClassFile.FieldType.int), [])
theorem kX5_settled : g_mk mX5_settled 1 := ⟨q2934, q124, ⟨by decide +kernel, by decide +kernel⟩, by decide +kernel, Nat.le_of_ble_eq_true rfl⟩
abbrev mX5_choice : g_M := (yX5_choice, cX5_choice, 4, (Option.some Jvm.ClassFile.FieldType.int), [])
theorem kX5_choice : g_mk mX5_choice 2 := ⟨q2938, q124, ⟨by decide +kernel, by decide +kernel⟩, by decide +kernel, Nat.le_of_ble_eq_true rfl⟩
abbrev mX5_mix : g_M := (yX5_mix, cX5_mix, 4, (Option.some Jvm.ClassFile.FieldType.int), [])
theorem kX5_mix : g_mk mX5_mix 2 := ⟨q2942, q124, ⟨by decide +kernel, by decide +kernel⟩, by decide +kernel, Nat.le_of_ble_eq_true rfl⟩
abbrev mX5_cannotMix : g_M := (yX5_cannotMix, cX5_cannotMix, 3, (Option.some Jvm.ClassFile.FieldType.int), [])
theorem kX5_cannotMix : g_mk mX5_cannotMix 2 := ⟨q2946, q124, ⟨by decide +kernel, by decide +kernel⟩, by decide +kernel, Nat.le_of_ble_eq_true rfl⟩
abbrev mX5_mixes : g_M := (yX5_mixes, cX5_mixes, 9, (Option.some Jvm.ClassFile.FieldType.int), [])
theorem kX5_mixes : g_mk mX5_mixes 2 := ⟨q2950, q124, ⟨by decide +kernel, by decide +kernel⟩, by decide +kernel, Nat.le_of_ble_eq_true rfl⟩
abbrev mX5_passDays : g_M := (yX5_passDays, cX5_passDays, 2, (Option.some Jvm.ClassFile.FieldType.int), [])
theorem kX5_passDays : g_mk mX5_passDays 1 := ⟨q2954, q124, ⟨by decide +kernel, by decide +kernel⟩, by decide +kernel, Nat.le_of_ble_eq_true rfl⟩
abbrev mX5_passes : g_M := (yX5_passes, cX5_passes, 5, (Option.some Jvm.ClassFile.FieldType.int), [])
theorem kX5_passes : g_mk mX5_passes 1 := ⟨q2958, q124, ⟨by decide +kernel, by decide +kernel⟩, by decide +kernel, Nat.le_of_ble_eq_true rfl⟩
abbrev mX5_ageAt : g_M := (yX5_ageAt, cX5_ageAt, 2, (Option.some Jvm.ClassFile.FieldType.int), [])
theorem kX5_ageAt : g_mk mX5_ageAt 1 := ⟨q2962, q124, ⟨by decide +kernel, by decide +kernel⟩, by decide +kernel, Nat.le_of_ble_eq_true rfl⟩
abbrev mX5_faded : g_M := (yX5_faded, cX5_faded, 1, (Option.some Jvm.ClassFile.FieldType.int), [])
theorem kX5_faded : g_mk mX5_faded 1 := ⟨q2965, q124, ⟨by decide +kernel, by decide +kernel⟩, by decide +kernel, Nat.le_of_ble_eq_true rfl⟩
abbrev mX5_greys : g_M := (yX5_greys, cX5_greys, 3, (Option.some Jvm.ClassFile.FieldType.int), [])
theorem kX5_greys : g_mk mX5_greys 0 := ⟨q2969, q124, ⟨by decide +kernel, by decide +kernel⟩, by decide +kernel, Nat.le_of_ble_eq_true rfl⟩
abbrev mX5_fadesLeft : g_M := (yX5_fadesLeft, cX5_fadesLeft, 4, (Option.some Jvm.ClassFile.FieldType.int), [])
theorem kX5_fadesLeft : g_mk mX5_fadesLeft 1 := ⟨q2973, q124, ⟨by decide +kernel, by decide +kernel⟩, by decide +kernel, Nat.le_of_ble_eq_true rfl⟩
abbrev mX5_colourCount : g_M := (yX5_colourCount, cX5_colourCount, 1, (Option.some Jvm.ClassFile.FieldType.int), [])
theorem kX5_colourCount : g_mk mX5_colourCount 0 := ⟨q2977, q124, ⟨by decide +kernel, by decide +kernel⟩, by decide +kernel, Nat.le_of_ble_eq_true rfl⟩
abbrev mX5_plain : g_M := (yX5_plain, cX5_plain, 2, (Option.some Jvm.ClassFile.FieldType.int), [])
theorem kX5_plain : g_mk mX5_plain 1 := ⟨q2981, q124, ⟨by decide +kernel, by decide +kernel⟩, by decide +kernel, Nat.le_of_ble_eq_true rfl⟩
abbrev mX5_colourAt : g_M := (yX5_colourAt, cX5_colourAt, 2, (Option.some Jvm.ClassFile.FieldType.int), [])
theorem kX5_colourAt : g_mk mX5_colourAt 1 := ⟨q2985, q124, ⟨by decide +kernel, by decide +kernel⟩, by decide +kernel, Nat.le_of_ble_eq_true rfl⟩
abbrev mX5_checked : g_M := (yX5_checked, cX5_checked, 2, (Option.some Jvm.ClassFile.FieldType.int), [])
theorem kX5_checked : g_mk mX5_checked 1 := ⟨q2989, q124, ⟨by decide +kernel, by decide +kernel⟩, by decide +kernel, Nat.le_of_ble_eq_true rfl⟩
abbrev mX5_red : g_M := (yX5_red, cX5_red, 2, (Option.some Jvm.ClassFile.FieldType.int), [])
theorem kX5_red : g_mk mX5_red 1 := ⟨q2993, q124, ⟨by decide +kernel, by decide +kernel⟩, by decide +kernel, Nat.le_of_ble_eq_true rfl⟩
abbrev mX5_ofColour : g_M := (yX5_ofColour, cX5_ofColour, 3, (Option.some Jvm.ClassFile.FieldType.int), [])
theorem kX5_ofColour : g_mk mX5_ofColour 2 := ⟨q2997, q124, ⟨by decide +kernel, by decide +kernel⟩, by decide +kernel, Nat.le_of_ble_eq_true rfl⟩
abbrev mX5_green : g_M := (yX5_green, cX5_green, 2, (Option.some Jvm.ClassFile.FieldType.int), [])
theorem kX5_green : g_mk mX5_green 1 := ⟨q3001, q124, ⟨by decide +kernel, by decide +kernel⟩, by decide +kernel, Nat.le_of_ble_eq_true rfl⟩
abbrev mX5_blue : g_M := (yX5_blue, cX5_blue, 2, (Option.some Jvm.ClassFile.FieldType.int), [])
theorem kX5_blue : g_mk mX5_blue 1 := ⟨q3005, q124, ⟨by decide +kernel, by decide +kernel⟩, by decide +kernel, Nat.le_of_ble_eq_true rfl⟩
abbrev mX5_fastness : g_M := (yX5_fastness, cX5_fastness, 2, (Option.some Jvm.ClassFile.FieldType.int), [])
theorem kX5_fastness : g_mk mX5_fastness 1 := ⟨q3009, q124, ⟨by decide +kernel, by decide +kernel⟩, by decide +kernel, Nat.le_of_ble_eq_true rfl⟩
abbrev mX5_age : g_M := (yX5_age, cX5_age, 2, (Option.some Jvm.ClassFile.FieldType.int), [])
theorem kX5_age : g_mk mX5_age 1 := ⟨q3013, q124, ⟨by decide +kernel, by decide +kernel⟩, by decide +kernel, Nat.le_of_ble_eq_true rfl⟩
abbrev mX5_daysUntilGrey : g_M := (yX5_daysUntilGrey, cX5_daysUntilGrey, 4, (Option.some Jvm.ClassFile.FieldType.int), [])
theorem kX5_daysUntilGrey : g_mk mX5_daysUntilGrey 1 := ⟨q3017, q124, ⟨by decide +kernel, by decide +kernel⟩, by decide +kernel, Nat.le_of_ble_eq_true rfl⟩
abbrev mX5_colourByBrightness : g_M := (yX5_colourByBrightness, cX5_colourByBrightness, 5, (Option.some Jvm.ClassFile.FieldType.int), [])
theorem kX5_colourByBrightness : g_mk mX5_colourByBrightness 1 := ⟨q3021, q124, ⟨by decide +kernel, by decide +kernel⟩, by decide +kernel, Nat.le_of_ble_eq_true rfl⟩
abbrev mX5_brightness : g_M := (yX5_brightness, cX5_brightness, 2, (Option.some Jvm.ClassFile.FieldType.int), [])
theorem kX5_brightness : g_mk mX5_brightness 1 := ⟨q3025, q124, ⟨by decide +kernel, by decide +kernel⟩, by decide +kernel, Nat.le_of_ble_eq_true rfl⟩
abbrev mX5_reportCount : g_M := (yX5_reportCount, cX5_reportCount, 1, (Option.some Jvm.ClassFile.FieldType.int), [])
theorem kX5_reportCount : g_mk mX5_reportCount 0 := ⟨q3029, q124, ⟨by decide +kernel, by decide +kernel⟩, by decide +kernel, Nat.le_of_ble_eq_true rfl⟩
abbrev mX5_reportAt : g_M := (yX5_reportAt, cX5_reportAt, 2, (Option.some Jvm.ClassFile.FieldType.int), [])
theorem kX5_reportAt : g_mk mX5_reportAt 1 := ⟨q3033, q124, ⟨by decide +kernel, by decide +kernel⟩, by decide +kernel, Nat.le_of_ble_eq_true rfl⟩
abbrev mX5_toleranceOf : g_M := (yX5_toleranceOf, cX5_toleranceOf, 2, (Option.some Jvm.ClassFile.FieldType.int), [])
theorem kX5_toleranceOf : g_mk mX5_toleranceOf 1 := ⟨q3037, q124, ⟨by decide +kernel, by decide +kernel⟩, by decide +kernel, Nat.le_of_ble_eq_true rfl⟩
abbrev mX5_ofReport : g_M := (yX5_ofReport, cX5_ofReport, 3, (Option.some Jvm.ClassFile.FieldType.int), [])
theorem kX5_ofReport : g_mk mX5_ofReport 2 := ⟨q3041, q124, ⟨by decide +kernel, by decide +kernel⟩, by decide +kernel, Nat.le_of_ble_eq_true rfl⟩
abbrev mX5_rewardOf : g_M := (yX5_rewardOf, cX5_rewardOf, 2, (Option.some Jvm.ClassFile.FieldType.int), [])
theorem kX5_rewardOf : g_mk mX5_rewardOf 1 := ⟨q3045, q124, ⟨by decide +kernel, by decide +kernel⟩, by decide +kernel, Nat.le_of_ble_eq_true rfl⟩
abbrev mX5_distanceFor : g_M := (yX5_distanceFor, cX5_distanceFor, 3, (Option.some Jvm.ClassFile.FieldType.int), [])
theorem kX5_distanceFor : g_mk mX5_distanceFor 2 := ⟨q3049, q124, ⟨by decide +kernel, by decide +kernel⟩, by decide +kernel, Nat.le_of_ble_eq_true rfl⟩
abbrev mX5_areBoth : g_M := (yX5_areBoth, cX5_areBoth, 3, (Option.some Jvm.ClassFile.FieldType.boolean), [])
theorem kX5_areBoth : g_mk mX5_areBoth 2 := ⟨q3053, q124, ⟨by decide +kernel, by decide +kernel⟩, by decide +kernel, Nat.le_of_ble_eq_true rfl⟩
abbrev mX5_fits : g_M := (yX5_fits, cX5_fits, 3, (Option.some Jvm.ClassFile.FieldType.boolean), [])
theorem kX5_fits : g_mk mX5_fits 2 := ⟨q3057, q124, ⟨by decide +kernel, by decide +kernel⟩, by decide +kernel, Nat.le_of_ble_eq_true rfl⟩
abbrev mX5_nearestFor : g_M := (yX5_nearestFor, cX5_nearestFor, 2, (Option.some Jvm.ClassFile.FieldType.int), [])
theorem kX5_nearestFor : g_mk mX5_nearestFor 1 := ⟨q3061, q124, ⟨by decide +kernel, by decide +kernel⟩, by decide +kernel, Nat.le_of_ble_eq_true rfl⟩
abbrev mX5_distance : g_M := (yX5_distance, cX5_distance, 3, (Option.some Jvm.ClassFile.FieldType.int), [])
theorem kX5_distance : g_mk mX5_distance 2 := ⟨q3065, q124, ⟨by decide +kernel, by decide +kernel⟩, by decide +kernel, Nat.le_of_ble_eq_true rfl⟩
abbrev mX5_nearest : g_M := (yX5_nearest, cX5_nearest, 4, (Option.some Jvm.ClassFile.FieldType.int), [])
theorem kX5_nearest : g_mk mX5_nearest 3 := ⟨q3069, q124, ⟨by decide +kernel, by decide +kernel⟩, by decide +kernel, Nat.le_of_ble_eq_true rfl⟩
abbrev mX5_near : g_M := (yX5_near, cX5_near, 8, (Option.some Jvm.ClassFile.FieldType.int), [])
theorem kX5_near : g_mk mX5_near 3 := ⟨q3073, q124, ⟨by decide +kernel, by decide +kernel⟩, by decide +kernel, Nat.le_of_ble_eq_true rfl⟩
abbrev mX5_farFrom : g_M := (yX5_farFrom, cX5_farFrom, 8, (Option.some Jvm.ClassFile.FieldType.int), [])
theorem kX5_farFrom : g_mk mX5_farFrom 4 := ⟨q3078, q124, ⟨by decide +kernel, by decide +kernel⟩, by decide +kernel, Nat.le_of_ble_eq_true rfl⟩
abbrev mX5_nearestByLooking : g_M := (yX5_nearestByLooking, cX5_nearestByLooking, 4, (Option.some Jvm.ClassFile.FieldType.int), [])
theorem kX5_nearestByLooking : g_mk mX5_nearestByLooking 3 := ⟨q3082, q124, ⟨by decide +kernel, by decide +kernel⟩, by decide +kernel, Nat.le_of_ble_eq_true rfl⟩
abbrev mX5_closestDistance : g_M := (yX5_closestDistance, cX5_closestDistance, 1, (Option.some Jvm.ClassFile.FieldType.int), [])
theorem kX5_closestDistance : g_mk mX5_closestDistance 0 := ⟨q3086, q124, ⟨by decide +kernel, by decide +kernel⟩, by decide +kernel, Nat.le_of_ble_eq_true rfl⟩
abbrev mX5_closest : g_M := (yX5_closest, cX5_closest, 4, (Option.some Jvm.ClassFile.FieldType.int), [])
theorem kX5_closest : g_mk mX5_closest 0 := ⟨q3090, q124, ⟨by decide +kernel, by decide +kernel⟩, by decide +kernel, Nat.le_of_ble_eq_true rfl⟩
abbrev mX5_closestDistanceBySorting : g_M := (yX5_closestDistanceBySorting, cX5_closestDistanceBySorting, 1, (Option.some Jvm.ClassFile.FieldType.int), [])
theorem kX5_closestDistanceBySorting : g_mk mX5_closestDistanceBySorting 0 := ⟨q3094, q124, ⟨by decide +kernel, by decide +kernel⟩, by decide +kernel, Nat.le_of_ble_eq_true rfl⟩
abbrev mX5_bestReward : g_M := (yX5_bestReward, cX5_bestReward, 1, (Option.some Jvm.ClassFile.FieldType.int), [])
theorem kX5_bestReward : g_mk mX5_bestReward 0 := ⟨q3098, q124, ⟨by decide +kernel, by decide +kernel⟩, by decide +kernel, Nat.le_of_ble_eq_true rfl⟩
abbrev mX5_rewards : g_M := (yX5_rewards, cX5_rewards, 1, (Option.some Jvm.ClassFile.FieldType.int), [])
theorem kX5_rewards : g_mk mX5_rewards 0 := ⟨q3102, q124, ⟨by decide +kernel, by decide +kernel⟩, by decide +kernel, Nat.le_of_ble_eq_true rfl⟩
abbrev mX5_bestRewardByTrying : g_M := (yX5_bestRewardByTrying, cX5_bestRewardByTrying, 1, (Option.some Jvm.ClassFile.FieldType.int), [])
theorem kX5_bestRewardByTrying : g_mk mX5_bestRewardByTrying 0 := ⟨q3106, q124, ⟨by decide +kernel, by decide +kernel⟩, by decide +kernel, Nat.le_of_ble_eq_true rfl⟩
abbrev mX5_bestDifference : g_M := (yX5_bestDifference, cX5_bestDifference, 1, (Option.some Jvm.ClassFile.FieldType.int), [])
theorem kX5_bestDifference : g_mk mX5_bestDifference 0 := ⟨q3110, q124, ⟨by decide +kernel, by decide +kernel⟩, by decide +kernel, Nat.le_of_ble_eq_true rfl⟩
abbrev mX5_settlementFor : g_M := (yX5_settlementFor, cX5_settlementFor, 4, (Option.some Jvm.ClassFile.FieldType.int), [])
theorem kX5_settlementFor : g_mk mX5_settlementFor 1 := ⟨q3114, q124, ⟨by decide +kernel, by decide +kernel⟩, by decide +kernel, Nat.le_of_ble_eq_true rfl⟩
abbrev mX5_paletteError : g_M := (yX5_paletteError, cX5_paletteError, 2, (Option.some Jvm.ClassFile.FieldType.int), [])
theorem kX5_paletteError : g_mk mX5_paletteError 1 := ⟨q3118, q124, ⟨by decide +kernel, by decide +kernel⟩, by decide +kernel, Nat.le_of_ble_eq_true rfl⟩
abbrev mX5_errorOf : g_M := (yX5_errorOf, cX5_errorOf, 2, (Option.some Jvm.ClassFile.FieldType.int), [])
theorem kX5_errorOf : g_mk mX5_errorOf 1 := ⟨q3122, q124, ⟨by decide +kernel, by decide +kernel⟩, by decide +kernel, Nat.le_of_ble_eq_true rfl⟩
abbrev mX5_palette : g_M := (yX5_palette, cX5_palette, 4, (Option.some Jvm.ClassFile.FieldType.int), [])
theorem kX5_palette : g_mk mX5_palette 1 := ⟨q3126, q124, ⟨by decide +kernel, by decide +kernel⟩, by decide +kernel, Nat.le_of_ble_eq_true rfl⟩
abbrev mX5_many : g_M := (yX5_many, cX5_many, 3, (Option.some Jvm.ClassFile.FieldType.int), [])
theorem kX5_many : g_mk mX5_many 1 := ⟨q3129, q124, ⟨by decide +kernel, by decide +kernel⟩, by decide +kernel, Nat.le_of_ble_eq_true rfl⟩
abbrev mX5_error : g_M := (yX5_error, cX5_error, 7, (Option.some Jvm.ClassFile.FieldType.int), [])
theorem kX5_error : g_mk mX5_error 1 := ⟨q3133, q124, ⟨by decide +kernel, by decide +kernel⟩, by decide +kernel, Nat.le_of_ble_eq_true rfl⟩
abbrev mX5_hasLowest : g_M := (yX5_hasLowest, cX5_hasLowest, 3, (Option.some Jvm.ClassFile.FieldType.boolean), [])
theorem kX5_hasLowest : g_mk mX5_hasLowest 2 := ⟨q3136, q124, ⟨by decide +kernel, by decide +kernel⟩, by decide +kernel, Nat.le_of_ble_eq_true rfl⟩
abbrev mX5_paletteErrorBySearch : g_M := (yX5_paletteErrorBySearch, cX5_paletteErrorBySearch, 2, (Option.some Jvm.ClassFile.FieldType.int), [])
theorem kX5_paletteErrorBySearch : g_mk mX5_paletteErrorBySearch 1 := ⟨q3140, q124, ⟨by decide +kernel, by decide +kernel⟩, by decide +kernel, Nat.le_of_ble_eq_true rfl⟩
abbrev mX5_paletteColour : g_M := (yX5_paletteColour, cX5_paletteColour, 6, (Option.some Jvm.ClassFile.FieldType.int), [])
theorem kX5_paletteColour : g_mk mX5_paletteColour 2 := ⟨q3144, q124, ⟨by decide +kernel, by decide +kernel⟩, by decide +kernel, Nat.le_of_ble_eq_true rfl⟩
abbrev mX5_day : g_M := (yX5_day, cX5_day, 1, (Option.some Jvm.ClassFile.FieldType.int), [])
theorem kX5_day : g_mk mX5_day 0 := ⟨q3148, q124, ⟨by decide +kernel, by decide +kernel⟩, by decide +kernel, Nat.le_of_ble_eq_true rfl⟩
abbrev mX5_metric : g_M := (yX5_metric, cX5_metric, 1, (Option.some Jvm.ClassFile.FieldType.char), [])
theorem kX5_metric : g_mk mX5_metric 0 := ⟨q3152, q124, ⟨by decide +kernel, by decide +kernel⟩, by decide +kernel, Nat.le_of_ble_eq_true rfl⟩
abbrev mX5_coins : g_M := (yX5_coins, cX5_coins, 1, (Option.some Jvm.ClassFile.FieldType.int), [])
theorem kX5_coins : g_mk mX5_coins 0 := ⟨q3156, q124, ⟨by decide +kernel, by decide +kernel⟩, by decide +kernel, Nat.le_of_ble_eq_true rfl⟩
abbrev mX5_coinsByAccounts : g_M := (yX5_coinsByAccounts, cX5_coinsByAccounts, 1, (Option.some Jvm.ClassFile.FieldType.int), [])
theorem kX5_coinsByAccounts : g_mk mX5_coinsByAccounts 0 := ⟨q3160, q124, ⟨by decide +kernel, by decide +kernel⟩, by decide +kernel, Nat.le_of_ble_eq_true rfl⟩
abbrev mX5_returnedTotal : g_M := (yX5_returnedTotal, cX5_returnedTotal, 1, (Option.some Jvm.ClassFile.FieldType.int), [])
theorem kX5_returnedTotal : g_mk mX5_returnedTotal 0 := ⟨q3164, q124, ⟨by decide +kernel, by decide +kernel⟩, by decide +kernel, Nat.le_of_ble_eq_true rfl⟩
abbrev mX5_meanBrightness : g_M := (yX5_meanBrightness, cX5_meanBrightness, 3, (Option.some Jvm.ClassFile.FieldType.double), [])
theorem kX5_meanBrightness : g_mk mX5_meanBrightness 0 := ⟨q3168, q124, ⟨by decide +kernel, by decide +kernel⟩, by decide +kernel, Nat.le_of_ble_eq_true rfl⟩
abbrev mX5_greyShare : g_M := (yX5_greyShare, cX5_greyShare, 1, (Option.some Jvm.ClassFile.FieldType.float), [])
theorem kX5_greyShare : g_mk mX5_greyShare 0 := ⟨q3172, q124, ⟨by decide +kernel, by decide +kernel⟩, by decide +kernel, Nat.le_of_ble_eq_true rfl⟩
abbrev mX5_isConsistent : g_M := (yX5_isConsistent, cX5_isConsistent, 1, (Option.some Jvm.ClassFile.FieldType.boolean), [])
theorem kX5_isConsistent : g_mk mX5_isConsistent 0 := ⟨q3176, q124, ⟨by decide +kernel, by decide +kernel⟩, by decide +kernel, Nat.le_of_ble_eq_true rfl⟩
abbrev mX5_renderColour : g_M := (yX5_renderColour, cX5_renderColour, 3, (Option.some Jvm.ClassFile.FieldType.int), [])
theorem kX5_renderColour : g_mk mX5_renderColour 1 := ⟨q3180, q124, ⟨by decide +kernel, by decide +kernel⟩, by decide +kernel, Nat.le_of_ble_eq_true rfl⟩
abbrev mX5_writeNumber : g_M := (yX5_writeNumber, cX5_writeNumber, 3, (Option.none : Option Jvm.ClassFile.FieldType), [])
theorem kX5_writeNumber : g_mk mX5_writeNumber 1 := ⟨q3184, q124, ⟨by decide +kernel, by decide +kernel⟩, by decide +kernel, Nat.le_of_ble_eq_true rfl⟩
abbrev mX5_write : g_M := (yX5_write, cX5_write, 2, (Option.none : Option Jvm.ClassFile.FieldType), [])
theorem kX5_write : g_mk mX5_write 1 := ⟨q3188, q124, ⟨by decide +kernel, by decide +kernel⟩, by decide +kernel, Nat.le_of_ble_eq_true rfl⟩
abbrev mX5_writeParts : g_M := (yX5_writeParts, cX5_writeParts, 3, (Option.none : Option Jvm.ClassFile.FieldType), [])
theorem kX5_writeParts : g_mk mX5_writeParts 1 := ⟨q3192, q124, ⟨by decide +kernel, by decide +kernel⟩, by decide +kernel, Nat.le_of_ble_eq_true rfl⟩
abbrev mX5_renderReport : g_M := (yX5_renderReport, cX5_renderReport, 3, (Option.some Jvm.ClassFile.FieldType.int), [])
theorem kX5_renderReport : g_mk mX5_renderReport 1 := ⟨q3196, q124, ⟨by decide +kernel, by decide +kernel⟩, by decide +kernel, Nat.le_of_ble_eq_true rfl⟩
abbrev mX5_outputAt : g_M := (yX5_outputAt, cX5_outputAt, 2, (Option.some Jvm.ClassFile.FieldType.char), [])
theorem kX5_outputAt : g_mk mX5_outputAt 1 := ⟨q3200, q124, ⟨by decide +kernel, by decide +kernel⟩, by decide +kernel, Nat.le_of_ble_eq_true rfl⟩
abbrev mX5_type : g_M := (yX5_type, cX5_type, 2, (Option.some Jvm.ClassFile.FieldType.int), [])
theorem kX5_type : g_mk mX5_type 1 := ⟨q3204, q124, ⟨by decide +kernel, by decide +kernel⟩, by decide +kernel, Nat.le_of_ble_eq_true rfl⟩
abbrev mX5_runScript : g_M := (yX5_runScript, cX5_runScript, 5, (Option.some Jvm.ClassFile.FieldType.int), [])
theorem kX5_runScript : g_mk mX5_runScript 0 := ⟨q3208, q124, ⟨by decide +kernel, by decide +kernel⟩, by decide +kernel, Nat.le_of_ble_eq_true rfl⟩
abbrev mX5_parse : g_M := (yX5_parse, cX5_parse, 1, (Option.none : Option Jvm.ClassFile.FieldType), [])
theorem kX5_parse : g_mk mX5_parse 0 := ⟨q3212, q124, ⟨by decide +kernel, by decide +kernel⟩, by decide +kernel, Nat.le_of_ble_eq_true rfl⟩
abbrev mX5_command : g_M := (yX5_command, cX5_command, 2, (Option.none : Option Jvm.ClassFile.FieldType), [])
theorem kX5_command : g_mk mX5_command 0 := ⟨q3216, q124, ⟨by decide +kernel, by decide +kernel⟩, by decide +kernel, Nat.le_of_ble_eq_true rfl⟩
abbrev mX5_word : g_M := (yX5_word, cX5_word, 4, (Option.some Jvm.ClassFile.FieldType.int), [])
theorem kX5_word : g_mk mX5_word 0 := ⟨q3220, q124, ⟨by decide +kernel, by decide +kernel⟩, by decide +kernel, Nat.le_of_ble_eq_true rfl⟩
abbrev mX5_spelled : g_M := (yX5_spelled, cX5_spelled, 2, (Option.some Jvm.ClassFile.FieldType.int), [])
theorem kX5_spelled : g_mk mX5_spelled 2 := ⟨q3223, q124, ⟨by decide +kernel, by decide +kernel⟩, by decide +kernel, Nat.le_of_ble_eq_true rfl⟩
abbrev mX5_pick : g_M := (yX5_pick, cX5_pick, 8, (Option.some Jvm.ClassFile.FieldType.int), [])
theorem kX5_pick : g_mk mX5_pick 8 := ⟨q3226, q124, ⟨by decide +kernel, by decide +kernel⟩, by decide +kernel, Nat.le_of_ble_eq_true rfl⟩
abbrev mX5_readsArguments : g_M := (yX5_readsArguments, cX5_readsArguments, 2, (Option.none : Option Jvm.ClassFile.FieldType), [])
theorem kX5_readsArguments : g_mk mX5_readsArguments 1 := ⟨q3230, q124, ⟨by decide +kernel, by decide +kernel⟩, by decide +kernel, Nat.le_of_ble_eq_true rfl⟩
abbrev mX5_readsColour : g_M := (yX5_readsColour, cX5_readsColour, 1, (Option.none : Option Jvm.ClassFile.FieldType), [])
theorem kX5_readsColour : g_mk mX5_readsColour 0 := ⟨q3234, q124, ⟨by decide +kernel, by decide +kernel⟩, by decide +kernel, Nat.le_of_ble_eq_true rfl⟩
abbrev mX5_reads : g_M := (yX5_reads, cX5_reads, 3, (Option.none : Option Jvm.ClassFile.FieldType), [])
theorem kX5_reads : g_mk mX5_reads 2 := ⟨q3238, q124, ⟨by decide +kernel, by decide +kernel⟩, by decide +kernel, Nat.le_of_ble_eq_true rfl⟩
abbrev mX5_mark : g_M := (yX5_mark, cX5_mark, 1, (Option.some Jvm.ClassFile.FieldType.int), [])
theorem kX5_mark : g_mk mX5_mark 0 := ⟨q3242, q124, ⟨by decide +kernel, by decide +kernel⟩, by decide +kernel, Nat.le_of_ble_eq_true rfl⟩
abbrev mX5_number : g_M := (yX5_number, cX5_number, 3, (Option.some Jvm.ClassFile.FieldType.int), [])
theorem kX5_number : g_mk mX5_number 0 := ⟨q3246, q124, ⟨by decide +kernel, by decide +kernel⟩, by decide +kernel, Nat.le_of_ble_eq_true rfl⟩
abbrev mX5_readsMetric : g_M := (yX5_readsMetric, cX5_readsMetric, 1, (Option.none : Option Jvm.ClassFile.FieldType), [])
theorem kX5_readsMetric : g_mk mX5_readsMetric 0 := ⟨q3250, q124, ⟨by decide +kernel, by decide +kernel⟩, by decide +kernel, Nat.le_of_ble_eq_true rfl⟩
abbrev mX5_why : g_M := (yX5_why, cX5_why, 7, (Option.some Jvm.ClassFile.FieldType.int), [])
theorem kX5_why : g_mk mX5_why 6 := ⟨q3254, q124, ⟨by decide +kernel, by decide +kernel⟩, by decide +kernel, Nat.le_of_ble_eq_true rfl⟩
abbrev mX5_kindOf : g_M := (yX5_kindOf, cX5_kindOf, 3, (Option.some Jvm.ClassFile.FieldType.int), [])
theorem kX5_kindOf : g_mk mX5_kindOf 3 := ⟨q3257, q124, ⟨by decide +kernel, by decide +kernel⟩, by decide +kernel, Nat.le_of_ble_eq_true rfl⟩
abbrev mX5_does : g_M := (yX5_does, cX5_does, 7, (Option.some Jvm.ClassFile.FieldType.int), [])
theorem kX5_does : g_mk mX5_does 6 := ⟨q3261, q124, ⟨by decide +kernel, by decide +kernel⟩, by decide +kernel, Nat.le_of_ble_eq_true rfl⟩
abbrev mX5_errorPosition : g_M := (yX5_errorPosition, cX5_errorPosition, 1, (Option.some Jvm.ClassFile.FieldType.int), [])
theorem kX5_errorPosition : g_mk mX5_errorPosition 0 := ⟨q3265, q124, ⟨by decide +kernel, by decide +kernel⟩, by decide +kernel, Nat.le_of_ble_eq_true rfl⟩
abbrev mX5_present : g_M := (yX5_present, cX5_present, 2, (Option.some Jvm.ClassFile.FieldType.int), [])
theorem kX5_present : g_mk mX5_present 1 := ⟨q3269, q124, ⟨by decide +kernel, by decide +kernel⟩, by decide +kernel, Nat.le_of_ble_eq_true rfl⟩
abbrev mX5_failedCommand : g_M := (yX5_failedCommand, cX5_failedCommand, 1, (Option.some Jvm.ClassFile.FieldType.int), [])
theorem kX5_failedCommand : g_mk mX5_failedCommand 0 := ⟨q3273, q124, ⟨by decide +kernel, by decide +kernel⟩, by decide +kernel, Nat.le_of_ble_eq_true rfl⟩
abbrev mX5_failureKind : g_M := (yX5_failureKind, cX5_failureKind, 1, (Option.some Jvm.ClassFile.FieldType.char), [])
theorem kX5_failureKind : g_mk mX5_failureKind 0 := ⟨q3277, q124, ⟨by decide +kernel, by decide +kernel⟩, by decide +kernel, Nat.le_of_ble_eq_true rfl⟩
abbrev mX5_undo : g_M := (yX5_undo, cX5_undo, 1, (Option.some Jvm.ClassFile.FieldType.int), [])
theorem kX5_undo : g_mk mX5_undo 0 := ⟨q3281, q124, ⟨by decide +kernel, by decide +kernel⟩, by decide +kernel, Nat.le_of_ble_eq_true rfl⟩
abbrev mX5_save : g_M := (yX5_save, cX5_save, 1, (Option.some Jvm.ClassFile.FieldType.int), [])
theorem kX5_save : g_mk mX5_save 0 := ⟨q3285, q124, ⟨by decide +kernel, by decide +kernel⟩, by decide +kernel, Nat.le_of_ble_eq_true rfl⟩
abbrev mX5_restore : g_M := (yX5_restore, cX5_restore, 1, (Option.some Jvm.ClassFile.FieldType.int), [])
theorem kX5_restore : g_mk mX5_restore 0 := ⟨q3289, q124, ⟨by decide +kernel, by decide +kernel⟩, by decide +kernel, Nat.le_of_ble_eq_true rfl⟩
abbrev mX6_init : g_M := (yX6_init, cX6_init, 2, (Option.none : Option Jvm.ClassFile.FieldType), [])
theorem kX6_init : g_mk mX6_init 1 := ⟨q379, q125, ⟨by decide +kernel, by decide +kernel⟩, by decide +kernel, Nat.le_of_ble_eq_true rfl⟩
abbrev mX6_hasNext : g_M := (yX6_hasNext, cX6_hasNext, 1, (Option.some Jvm.ClassFile.FieldType.boolean), [])
theorem kX6_hasNext : g_mk mX6_hasNext 0 := ⟨q398, q125, ⟨by decide +kernel, by decide +kernel⟩, by decide +kernel, Nat.le_of_ble_eq_true rfl⟩
abbrev mX6_next : g_M := (yX6_next, cX6_next, 1, (Option.some (Jvm.ClassFile.FieldType.object "java/lang/Object")), [])
theorem kX6_next : g_mk mX6_next 0 := ⟨q407, q125, ⟨by decide +kernel, by decide +kernel⟩, by decide +kernel, Nat.le_of_ble_eq_true rfl⟩
abbrev mX6_next_2 : g_M := (yX6_next_2, cX6_next_2, 1, (Option.some (Jvm.ClassFile.FieldType.object "ColourOffice$Found")), [])
theorem kX6_next_2 : g_mk mX6_next_2 0 := ⟨q411, q125, ⟨by decide +kernel, by decide +kernel⟩, by decide +kernel, Nat.le_of_ble_eq_true rfl⟩
abbrev mJ9_init : g_M := (yJ9_init, cJ9_init, 1, (Option.none : Option Jvm.ClassFile.FieldType), [])
theorem kJ9_init : g_mk mJ9_init 0 := ⟨q437, q126, ⟨by decide +kernel, by decide +kernel⟩, by decide +kernel, Nat.le_of_ble_eq_true rfl⟩
abbrev mJ9_init_2 : g_M := (yJ9_init_2, cJ9_init_2, 2, (Option.none : Option Jvm.ClassFile.FieldType), [])
theorem kJ9_init_2 : g_mk mJ9_init_2 1 := ⟨q797, q126, ⟨by decide +kernel, by decide +kernel⟩, by decide +kernel, Nat.le_of_ble_eq_true rfl⟩
abbrev mJ9_init_3 : g_M := (yJ9_init_3, cJ9_init_3, 3, (Option.none : Option Jvm.ClassFile.FieldType), [])
theorem kJ9_init_3 : g_mk mJ9_init_3 2 := ⟨q1067, q126, ⟨by decide +kernel, by decide +kernel⟩, by decide +kernel, Nat.le_of_ble_eq_true rfl⟩
abbrev mJ9_toString : g_M := (yJ9_toString, cJ9_toString, 3, (Option.some (Jvm.ClassFile.FieldType.object "java/lang/String")), [])
theorem kJ9_toString : g_mk mJ9_toString 0 := ⟨q2359, q126, ⟨by decide +kernel, by decide +kernel⟩, by decide +kernel, Nat.le_of_ble_eq_true rfl⟩
abbrev mJ9_getLocalizedMessage : g_M := (yJ9_getLocalizedMessage, cJ9_getLocalizedMessage, 1, (Option.some (Jvm.ClassFile.FieldType.object "java/lang/String")), [])
theorem kJ9_getLocalizedMessage : g_mk mJ9_getLocalizedMessage 0 := ⟨q2375, q126, ⟨by decide +kernel, by decide +kernel⟩, by decide +kernel, Nat.le_of_ble_eq_true rfl⟩
abbrev mJ9_getMessage : g_M := (yJ9_getMessage, cJ9_getMessage, 1, (Option.some (Jvm.ClassFile.FieldType.object "java/lang/String")), [])
theorem kJ9_getMessage : g_mk mJ9_getMessage 0 := ⟨q2390, q126, ⟨by decide +kernel, by decide +kernel⟩, by decide +kernel, Nat.le_of_ble_eq_true rfl⟩
abbrev mJ10_init : g_M := (yJ10_init, cJ10_init, 1, (Option.none : Option Jvm.ClassFile.FieldType), [])
theorem kJ10_init : g_mk mJ10_init 0 := ⟨q470, q127, ⟨by decide +kernel, by decide +kernel⟩, by decide +kernel, Nat.le_of_ble_eq_true rfl⟩
abbrev mJ10_init_2 : g_M := (yJ10_init_2, cJ10_init_2, 2, (Option.none : Option Jvm.ClassFile.FieldType), [])
theorem kJ10_init_2 : g_mk mJ10_init_2 1 := ⟨q794, q127, ⟨by decide +kernel, by decide +kernel⟩, by decide +kernel, Nat.le_of_ble_eq_true rfl⟩
abbrev mJ10_init_3 : g_M := (yJ10_init_3, cJ10_init_3, 3, (Option.none : Option Jvm.ClassFile.FieldType), [])
theorem kJ10_init_3 : g_mk mJ10_init_3 2 := ⟨q1064, q127, ⟨by decide +kernel, by decide +kernel⟩, by decide +kernel, Nat.le_of_ble_eq_true rfl⟩
abbrev mJ11_init : g_M := (yJ11_init, cJ11_init, 1, (Option.none : Option Jvm.ClassFile.FieldType), [])
theorem kJ11_init : g_mk mJ11_init 0 := ⟨q467, q128, ⟨by decide +kernel, by decide +kernel⟩, by decide +kernel, Nat.le_of_ble_eq_true rfl⟩
abbrev mJ11_init_2 : g_M := (yJ11_init_2, cJ11_init_2, 2, (Option.none : Option Jvm.ClassFile.FieldType), [])
theorem kJ11_init_2 : g_mk mJ11_init_2 1 := ⟨q791, q128, ⟨by decide +kernel, by decide +kernel⟩, by decide +kernel, Nat.le_of_ble_eq_true rfl⟩
abbrev mJ12_init : g_M := (yJ12_init, cJ12_init, 1, (Option.none : Option Jvm.ClassFile.FieldType), [])
theorem kJ12_init : g_mk mJ12_init 0 := ⟨q464, q129, ⟨by decide +kernel, by decide +kernel⟩, by decide +kernel, Nat.le_of_ble_eq_true rfl⟩
abbrev mJ12_init_2 : g_M := (yJ12_init_2, cJ12_init_2, 2, (Option.none : Option Jvm.ClassFile.FieldType), [])
theorem kJ12_init_2 : g_mk mJ12_init_2 1 := ⟨q1386, q129, ⟨by decide +kernel, by decide +kernel⟩, by decide +kernel, Nat.le_of_ble_eq_true rfl⟩
abbrev mX7_copy : g_M := (yX7_copy, cX7_copy, 1, (Option.some (Jvm.ClassFile.FieldType.object "ColourOffice$Found")), [])
theorem kX7_copy : g_mk mX7_copy 0 := ⟨q488, q130, ⟨by decide +kernel, by decide +kernel⟩, by decide +kernel, Nat.le_of_ble_eq_true rfl⟩
abbrev mX7_init : g_M := (yX7_init, cX7_init, 5, (Option.none : Option Jvm.ClassFile.FieldType), [])
theorem kX7_init : g_mk mX7_init 4 := ⟨q493, q130, ⟨by decide +kernel, by decide +kernel⟩, by decide +kernel, Nat.le_of_ble_eq_true rfl⟩
abbrev mX7_init_2 : g_M := (yX7_init_2, cX7_init_2, 4, (Option.none : Option Jvm.ClassFile.FieldType), [])
theorem kX7_init_2 : g_mk mX7_init_2 3 := ⟨q1094, q130, ⟨by decide +kernel, by decide +kernel⟩, by decide +kernel, Nat.le_of_ble_eq_true rfl⟩
abbrev mX7_passDay : g_M := (yX7_passDay, cX7_passDay, 1, (Option.none : Option Jvm.ClassFile.FieldType), [])
theorem kX7_passDay : g_mk mX7_passDay 0 := ⟨q1495, q130, ⟨by decide +kernel, by decide +kernel⟩, by decide +kernel, Nat.le_of_ble_eq_true rfl⟩
abbrev mX7_daysUntilGrey : g_M := (yX7_daysUntilGrey, cX7_daysUntilGrey, 2, (Option.some Jvm.ClassFile.FieldType.int), [])
theorem kX7_daysUntilGrey : g_mk mX7_daysUntilGrey 0 := ⟨q1949, q130, ⟨by decide +kernel, by decide +kernel⟩, by decide +kernel, Nat.le_of_ble_eq_true rfl⟩
abbrev mX7_toString : g_M := (yX7_toString, cX7_toString, 1, (Option.some (Jvm.ClassFile.FieldType.object "java/lang/String")), [])
theorem kX7_toString : g_mk mX7_toString 0 := ⟨q2174, q130, ⟨by decide +kernel, by decide +kernel⟩, by decide +kernel, Nat.le_of_ble_eq_true rfl⟩
abbrev mJ13_checkIndex : g_M := (yJ13_checkIndex, cJ13_checkIndex, 2, (Option.some Jvm.ClassFile.FieldType.int), [])
theorem kJ13_checkIndex : g_mk mJ13_checkIndex 2 := ⟨q552, q131, ⟨by decide +kernel, by decide +kernel⟩, by decide +kernel, Nat.le_of_ble_eq_true rfl⟩
abbrev mJ13_requireNonNull : g_M := (yJ13_requireNonNull, cJ13_requireNonNull, 1, (Option.some (Jvm.ClassFile.FieldType.object "java/lang/Object")), [])
theorem kJ13_requireNonNull : g_mk mJ13_requireNonNull 1 := ⟨q1369, q131, ⟨by decide +kernel, by decide +kernel⟩, by decide +kernel, Nat.le_of_ble_eq_true rfl⟩
abbrev mJ14_checkIndex : g_M := (yJ14_checkIndex, cJ14_checkIndex, 3, (Option.some Jvm.ClassFile.FieldType.int), [])
theorem kJ14_checkIndex : g_mk mJ14_checkIndex 3 := ⟨q555, q132, ⟨by decide +kernel, by decide +kernel⟩, by decide +kernel, Nat.le_of_ble_eq_true rfl⟩
abbrev mJ14_checkFromToIndex : g_M := (yJ14_checkFromToIndex, cJ14_checkFromToIndex, 4, (Option.some Jvm.ClassFile.FieldType.int), [])
theorem kJ14_checkFromToIndex : g_mk mJ14_checkFromToIndex 4 := ⟨q656, q132, ⟨by decide +kernel, by decide +kernel⟩, by decide +kernel, Nat.le_of_ble_eq_true rfl⟩
abbrev mJ14_checkFromIndexSize : g_M := (yJ14_checkFromIndexSize, cJ14_checkFromIndexSize, 4, (Option.some Jvm.ClassFile.FieldType.int), [])
theorem kJ14_checkFromIndexSize : g_mk mJ14_checkFromIndexSize 4 := ⟨q702, q132, ⟨by decide +kernel, by decide +kernel⟩, by decide +kernel, Nat.le_of_ble_eq_true rfl⟩
abbrev mJ15_init : g_M := (yJ15_init, cJ15_init, 2, (Option.none : Option Jvm.ClassFile.FieldType), [])
theorem kJ15_init : g_mk mJ15_init 1 := ⟨q828, q133, ⟨by decide +kernel, by decide +kernel⟩, by decide +kernel, Nat.le_of_ble_eq_true rfl⟩
abbrev mJ15_init_2 : g_M := (yJ15_init_2, cJ15_init_2, 1, (Option.none : Option Jvm.ClassFile.FieldType), [])
theorem kJ15_init_2 : g_mk mJ15_init_2 0 := ⟨q2249, q133, ⟨by decide +kernel, by decide +kernel⟩, by decide +kernel, Nat.le_of_ble_eq_true rfl⟩
abbrev mJ16_newLength : g_M := (yJ16_newLength, cJ16_newLength, 4, (Option.some Jvm.ClassFile.FieldType.int), [])
theorem kJ16_newLength : g_mk mJ16_newLength 3 := ⟨q610, q134, ⟨by decide +kernel, by decide +kernel⟩, by decide +kernel, Nat.le_of_ble_eq_true rfl⟩
abbrev mJ16_hugeLength : g_M := (yJ16_hugeLength, cJ16_hugeLength, 3, (Option.some Jvm.ClassFile.FieldType.int), [])
theorem kJ16_hugeLength : g_mk mJ16_hugeLength 2 := ⟨q617, q134, ⟨by decide +kernel, by decide +kernel⟩, by decide +kernel, Nat.le_of_ble_eq_true rfl⟩
abbrev mJ16_vectorizedHashCode : g_M := (yJ16_vectorizedHashCode, cJ16_vectorizedHashCode, 5, (Option.some Jvm.ClassFile.FieldType.int), [])
theorem kJ16_vectorizedHashCode : g_mk mJ16_vectorizedHashCode 5 := ⟨q966, q134, ⟨by decide +kernel, by decide +kernel⟩, by decide +kernel, Nat.le_of_ble_eq_true rfl⟩
abbrev mJ16_signedHashCode : g_M := (yJ16_signedHashCode, cJ16_signedHashCode, 6, (Option.some Jvm.ClassFile.FieldType.int), [])
theorem kJ16_signedHashCode : g_mk mJ16_signedHashCode 4 := ⟨q970, q134, ⟨by decide +kernel, by decide +kernel⟩, by decide +kernel, Nat.le_of_ble_eq_true rfl⟩
abbrev mJ16_utf16hashCode : g_M := (yJ16_utf16hashCode, cJ16_utf16hashCode, 6, (Option.some Jvm.ClassFile.FieldType.int), [])
theorem kJ16_utf16hashCode : g_mk mJ16_utf16hashCode 4 := ⟨q973, q134, ⟨by decide +kernel, by decide +kernel⟩, by decide +kernel, Nat.le_of_ble_eq_true rfl⟩
abbrev mJ16_hashCode : g_M := (yJ16_hashCode, cJ16_hashCode, 6, (Option.some Jvm.ClassFile.FieldType.int), [])
theorem kJ16_hashCode : g_mk mJ16_hashCode 4 := ⟨q990, q134, ⟨by decide +kernel, by decide +kernel⟩, by decide +kernel, Nat.le_of_ble_eq_true rfl⟩
abbrev mJ16_hashCode_2 : g_M := (yJ16_hashCode_2, cJ16_hashCode_2, 6, (Option.some Jvm.ClassFile.FieldType.int), [])
theorem kJ16_hashCode_2 : g_mk mJ16_hashCode_2 4 := ⟨q993, q134, ⟨by decide +kernel, by decide +kernel⟩, by decide +kernel, Nat.le_of_ble_eq_true rfl⟩
abbrev mJ16_hashCode_3 : g_M := (yJ16_hashCode_3, cJ16_hashCode_3, 6, (Option.some Jvm.ClassFile.FieldType.int), [])
theorem kJ16_hashCode_3 : g_mk mJ16_hashCode_3 4 := ⟨q997, q134, ⟨by decide +kernel, by decide +kernel⟩, by decide +kernel, Nat.le_of_ble_eq_true rfl⟩
abbrev mJ16_hashCode_4 : g_M := (yJ16_hashCode_4, cJ16_hashCode_4, 6, (Option.some Jvm.ClassFile.FieldType.int), [])
theorem kJ16_hashCode_4 : g_mk mJ16_hashCode_4 4 := ⟨q1001, q134, ⟨by decide +kernel, by decide +kernel⟩, by decide +kernel, Nat.le_of_ble_eq_true rfl⟩
abbrev mJ17_max : g_M := (yJ17_max, cJ17_max, 2, (Option.some Jvm.ClassFile.FieldType.int), [])
theorem kJ17_max : g_mk mJ17_max 2 := ⟨q613, q135, ⟨by decide +kernel, by decide +kernel⟩, by decide +kernel, Nat.le_of_ble_eq_true rfl⟩
abbrev mJ17_min : g_M := (yJ17_min, cJ17_min, 2, (Option.some Jvm.ClassFile.FieldType.int), [])
theorem kJ17_min : g_mk mJ17_min 2 := ⟨q631, q135, ⟨by decide +kernel, by decide +kernel⟩, by decide +kernel, Nat.le_of_ble_eq_true rfl⟩
abbrev mJ17_abs : g_M := (yJ17_abs, cJ17_abs, 1, (Option.some Jvm.ClassFile.FieldType.int), [])
theorem kJ17_abs : g_mk mJ17_abs 1 := ⟨q1348, q135, ⟨by decide +kernel, by decide +kernel⟩, by decide +kernel, Nat.le_of_ble_eq_true rfl⟩
abbrev mJ17_max_2 : g_M := (yJ17_max_2, cJ17_max_2, 4, (Option.some Jvm.ClassFile.FieldType.long), [])
theorem kJ17_max_2 : g_mk mJ17_max_2 2 := ⟨q1471, q135, ⟨by decide +kernel, by decide +kernel⟩, by decide +kernel, Nat.le_of_ble_eq_true rfl⟩
abbrev mJ18_copyOf : g_M := (yJ18_copyOf, cJ18_copyOf, 3, (Option.some (Jvm.ClassFile.FieldType.array Jvm.ClassFile.FieldType.byte)), [])
theorem kJ18_copyOf : g_mk mJ18_copyOf 2 := ⟨q621, q136, ⟨by decide +kernel, by decide +kernel⟩, by decide +kernel, Nat.le_of_ble_eq_true rfl⟩
abbrev mJ18_copyOfRange : g_M := (yJ18_copyOfRange, cJ18_copyOfRange, 3, (Option.some (Jvm.ClassFile.FieldType.array Jvm.ClassFile.FieldType.byte)), [])
theorem kJ18_copyOfRange : g_mk mJ18_copyOfRange 3 := ⟨q764, q136, ⟨by decide +kernel, by decide +kernel⟩, by decide +kernel, Nat.le_of_ble_eq_true rfl⟩
abbrev mJ18_copyOfRangeByte : g_M := (yJ18_copyOfRangeByte, cJ18_copyOfRangeByte, 5, (Option.some (Jvm.ClassFile.FieldType.array Jvm.ClassFile.FieldType.byte)), [])
theorem kJ18_copyOfRangeByte : g_mk mJ18_copyOfRangeByte 3 := ⟨q767, q136, ⟨by decide +kernel, by decide +kernel⟩, by decide +kernel, Nat.le_of_ble_eq_true rfl⟩
abbrev mJ18_checkLength : g_M := (yJ18_checkLength, cJ18_checkLength, 2, (Option.none : Option Jvm.ClassFile.FieldType), [])
theorem kJ18_checkLength : g_mk mJ18_checkLength 2 := ⟨q770, q136, ⟨by decide +kernel, by decide +kernel⟩, by decide +kernel, Nat.le_of_ble_eq_true rfl⟩
abbrev mJ18_copyOf_2 : g_M := (yJ18_copyOf_2, cJ18_copyOf_2, 2, (Option.some (Jvm.ClassFile.FieldType.array (Jvm.ClassFile.FieldType.object "java/lang/Object"))), [])
theorem kJ18_copyOf_2 : g_mk mJ18_copyOf_2 2 := ⟨q861, q136, ⟨by decide +kernel, by decide +kernel⟩, by decide +kernel, Nat.le_of_ble_eq_true rfl⟩
abbrev mJ18_copyOf_3 : g_M := (yJ18_copyOf_3, cJ18_copyOf_3, 4, (Option.some (Jvm.ClassFile.FieldType.array (Jvm.ClassFile.FieldType.object "java/lang/Object"))), [])
theorem kJ18_copyOf_3 : g_mk mJ18_copyOf_3 3 := ⟨q902, q136, ⟨by decide +kernel, by decide +kernel⟩, by decide +kernel, Nat.le_of_ble_eq_true rfl⟩
abbrev mJ18_fill : g_M := (yJ18_fill, cJ18_fill, 5, (Option.none : Option Jvm.ClassFile.FieldType), [])
theorem kJ18_fill : g_mk mJ18_fill 4 := ⟨q2571, q136, ⟨by decide +kernel, by decide +kernel⟩, by decide +kernel, Nat.le_of_ble_eq_true rfl⟩
abbrev mJ18_rangeCheck : g_M := (yJ18_rangeCheck, cJ18_rangeCheck, 3, (Option.none : Option Jvm.ClassFile.FieldType), [])
theorem kJ18_rangeCheck : g_mk mJ18_rangeCheck 3 := ⟨q2574, q136, ⟨by decide +kernel, by decide +kernel⟩, by decide +kernel, Nat.le_of_ble_eq_true rfl⟩
abbrev mJ19_inflate : g_M := (yJ19_inflate, cJ19_inflate, 5, (Option.none : Option Jvm.ClassFile.FieldType), [])
theorem kJ19_inflate : g_mk mJ19_inflate 5 := ⟨q690, q138, ⟨by decide +kernel, by decide +kernel⟩, by decide +kernel, Nat.le_of_ble_eq_true rfl⟩
abbrev mJ19_hashCode : g_M := (yJ19_hashCode, cJ19_hashCode, 1, (Option.some Jvm.ClassFile.FieldType.int), [])
theorem kJ19_hashCode : g_mk mJ19_hashCode 1 := ⟨q963, q138, ⟨by decide +kernel, by decide +kernel⟩, by decide +kernel, Nat.le_of_ble_eq_true rfl⟩
abbrev mJ19_equals : g_M := (yJ19_equals, cJ19_equals, 3, (Option.some Jvm.ClassFile.FieldType.boolean), [])
theorem kJ19_equals : g_mk mJ19_equals 2 := ⟨q1022, q138, ⟨by decide +kernel, by decide +kernel⟩, by decide +kernel, Nat.le_of_ble_eq_true rfl⟩
abbrev mJ19_indexOf : g_M := (yJ19_indexOf, cJ19_indexOf, 4, (Option.some Jvm.ClassFile.FieldType.int), [])
theorem kJ19_indexOf : g_mk mJ19_indexOf 4 := ⟨q1203, q138, ⟨by decide +kernel, by decide +kernel⟩, by decide +kernel, Nat.le_of_ble_eq_true rfl⟩
abbrev mJ19_canEncode : g_M := (yJ19_canEncode, cJ19_canEncode, 1, (Option.some Jvm.ClassFile.FieldType.boolean), [])
theorem kJ19_canEncode : g_mk mJ19_canEncode 1 := ⟨q1206, q138, ⟨by decide +kernel, by decide +kernel⟩, by decide +kernel, Nat.le_of_ble_eq_true rfl⟩
abbrev mJ19_indexOfChar : g_M := (yJ19_indexOfChar, cJ19_indexOfChar, 6, (Option.some Jvm.ClassFile.FieldType.int), [])
theorem kJ19_indexOfChar : g_mk mJ19_indexOfChar 4 := ⟨q1211, q138, ⟨by decide +kernel, by decide +kernel⟩, by decide +kernel, Nat.le_of_ble_eq_true rfl⟩
abbrev mJ19_charAt : g_M := (yJ19_charAt, cJ19_charAt, 2, (Option.some Jvm.ClassFile.FieldType.char), [])
theorem kJ19_charAt : g_mk mJ19_charAt 2 := ⟨q2257, q138, ⟨by decide +kernel, by decide +kernel⟩, by decide +kernel, Nat.le_of_ble_eq_true rfl⟩
abbrev mJ19_canEncode_2 : g_M := (yJ19_canEncode_2, cJ19_canEncode_2, 1, (Option.some Jvm.ClassFile.FieldType.boolean), [])
theorem kJ19_canEncode_2 : g_mk mJ19_canEncode_2 1 := ⟨q2291, q138, ⟨by decide +kernel, by decide +kernel⟩, by decide +kernel, Nat.le_of_ble_eq_true rfl⟩
abbrev mJ19_indexOf_2 : g_M := (yJ19_indexOf_2, cJ19_indexOf_2, 2, (Option.some Jvm.ClassFile.FieldType.int), [])
theorem kJ19_indexOf_2 : g_mk mJ19_indexOf_2 2 := ⟨q2449, q138, ⟨by decide +kernel, by decide +kernel⟩, by decide +kernel, Nat.le_of_ble_eq_true rfl⟩
abbrev mJ19_indexOf_3 : g_M := (yJ19_indexOf_3, cJ19_indexOf_3, 11, (Option.some Jvm.ClassFile.FieldType.int), [])
theorem kJ19_indexOf_3 : g_mk mJ19_indexOf_3 5 := ⟨q2452, q138, ⟨by decide +kernel, by decide +kernel⟩, by decide +kernel, Nat.le_of_ble_eq_true rfl⟩
abbrev mJ19_fillNull : g_M := (yJ19_fillNull, cJ19_fillNull, 3, (Option.none : Option Jvm.ClassFile.FieldType), [])
theorem kJ19_fillNull : g_mk mJ19_fillNull 3 := ⟨q2568, q138, ⟨by decide +kernel, by decide +kernel⟩, by decide +kernel, Nat.le_of_ble_eq_true rfl⟩
abbrev mJ20_stringSize : g_M := (yJ20_stringSize, cJ20_stringSize, 4, (Option.some Jvm.ClassFile.FieldType.int), [])
theorem kJ20_stringSize : g_mk mJ20_stringSize 1 := ⟨q718, q140, ⟨by decide +kernel, by decide +kernel⟩, by decide +kernel, Nat.le_of_ble_eq_true rfl⟩
abbrev mJ20_getChars : g_M := (yJ20_getChars, cJ20_getChars, 7, (Option.some Jvm.ClassFile.FieldType.int), [])
theorem kJ20_getChars : g_mk mJ20_getChars 3 := ⟨q721, q140, ⟨by decide +kernel, by decide +kernel⟩, by decide +kernel, Nat.le_of_ble_eq_true rfl⟩
abbrev mJ21_init : g_M := (yJ21_init, cJ21_init, 2, (Option.none : Option Jvm.ClassFile.FieldType), [])
theorem kJ21_init : g_mk mJ21_init 1 := ⟨q788, q141, ⟨by decide +kernel, by decide +kernel⟩, by decide +kernel, Nat.le_of_ble_eq_true rfl⟩
abbrev mJ21_init_2 : g_M := (yJ21_init_2, cJ21_init_2, 1, (Option.none : Option Jvm.ClassFile.FieldType), [])
theorem kJ21_init_2 : g_mk mJ21_init_2 0 := ⟨q1547, q141, ⟨by decide +kernel, by decide +kernel⟩, by decide +kernel, Nat.le_of_ble_eq_true rfl⟩
abbrev mJ22_init : g_M := (yJ22_init, cJ22_init, 4, (Option.none : Option Jvm.ClassFile.FieldType), [])
theorem kJ22_init : g_mk mJ22_init 3 := ⟨q921, q143, ⟨by decide +kernel, by decide +kernel⟩, by decide +kernel, Nat.le_of_ble_eq_true rfl⟩
abbrev mX8_init : g_M := (yX8_init, cX8_init, 3, (Option.none : Option Jvm.ClassFile.FieldType), [])
theorem kX8_init : g_mk mX8_init 2 := ⟨q940, q144, ⟨by decide +kernel, by decide +kernel⟩, by decide +kernel, Nat.le_of_ble_eq_true rfl⟩
abbrev mX8_applyTo : g_M := (yX8_applyTo, cX8_applyTo, 4, (Option.some Jvm.ClassFile.FieldType.int), [])
theorem kX8_applyTo : g_mk mX8_applyTo 1 := ⟨q952, q144, ⟨by decide +kernel, by decide +kernel⟩, by decide +kernel, Nat.le_of_ble_eq_true rfl⟩
abbrev mX8_at : g_M := (yX8_at, cX8_at, 2, (Option.some Jvm.ClassFile.FieldType.int), [])
theorem kX8_at : g_mk mX8_at 1 := ⟨q1033, q144, ⟨by decide +kernel, by decide +kernel⟩, by decide +kernel, Nat.le_of_ble_eq_true rfl⟩
abbrev mX9_init : g_M := (yX9_init, cX9_init, 2, (Option.none : Option Jvm.ClassFile.FieldType), [])
theorem kX9_init : g_mk mX9_init 1 := ⟨q1061, q145, ⟨by decide +kernel, by decide +kernel⟩, by decide +kernel, Nat.le_of_ble_eq_true rfl⟩
abbrev mX10_init : g_M := (yX10_init, cX10_init, 2, (Option.none : Option Jvm.ClassFile.FieldType), [])
theorem kX10_init : g_mk mX10_init 1 := ⟨q1058, q146, ⟨by decide +kernel, by decide +kernel⟩, by decide +kernel, Nat.le_of_ble_eq_true rfl⟩
abbrev mX10_asPublicException : g_M := (yX10_asPublicException, cX10_asPublicException, 1, (Option.some (Jvm.ClassFile.FieldType.object "java/lang/RuntimeException")), [])
theorem kX10_asPublicException : g_mk mX10_asPublicException 0 := ⟨q1543, q146, ⟨by decide +kernel, by decide +kernel⟩, by decide +kernel, Nat.le_of_ble_eq_true rfl⟩
abbrev mX10_kind : g_M := (yX10_kind, cX10_kind, 1, (Option.some Jvm.ClassFile.FieldType.char), [])
theorem kX10_kind : g_mk mX10_kind 0 := ⟨q2618, q146, ⟨by decide +kernel, by decide +kernel⟩, by decide +kernel, Nat.le_of_ble_eq_true rfl⟩
abbrev mX11_init : g_M := (yX11_init, cX11_init, 2, (Option.none : Option Jvm.ClassFile.FieldType), [])
theorem kX11_init : g_mk mX11_init 1 := ⟨q1081, q147, ⟨by decide +kernel, by decide +kernel⟩, by decide +kernel, Nat.le_of_ble_eq_true rfl⟩
abbrev mX11_part : g_M := (yX11_part, cX11_part, 2, (Option.some Jvm.ClassFile.FieldType.int), [])
theorem kX11_part : g_mk mX11_part 1 := ⟨q1105, q147, ⟨by decide +kernel, by decide +kernel⟩, by decide +kernel, Nat.le_of_ble_eq_true rfl⟩
abbrev mX11_difference : g_M := (yX11_difference, cX11_difference, 3, (Option.some Jvm.ClassFile.FieldType.int), [])
theorem kX11_difference : g_mk mX11_difference 2 := ⟨q1345, q147, ⟨by decide +kernel, by decide +kernel⟩, by decide +kernel, Nat.le_of_ble_eq_true rfl⟩
abbrev mX11_mixedWith : g_M := (yX11_mixedWith, cX11_mixedWith, 4, (Option.some (Jvm.ClassFile.FieldType.object "ColourOffice$Tint")), [])
theorem kX11_mixedWith : g_mk mX11_mixedWith 1 := ⟨q1479, q147, ⟨by decide +kernel, by decide +kernel⟩, by decide +kernel, Nat.le_of_ble_eq_true rfl⟩
abbrev mX11_isGrey : g_M := (yX11_isGrey, cX11_isGrey, 1, (Option.some Jvm.ClassFile.FieldType.boolean), [])
theorem kX11_isGrey : g_mk mX11_isGrey 0 := ⟨q1499, q147, ⟨by decide +kernel, by decide +kernel⟩, by decide +kernel, Nat.le_of_ble_eq_true rfl⟩
abbrev mX11_faded : g_M := (yX11_faded, cX11_faded, 1, (Option.some (Jvm.ClassFile.FieldType.object "ColourOffice$Tint")), [])
theorem kX11_faded : g_mk mX11_faded 0 := ⟨q1503, q147, ⟨by decide +kernel, by decide +kernel⟩, by decide +kernel, Nat.le_of_ble_eq_true rfl⟩
abbrev mX11_faded_2 : g_M := (yX11_faded_2, cX11_faded_2, 1, (Option.some Jvm.ClassFile.FieldType.int), [])
theorem kX11_faded_2 : g_mk mX11_faded_2 1 := ⟨q1506, q147, ⟨by decide +kernel, by decide +kernel⟩, by decide +kernel, Nat.le_of_ble_eq_true rfl⟩
abbrev mX11_stepsToGrey : g_M := (yX11_stepsToGrey, cX11_stepsToGrey, 6, (Option.some Jvm.ClassFile.FieldType.int), [])
theorem kX11_stepsToGrey : g_mk mX11_stepsToGrey 0 := ⟨q1953, q147, ⟨by decide +kernel, by decide +kernel⟩, by decide +kernel, Nat.le_of_ble_eq_true rfl⟩
abbrev mX11_sum : g_M := (yX11_sum, cX11_sum, 1, (Option.some Jvm.ClassFile.FieldType.int), [])
theorem kX11_sum : g_mk mX11_sum 0 := ⟨q1969, q147, ⟨by decide +kernel, by decide +kernel⟩, by decide +kernel, Nat.le_of_ble_eq_true rfl⟩
abbrev mX11_toString : g_M := (yX11_toString, cX11_toString, 1, (Option.some (Jvm.ClassFile.FieldType.object "java/lang/String")), [])
theorem kX11_toString : g_mk mX11_toString 0 := ⟨q2183, q147, ⟨by decide +kernel, by decide +kernel⟩, by decide +kernel, Nat.le_of_ble_eq_true rfl⟩
abbrev mX12_init : g_M := (yX12_init, cX12_init, 5, (Option.none : Option Jvm.ClassFile.FieldType), [])
theorem kX12_init : g_mk mX12_init 4 := ⟨q1109, q148, ⟨by decide +kernel, by decide +kernel⟩, by decide +kernel, Nat.le_of_ble_eq_true rfl⟩
abbrev mX12_toString : g_M := (yX12_toString, cX12_toString, 1, (Option.some (Jvm.ClassFile.FieldType.object "java/lang/String")), [])
theorem kX12_toString : g_mk mX12_toString 0 := ⟨q2210, q148, ⟨by decide +kernel, by decide +kernel⟩, by decide +kernel, Nat.le_of_ble_eq_true rfl⟩
abbrev mJ23_isValidCodePoint : g_M := (yJ23_isValidCodePoint, cJ23_isValidCodePoint, 2, (Option.some Jvm.ClassFile.FieldType.boolean), [])
theorem kJ23_isValidCodePoint : g_mk mJ23_isValidCodePoint 1 := ⟨q1229, q149, ⟨by decide +kernel, by decide +kernel⟩, by decide +kernel, Nat.le_of_ble_eq_true rfl⟩
abbrev mJ23_highSurrogate : g_M := (yJ23_highSurrogate, cJ23_highSurrogate, 1, (Option.some Jvm.ClassFile.FieldType.char), [])
theorem kJ23_highSurrogate : g_mk mJ23_highSurrogate 1 := ⟨q1232, q149, ⟨by decide +kernel, by decide +kernel⟩, by decide +kernel, Nat.le_of_ble_eq_true rfl⟩
abbrev mJ23_lowSurrogate : g_M := (yJ23_lowSurrogate, cJ23_lowSurrogate, 1, (Option.some Jvm.ClassFile.FieldType.char), [])
theorem kJ23_lowSurrogate : g_mk mJ23_lowSurrogate 1 := ⟨q1236, q149, ⟨by decide +kernel, by decide +kernel⟩, by decide +kernel, Nat.le_of_ble_eq_true rfl⟩
abbrev mX13_init : g_M := (yX13_init, cX13_init, 6, (Option.none : Option Jvm.ClassFile.FieldType), [])
theorem kX13_init : g_mk mX13_init 2 := ⟨q1264, q150, ⟨by decide +kernel, by decide +kernel⟩, by decide +kernel, Nat.le_of_ble_eq_true rfl⟩
abbrev mX13_nearest : g_M := (yX13_nearest, cX13_nearest, 2, (Option.some (Jvm.ClassFile.FieldType.object "java/util/Optional")), [])
theorem kX13_nearest : g_mk mX13_nearest 1 := ⟨q1325, q150, ⟨by decide +kernel, by decide +kernel⟩, by decide +kernel, Nat.le_of_ble_eq_true rfl⟩
abbrev mX13_isNearer : g_M := (yX13_isNearer, cX13_isNearer, 5, (Option.some Jvm.ClassFile.FieldType.boolean), [])
theorem kX13_isNearer : g_mk mX13_isNearer 3 := ⟨q1338, q150, ⟨by decide +kernel, by decide +kernel⟩, by decide +kernel, Nat.le_of_ble_eq_true rfl⟩
abbrev mX13_nearestByLooking : g_M := (yX13_nearestByLooking, cX13_nearestByLooking, 5, (Option.some (Jvm.ClassFile.FieldType.object "java/util/Optional")), [])
theorem kX13_nearestByLooking : g_mk mX13_nearestByLooking 1 := ⟨q1658, q150, ⟨by decide +kernel, by decide +kernel⟩, by decide +kernel, Nat.le_of_ble_eq_true rfl⟩
abbrev mX14_init : g_M := (yX14_init, cX14_init, 4, (Option.none : Option Jvm.ClassFile.FieldType), [])
theorem kX14_init : g_mk mX14_init 3 := ⟨q1276, q151, ⟨by decide +kernel, by decide +kernel⟩, by decide +kernel, Nat.le_of_ble_eq_true rfl⟩
abbrev mX14_insert : g_M := (yX14_insert, cX14_insert, 3, (Option.none : Option Jvm.ClassFile.FieldType), [])
theorem kX14_insert : g_mk mX14_insert 1 := ⟨q1298, q151, ⟨by decide +kernel, by decide +kernel⟩, by decide +kernel, Nat.le_of_ble_eq_true rfl⟩
abbrev mX14_isLeft : g_M := (yX14_isLeft, cX14_isLeft, 2, (Option.some Jvm.ClassFile.FieldType.boolean), [])
theorem kX14_isLeft : g_mk mX14_isLeft 1 := ⟨q1302, q151, ⟨by decide +kernel, by decide +kernel⟩, by decide +kernel, Nat.le_of_ble_eq_true rfl⟩
abbrev mX14_nearer : g_M := (yX14_nearer, cX14_nearer, 6, (Option.some (Jvm.ClassFile.FieldType.object "ColourOffice$Found")), [])
theorem kX14_nearer : g_mk mX14_nearer 2 := ⟨q1334, q151, ⟨by decide +kernel, by decide +kernel⟩, by decide +kernel, Nat.le_of_ble_eq_true rfl⟩
abbrev mX14_bound : g_M := (yX14_bound, cX14_bound, 3, (Option.some Jvm.ClassFile.FieldType.int), [])
theorem kX14_bound : g_mk mX14_bound 1 := ⟨q1357, q151, ⟨by decide +kernel, by decide +kernel⟩, by decide +kernel, Nat.le_of_ble_eq_true rfl⟩
abbrev mJ24_empty : g_M := (yJ24_empty, cJ24_empty, 1, (Option.some (Jvm.ClassFile.FieldType.object "java/util/Optional")), [])
theorem kJ24_empty : g_mk mJ24_empty 0 := ⟨q1328, q152, ⟨by decide +kernel, by decide +kernel⟩, by decide +kernel, Nat.le_of_ble_eq_true rfl⟩
abbrev mJ24_of : g_M := (yJ24_of, cJ24_of, 1, (Option.some (Jvm.ClassFile.FieldType.object "java/util/Optional")), [])
theorem kJ24_of : g_mk mJ24_of 1 := ⟨q1364, q152, ⟨by decide +kernel, by decide +kernel⟩, by decide +kernel, Nat.le_of_ble_eq_true rfl⟩
abbrev mJ24_init : g_M := (yJ24_init, cJ24_init, 2, (Option.none : Option Jvm.ClassFile.FieldType), [])
theorem kJ24_init : g_mk mJ24_init 1 := ⟨q1372, q152, ⟨by decide +kernel, by decide +kernel⟩, by decide +kernel, Nat.le_of_ble_eq_true rfl⟩
abbrev mJ24_get : g_M := (yJ24_get, cJ24_get, 1, (Option.some (Jvm.ClassFile.FieldType.object "java/lang/Object")), [])
theorem kJ24_get : g_mk mJ24_get 0 := ⟨q1381, q152, ⟨by decide +kernel, by decide +kernel⟩, by decide +kernel, Nat.le_of_ble_eq_true rfl⟩
abbrev mJ24_isPresent : g_M := (yJ24_isPresent, cJ24_isPresent, 1, (Option.some Jvm.ClassFile.FieldType.boolean), [])
theorem kJ24_isPresent : g_mk mJ24_isPresent 0 := ⟨q1662, q152, ⟨by decide +kernel, by decide +kernel⟩, by decide +kernel, Nat.le_of_ble_eq_true rfl⟩
abbrev mX15_init : g_M := (yX15_init, cX15_init, 7, (Option.none : Option Jvm.ClassFile.FieldType), [])
theorem kX15_init : g_mk mX15_init 3 := ⟨q1421, q153, ⟨by decide +kernel, by decide +kernel⟩, by decide +kernel, Nat.le_of_ble_eq_true rfl⟩
abbrev mX15_colours : g_M := (yX15_colours, cX15_colours, 10, (Option.some (Jvm.ClassFile.FieldType.array Jvm.ClassFile.FieldType.int)), [])
theorem kX15_colours : g_mk mX15_colours 0 := ⟨q1447, q153, ⟨by decide +kernel, by decide +kernel⟩, by decide +kernel, Nat.le_of_ble_eq_true rfl⟩
abbrev mX15_best : g_M := (yX15_best, cX15_best, 1, (Option.some Jvm.ClassFile.FieldType.long), [])
theorem kX15_best : g_mk mX15_best 0 := ⟨q1451, q153, ⟨by decide +kernel, by decide +kernel⟩, by decide +kernel, Nat.le_of_ble_eq_true rfl⟩
abbrev mX15_worthsFrom : g_M := (yX15_worthsFrom, cX15_worthsFrom, 5, (Option.some (Jvm.ClassFile.FieldType.array Jvm.ClassFile.FieldType.long)), [])
theorem kX15_worthsFrom : g_mk mX15_worthsFrom 1 := ⟨q1455, q153, ⟨by decide +kernel, by decide +kernel⟩, by decide +kernel, Nat.le_of_ble_eq_true rfl⟩
abbrev mX15_bestWith : g_M := (yX15_bestWith, cX15_bestWith, 7, (Option.some Jvm.ClassFile.FieldType.long), [])
theorem kX15_bestWith : g_mk mX15_bestWith 3 := ⟨q1459, q153, ⟨by decide +kernel, by decide +kernel⟩, by decide +kernel, Nat.le_of_ble_eq_true rfl⟩
abbrev mX15_fits : g_M := (yX15_fits, cX15_fits, 3, (Option.some Jvm.ClassFile.FieldType.boolean), [])
theorem kX15_fits : g_mk mX15_fits 2 := ⟨q1463, q153, ⟨by decide +kernel, by decide +kernel⟩, by decide +kernel, Nat.le_of_ble_eq_true rfl⟩
abbrev mX15_worth : g_M := (yX15_worth, cX15_worth, 3, (Option.some Jvm.ClassFile.FieldType.long), [])
theorem kX15_worth : g_mk mX15_worth 2 := ⟨q1467, q153, ⟨by decide +kernel, by decide +kernel⟩, by decide +kernel, Nat.le_of_ble_eq_true rfl⟩
abbrev mX15_rewardOf : g_M := (yX15_rewardOf, cX15_rewardOf, 2, (Option.some Jvm.ClassFile.FieldType.int), [])
theorem kX15_rewardOf : g_mk mX15_rewardOf 1 := ⟨q1601, q153, ⟨by decide +kernel, by decide +kernel⟩, by decide +kernel, Nat.le_of_ble_eq_true rfl⟩
abbrev mX15_bestByTrying : g_M := (yX15_bestByTrying, cX15_bestByTrying, 6, (Option.some Jvm.ClassFile.FieldType.long), [])
theorem kX15_bestByTrying : g_mk mX15_bestByTrying 2 := ⟨q1609, q153, ⟨by decide +kernel, by decide +kernel⟩, by decide +kernel, Nat.le_of_ble_eq_true rfl⟩
abbrev mX15_differenceOf : g_M := (yX15_differenceOf, cX15_differenceOf, 2, (Option.some Jvm.ClassFile.FieldType.int), [])
theorem kX15_differenceOf : g_mk mX15_differenceOf 1 := ⟨q1617, q153, ⟨by decide +kernel, by decide +kernel⟩, by decide +kernel, Nat.le_of_ble_eq_true rfl⟩
abbrev mJ25_init : g_M := (yJ25_init, cJ25_init, 1, (Option.none : Option Jvm.ClassFile.FieldType), [])
theorem kJ25_init : g_mk mJ25_init 0 := ⟨q1560, q154, ⟨by decide +kernel, by decide +kernel⟩, by decide +kernel, Nat.le_of_ble_eq_true rfl⟩
abbrev mJ26_init : g_M := (yJ26_init, cJ26_init, 1, (Option.none : Option Jvm.ClassFile.FieldType), [])
theorem kJ26_init : g_mk mJ26_init 0 := ⟨q1578, q155, ⟨by decide +kernel, by decide +kernel⟩, by decide +kernel, Nat.le_of_ble_eq_true rfl⟩
abbrev mX16_init : g_M := (yX16_init, cX16_init, 2, (Option.none : Option Jvm.ClassFile.FieldType), [])
theorem kX16_init : g_mk mX16_init 1 := ⟨q1738, q156, ⟨by decide +kernel, by decide +kernel⟩, by decide +kernel, Nat.le_of_ble_eq_true rfl⟩
abbrev mX16_insert : g_M := (yX16_insert, cX16_insert, 3, (Option.none : Option Jvm.ClassFile.FieldType), [])
theorem kX16_insert : g_mk mX16_insert 1 := ⟨q1753, q156, ⟨by decide +kernel, by decide +kernel⟩, by decide +kernel, Nat.le_of_ble_eq_true rfl⟩
abbrev mX17_init : g_M := (yX17_init, cX17_init, 4, (Option.none : Option Jvm.ClassFile.FieldType), [])
theorem kX17_init : g_mk mX17_init 2 := ⟨q1673, q157, ⟨by decide +kernel, by decide +kernel⟩, by decide +kernel, Nat.le_of_ble_eq_true rfl⟩
abbrev mX17_best : g_M := (yX17_best, cX17_best, 7, (Option.some Jvm.ClassFile.FieldType.int), [])
theorem kX17_best : g_mk mX17_best 1 := ⟨q1691, q157, ⟨by decide +kernel, by decide +kernel⟩, by decide +kernel, Nat.le_of_ble_eq_true rfl⟩
abbrev mX17_error : g_M := (yX17_error, cX17_error, 4, (Option.some Jvm.ClassFile.FieldType.int), [])
theorem kX17_error : g_mk mX17_error 1 := ⟨q1698, q157, ⟨by decide +kernel, by decide +kernel⟩, by decide +kernel, Nat.le_of_ble_eq_true rfl⟩
abbrev mX17_distanceTo : g_M := (yX17_distanceTo, cX17_distanceTo, 5, (Option.some Jvm.ClassFile.FieldType.int), [])
theorem kX17_distanceTo : g_mk mX17_distanceTo 2 := ⟨q1702, q157, ⟨by decide +kernel, by decide +kernel⟩, by decide +kernel, Nat.le_of_ble_eq_true rfl⟩
abbrev mX17_hasLowest : g_M := (yX17_hasLowest, cX17_hasLowest, 3, (Option.some Jvm.ClassFile.FieldType.boolean), [])
theorem kX17_hasLowest : g_mk mX17_hasLowest 2 := ⟨q1706, q157, ⟨by decide +kernel, by decide +kernel⟩, by decide +kernel, Nat.le_of_ble_eq_true rfl⟩
abbrev mX17_leastError : g_M := (yX17_leastError, cX17_leastError, 2, (Option.some Jvm.ClassFile.FieldType.int), [])
theorem kX17_leastError : g_mk mX17_leastError 1 := ⟨q1711, q157, ⟨by decide +kernel, by decide +kernel⟩, by decide +kernel, Nat.le_of_ble_eq_true rfl⟩
abbrev mX17_search : g_M := (yX17_search, cX17_search, 4, (Option.none : Option Jvm.ClassFile.FieldType), [])
theorem kX17_search : g_mk mX17_search 3 := ⟨q1715, q157, ⟨by decide +kernel, by decide +kernel⟩, by decide +kernel, Nat.le_of_ble_eq_true rfl⟩
abbrev mX17_bound : g_M := (yX17_bound, cX17_bound, 4, (Option.some Jvm.ClassFile.FieldType.int), [])
theorem kX17_bound : g_mk mX17_bound 2 := ⟨q1719, q157, ⟨by decide +kernel, by decide +kernel⟩, by decide +kernel, Nat.le_of_ble_eq_true rfl⟩
abbrev mJ27_init : g_M := (yJ27_init, cJ27_init, 2, (Option.none : Option Jvm.ClassFile.FieldType), [])
theorem kJ27_init : g_mk mJ27_init 1 := ⟨q2128, q158, ⟨by decide +kernel, by decide +kernel⟩, by decide +kernel, Nat.le_of_ble_eq_true rfl⟩
abbrev mJ27_init_2 : g_M := (yJ27_init_2, cJ27_init_2, 1, (Option.none : Option Jvm.ClassFile.FieldType), [])
theorem kJ27_init_2 : g_mk mJ27_init_2 0 := ⟨q2150, q158, ⟨by decide +kernel, by decide +kernel⟩, by decide +kernel, Nat.le_of_ble_eq_true rfl⟩
abbrev mJ28_init : g_M := (yJ28_init, cJ28_init, 2, (Option.none : Option Jvm.ClassFile.FieldType), [])
theorem kJ28_init : g_mk mJ28_init 1 := ⟨q2226, q159, ⟨by decide +kernel, by decide +kernel⟩, by decide +kernel, Nat.le_of_ble_eq_true rfl⟩
abbrev mJ28_init_2 : g_M := (yJ28_init_2, cJ28_init_2, 2, (Option.none : Option Jvm.ClassFile.FieldType), [])
theorem kJ28_init_2 : g_mk mJ28_init_2 1 := ⟨q2581, q159, ⟨by decide +kernel, by decide +kernel⟩, by decide +kernel, Nat.le_of_ble_eq_true rfl⟩
abbrev mX18_init : g_M := (yX18_init, cX18_init, 2, (Option.none : Option Jvm.ClassFile.FieldType), [])
theorem kX18_init : g_mk mX18_init 1 := ⟨q2309, q160, ⟨by decide +kernel, by decide +kernel⟩, by decide +kernel, Nat.le_of_ble_eq_true rfl⟩
abbrev mX18_commands : g_M := (yX18_commands, cX18_commands, 2, (Option.some (Jvm.ClassFile.FieldType.object "java/util/List")), [])
theorem kX18_commands : g_mk mX18_commands 0 := ⟨q2321, q160, ⟨by decide +kernel, by decide +kernel⟩, by decide +kernel, Nat.le_of_ble_eq_true rfl⟩
abbrev mX18_command : g_M := (yX18_command, cX18_command, 8, (Option.some (Jvm.ClassFile.FieldType.object "ColourOffice$Command")), [])
theorem kX18_command : g_mk mX18_command 0 := ⟨q2327, q160, ⟨by decide +kernel, by decide +kernel⟩, by decide +kernel, Nat.le_of_ble_eq_true rfl⟩
abbrev mX18_word : g_M := (yX18_word, cX18_word, 2, (Option.some (Jvm.ClassFile.FieldType.object "java/lang/String")), [])
theorem kX18_word : g_mk mX18_word 0 := ⟨q2331, q160, ⟨by decide +kernel, by decide +kernel⟩, by decide +kernel, Nat.le_of_ble_eq_true rfl⟩
abbrev mX18_current : g_M := (yX18_current, cX18_current, 1, (Option.some Jvm.ClassFile.FieldType.char), [])
theorem kX18_current : g_mk mX18_current 0 := ⟨q2337, q160, ⟨by decide +kernel, by decide +kernel⟩, by decide +kernel, Nat.le_of_ble_eq_true rfl⟩
abbrev mX18_require : g_M := (yX18_require, cX18_require, 2, (Option.none : Option Jvm.ClassFile.FieldType), [])
theorem kX18_require : g_mk mX18_require 1 := ⟨q2468, q160, ⟨by decide +kernel, by decide +kernel⟩, by decide +kernel, Nat.le_of_ble_eq_true rfl⟩
abbrev mX18_colour : g_M := (yX18_colour, cX18_colour, 2, (Option.some (Jvm.ClassFile.FieldType.array Jvm.ClassFile.FieldType.int)), [])
theorem kX18_colour : g_mk mX18_colour 0 := ⟨q2500, q160, ⟨by decide +kernel, by decide +kernel⟩, by decide +kernel, Nat.le_of_ble_eq_true rfl⟩
abbrev mX18_numberAfter : g_M := (yX18_numberAfter, cX18_numberAfter, 4, (Option.some Jvm.ClassFile.FieldType.int), [])
theorem kX18_numberAfter : g_mk mX18_numberAfter 1 := ⟨q2504, q160, ⟨by decide +kernel, by decide +kernel⟩, by decide +kernel, Nat.le_of_ble_eq_true rfl⟩
abbrev mX18_isAtDigit : g_M := (yX18_isAtDigit, cX18_isAtDigit, 1, (Option.some Jvm.ClassFile.FieldType.boolean), [])
theorem kX18_isAtDigit : g_mk mX18_isAtDigit 0 := ⟨q2508, q160, ⟨by decide +kernel, by decide +kernel⟩, by decide +kernel, Nat.le_of_ble_eq_true rfl⟩
abbrev mX18_metricName : g_M := (yX18_metricName, cX18_metricName, 1, (Option.some Jvm.ClassFile.FieldType.int), [])
theorem kX18_metricName : g_mk mX18_metricName 0 := ⟨q2514, q160, ⟨by decide +kernel, by decide +kernel⟩, by decide +kernel, Nat.le_of_ble_eq_true rfl⟩
abbrev mX19_init : g_M := (yX19_init, cX19_init, 2, (Option.none : Option Jvm.ClassFile.FieldType), [])
theorem kX19_init : g_mk mX19_init 1 := ⟨q2480, q161, ⟨by decide +kernel, by decide +kernel⟩, by decide +kernel, Nat.le_of_ble_eq_true rfl⟩
abbrev mX19_position : g_M := (yX19_position, cX19_position, 1, (Option.some Jvm.ClassFile.FieldType.int), [])
theorem kX19_position : g_mk mX19_position 0 := ⟨q2599, q161, ⟨by decide +kernel, by decide +kernel⟩, by decide +kernel, Nat.le_of_ble_eq_true rfl⟩
abbrev mX19_asPublicException : g_M := (yX19_asPublicException, cX19_asPublicException, 1, (Option.some (Jvm.ClassFile.FieldType.object "java/lang/RuntimeException")), [])
theorem kX19_asPublicException : g_mk mX19_asPublicException 0 := ⟨q2630, q161, ⟨by decide +kernel, by decide +kernel⟩, by decide +kernel, Nat.le_of_ble_eq_true rfl⟩
abbrev mX20_init : g_M := (yX20_init, cX20_init, 3, (Option.none : Option Jvm.ClassFile.FieldType), [])
theorem kX20_init : g_mk mX20_init 2 := ⟨q2533, q162, ⟨by decide +kernel, by decide +kernel⟩, by decide +kernel, Nat.le_of_ble_eq_true rfl⟩
abbrev mX20_index : g_M := (yX20_index, cX20_index, 1, (Option.some Jvm.ClassFile.FieldType.int), [])
theorem kX20_index : g_mk mX20_index 0 := ⟨q2603, q162, ⟨by decide +kernel, by decide +kernel⟩, by decide +kernel, Nat.le_of_ble_eq_true rfl⟩
abbrev mX20_kind : g_M := (yX20_kind, cX20_kind, 3, (Option.some Jvm.ClassFile.FieldType.char), [])
theorem kX20_kind : g_mk mX20_kind 0 := ⟨q2607, q162, ⟨by decide +kernel, by decide +kernel⟩, by decide +kernel, Nat.le_of_ble_eq_true rfl⟩
abbrev mX20_asPublicException : g_M := (yX20_asPublicException, cX20_asPublicException, 1, (Option.some (Jvm.ClassFile.FieldType.object "java/lang/RuntimeException")), [])
theorem kX20_asPublicException : g_mk mX20_asPublicException 0 := ⟨q2624, q162, ⟨by decide +kernel, by decide +kernel⟩, by decide +kernel, Nat.le_of_ble_eq_true rfl⟩
abbrev mJ29_init : g_M := (yJ29_init, cJ29_init, 2, (Option.none : Option Jvm.ClassFile.FieldType), [])
theorem kJ29_init : g_mk mJ29_init 1 := ⟨q2551, q163, ⟨by decide +kernel, by decide +kernel⟩, by decide +kernel, Nat.le_of_ble_eq_true rfl⟩
abbrev mJ30_init : g_M := (yJ30_init, cJ30_init, 1, (Option.none : Option Jvm.ClassFile.FieldType), [])
theorem kJ30_init : g_mk mJ30_init 0 := ⟨q171, q3305, ⟨by decide +kernel, by decide +kernel⟩, by decide +kernel, Nat.le_of_ble_eq_true rfl⟩
abbrev mJ31_getUTF16Char : g_M := (yJ31_getUTF16Char, cJ31_getUTF16Char, 3, (Option.some Jvm.ClassFile.FieldType.char), [])
