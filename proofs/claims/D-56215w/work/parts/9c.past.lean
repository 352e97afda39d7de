/-! MODULE Past, failures -/
set_option maxRecDepth 100000
abbrev cX4_add : ByteArray := prog_12_method_2_code
def dkwX4_add_0 : List UInt8 := [42, 180, 0, 12, 182, 0, 18, 16, 8, 160, 0, 11, 42, 180, 0, 12, 182, 0, 22, 87, 42, 180, 0, 12, 43, 182, 0, 26, 177]
abbrev dktX4_add_0 : List UInt8 := dkwX4_add_0 ++ []
theorem dksX4_add_0 : cX4_add.data.toList.drop 0 = dktX4_add_0 := by decide +kernel
theorem dX4_add_0 : decode cX4_add 0 = .ok (.aload_n 0, 1) := dk_42 (dk_at dksX4_add_0 0 rfl rfl)
theorem dX4_add_1 : decode cX4_add 1 = .ok (.getfield 12, 3) := dk_180 0 12 (dk_at dksX4_add_0 1 rfl rfl)
theorem dX4_add_4 : decode cX4_add 4 = .ok (.invokevirtual 18, 3) := dk_182 0 18 (dk_at dksX4_add_0 4 rfl rfl)
theorem dX4_add_7 : decode cX4_add 7 = .ok (.bipush 8, 2) := dk_16 8 (dk_at dksX4_add_0 7 rfl rfl)
theorem dX4_add_9 : decode cX4_add 9 = .ok (.if_icmp .ne 11, 3) := dk_160 0 11 (dk_at dksX4_add_0 9 rfl rfl)
theorem dX4_add_12 : decode cX4_add 12 = .ok (.aload_n 0, 1) := dk_42 (dk_at dksX4_add_0 12 rfl rfl)
theorem dX4_add_13 : decode cX4_add 13 = .ok (.getfield 12, 3) := dk_180 0 12 (dk_at dksX4_add_0 13 rfl rfl)
theorem dX4_add_16 : decode cX4_add 16 = .ok (.invokevirtual 22, 3) := dk_182 0 22 (dk_at dksX4_add_0 16 rfl rfl)
theorem dX4_add_19 : decode cX4_add 19 = .ok (.pop, 1) := dk_87 (dk_at dksX4_add_0 19 rfl rfl)
theorem dX4_add_20 : decode cX4_add 20 = .ok (.aload_n 0, 1) := dk_42 (dk_at dksX4_add_0 20 rfl rfl)
theorem dX4_add_21 : decode cX4_add 21 = .ok (.getfield 12, 3) := dk_180 0 12 (dk_at dksX4_add_0 21 rfl rfl)
theorem dX4_add_24 : decode cX4_add 24 = .ok (.aload_n 1, 1) := dk_43 (dk_at dksX4_add_0 24 rfl rfl)
theorem dX4_add_25 : decode cX4_add 25 = .ok (.invokevirtual 26, 3) := dk_182 0 26 (dk_at dksX4_add_0 25 rfl rfl)
theorem dX4_add_28 : decode cX4_add 28 = .ok (.return_, 1) := dk_177 (dk_at dksX4_add_0 28 rfl rfl)
abbrev cX4_takeLatest : ByteArray := prog_12_method_3_code
def dkwX4_takeLatest_0 : List UInt8 := [42, 180, 0, 12, 182, 0, 30, 192, 0, 33, 176]
abbrev dktX4_takeLatest_0 : List UInt8 := dkwX4_takeLatest_0 ++ []
theorem dksX4_takeLatest_0 : cX4_takeLatest.data.toList.drop 0 = dktX4_takeLatest_0 := by decide +kernel
theorem dX4_takeLatest_0 : decode cX4_takeLatest 0 = .ok (.aload_n 0, 1) := dk_42 (dk_at dksX4_takeLatest_0 0 rfl rfl)
theorem dX4_takeLatest_1 : decode cX4_takeLatest 1 = .ok (.getfield 12, 3) := dk_180 0 12 (dk_at dksX4_takeLatest_0 1 rfl rfl)
theorem dX4_takeLatest_4 : decode cX4_takeLatest 4 = .ok (.invokevirtual 30, 3) := dk_182 0 30 (dk_at dksX4_takeLatest_0 4 rfl rfl)
theorem dX4_takeLatest_7 : decode cX4_takeLatest 7 = .ok (.checkcast 33, 3) := dk_192 0 33 (dk_at dksX4_takeLatest_0 7 rfl rfl)
theorem dX4_takeLatest_10 : decode cX4_takeLatest 10 = .ok (.areturn, 1) := dk_176 (dk_at dksX4_takeLatest_0 10 rfl rfl)
abbrev cX4_count : ByteArray := prog_12_method_4_code
def dkwX4_count_0 : List UInt8 := [42, 180, 0, 12, 182, 0, 18, 172]
abbrev dktX4_count_0 : List UInt8 := dkwX4_count_0 ++ []
theorem dksX4_count_0 : cX4_count.data.toList.drop 0 = dktX4_count_0 := by decide +kernel
theorem dX4_count_0 : decode cX4_count 0 = .ok (.aload_n 0, 1) := dk_42 (dk_at dksX4_count_0 0 rfl rfl)
theorem dX4_count_1 : decode cX4_count 1 = .ok (.getfield 12, 3) := dk_180 0 12 (dk_at dksX4_count_0 1 rfl rfl)
theorem dX4_count_4 : decode cX4_count 4 = .ok (.invokevirtual 18, 3) := dk_182 0 18 (dk_at dksX4_count_0 4 rfl rfl)
theorem dX4_count_7 : decode cX4_count 7 = .ok (.ireturn, 1) := dk_172 (dk_at dksX4_count_0 7 rfl rfl)
abbrev cX4_forget : ByteArray := prog_12_method_5_code
def dkwX4_forget_0 : List UInt8 := [42, 180, 0, 12, 182, 0, 35, 177]
abbrev dktX4_forget_0 : List UInt8 := dkwX4_forget_0 ++ []
theorem dksX4_forget_0 : cX4_forget.data.toList.drop 0 = dktX4_forget_0 := by decide +kernel
theorem dX4_forget_0 : decode cX4_forget 0 = .ok (.aload_n 0, 1) := dk_42 (dk_at dksX4_forget_0 0 rfl rfl)
theorem dX4_forget_1 : decode cX4_forget 1 = .ok (.getfield 12, 3) := dk_180 0 12 (dk_at dksX4_forget_0 1 rfl rfl)
theorem dX4_forget_4 : decode cX4_forget 4 = .ok (.invokevirtual 35, 3) := dk_182 0 35 (dk_at dksX4_forget_0 4 rfl rfl)
theorem dX4_forget_7 : decode cX4_forget 7 = .ok (.return_, 1) := dk_177 (dk_at dksX4_forget_0 7 rfl rfl)
abbrev cJ9_getCause : ByteArray := prog_49_method_8_code
def dkwJ9_getCause_0 : List UInt8 := [42, 180, 0, 7, 42, 166, 0, 7, 1, 167, 0, 7, 42, 180, 0, 7, 176]
abbrev dktJ9_getCause_0 : List UInt8 := dkwJ9_getCause_0 ++ []
theorem dksJ9_getCause_0 : cJ9_getCause.data.toList.drop 0 = dktJ9_getCause_0 := by decide +kernel
theorem dJ9_getCause_0 : decode cJ9_getCause 0 = .ok (.aload_n 0, 1) := dk_42 (dk_at dksJ9_getCause_0 0 rfl rfl)
theorem dJ9_getCause_1 : decode cJ9_getCause 1 = .ok (.getfield 7, 3) := dk_180 0 7 (dk_at dksJ9_getCause_0 1 rfl rfl)
theorem dJ9_getCause_4 : decode cJ9_getCause 4 = .ok (.aload_n 0, 1) := dk_42 (dk_at dksJ9_getCause_0 4 rfl rfl)
theorem dJ9_getCause_5 : decode cJ9_getCause 5 = .ok (.if_acmp .ne 7, 3) := dk_166 0 7 (dk_at dksJ9_getCause_0 5 rfl rfl)
theorem dJ9_getCause_12 : decode cJ9_getCause 12 = .ok (.aload_n 0, 1) := dk_42 (dk_at dksJ9_getCause_0 12 rfl rfl)
theorem dJ9_getCause_13 : decode cJ9_getCause 13 = .ok (.getfield 7, 3) := dk_180 0 7 (dk_at dksJ9_getCause_0 13 rfl rfl)
theorem dJ9_getCause_16 : decode cJ9_getCause 16 = .ok (.areturn, 1) := dk_176 (dk_at dksJ9_getCause_0 16 rfl rfl)
def yX4_add : MethodName := ⟨RX4, "add", "(LColourOffice$Office;)V"⟩
abbrev mX4_add : g_M := (yX4_add, cX4_add, 2, (Option.none : Option Jvm.ClassFile.FieldType), [(0, 0, 0, 0)])
theorem kX4_add : g_mk mX4_add 1 := ⟨q1524, q117, ⟨by decide +kernel, by decide +kernel⟩, by decide +kernel, Nat.le_of_ble_eq_true rfl⟩
def yX4_takeLatest : MethodName := ⟨RX4, "takeLatest", "()LColourOffice$Office;"⟩
abbrev mX4_takeLatest : g_M := (yX4_takeLatest, cX4_takeLatest, 1, (Option.some (Jvm.ClassFile.FieldType.object "ColourOffice$Office")), [(0, 0, 0, 0)])
theorem kX4_takeLatest : g_mk mX4_takeLatest 0 := ⟨q2668, q117, ⟨by decide +kernel, by decide +kernel⟩, by decide +kernel, Nat.le_of_ble_eq_true rfl⟩
def yX4_count : MethodName := ⟨RX4, "count", "()I"⟩
abbrev mX4_count : g_M := (yX4_count, cX4_count, 1, (Option.some Jvm.ClassFile.FieldType.int), [(0, 0, 0, 0)])
theorem kX4_count : g_mk mX4_count 0 := ⟨q2664, q117, ⟨by decide +kernel, by decide +kernel⟩, by decide +kernel, Nat.le_of_ble_eq_true rfl⟩
def yX4_forget : MethodName := ⟨RX4, "forget", "()V"⟩
abbrev mX4_forget : g_M := (yX4_forget, cX4_forget, 1, (Option.none : Option Jvm.ClassFile.FieldType), [(0, 0, 0, 0)])
theorem kX4_forget : g_mk mX4_forget 0 := ⟨q2688, q117, ⟨by decide +kernel, by decide +kernel⟩, by decide +kernel, Nat.le_of_ble_eq_true rfl⟩
def yJ9_getCause : MethodName := ⟨RJ9, "getCause", "()Ljava/lang/Throwable;"⟩
abbrev mJ9_getCause : g_M := (yJ9_getCause, cJ9_getCause, 1, (Option.some (Jvm.ClassFile.FieldType.object "java/lang/Throwable")), [(0, 0, 0, 0)])
theorem kJ9_getCause : g_mk mJ9_getCause 0 := ⟨q2613, q126, ⟨by decide +kernel, by decide +kernel⟩, by decide +kernel, Nat.le_of_ble_eq_true rfl⟩
section PAST
variable {l : Launch} {E : g_E} {P : Outcome → g_G → Prop} {G : g_G}
/-- the offices before the latest changes -/
def PsAt (n : Nat) (G : g_G) (ps : Nat) (as : List Nat) : Prop := n ≤ ps ∧ ∃ ll, G.1 ps = some (g_ob 3 [.ref ll]) ∧ LlAt n G ll as
theorem PsAt.ke2 {n ps : Nat} {as : List Nat} {B : Nat → Prop} {G' : g_G} (h : PsAt n G ps as) (hk : g_ke B G G') (hp : B ps) (hb : ∀ q vs, (G.1 q = some (g_ob 20 vs) ∨ G.1 q = some (g_ob 23 vs)) → B q) : PsAt n G' ps as := by
  obtain ⟨h1, ll, h2, h3⟩ := h
  exact ⟨h1, ll, hk _ _ hp h2, h3.ke2 hk hb⟩
theorem PsAt.keep {n ps : Nat} {as : List Nat} {G' : g_G} (h : PsAt n G ps as) (hk : g_ke g_all G G') : PsAt n G' ps as := h.ke2 hk trivial fun _ _ _ => trivial
theorem ps_up {n ps ll : Nat} {as : List Nat} {x : va_E} (h : G.1 ps = some (g_ob 3 [.ref ll])) (hl : LlAt n G ll as) : LlAt n (g_up G ps x) ll as := hl.ke2 (g_ke.up (A := fun q => q ≠ ps) (fun q => q rfl) _) fun q vs hv e => by
  subst e
  rcases hv with hv | hv
  · rw [h] at hv; cases hv
  · rw [h] at hv; cases hv
/-- what a change of the list's cells leaves, seen from before the monitor was entered -/
theorem ps_mod {ps ll c s : Nat} {fs : List Value} {G1 : g_G} (h : G.1 ps = some (g_ob 3 [.ref ll])) (m : g_mod (noLL (g_up G ps (g_ob 31 [.ref ll]))) (g_up G ps (g_ob 31 [.ref ll])) G1 c s) : g_mod (noLL G) G (g_up G1 ps (g_ob 3 [.ref ll])) c s ∧ G1.1 ps = some (g_ob 31 [.ref ll]) := by
  obtain ⟨m1, m2, m3, m4, m5⟩ := m
  have hn : noLL (g_up G ps (g_ob 31 [.ref ll])) ps := fun vs => by
    rw [g_up_self]
    exact ⟨(fun e => by cases e), (fun e => by cases e)⟩
  refine ⟨⟨fun q x hq hx => ?_, m2, m3, m4, m5⟩, m1 _ _ hn g_up_at⟩
  by_cases e : q = ps
  · subst e
    rw [h] at hx
    cases hx
    exact g_up_at
  · exact g_up_of e (m1 q x (fun vs => by rw [g_up_ne _ _ e]; exact hq vs) (g_up_of e hx))
theorem ps_add {n ps b : Nat} {as : List Nat} (h : PsAt n G ps as) (hB : g_B E ≤ n) (hn : n ≤ G.2.1) (h8 : as.length ≤ 8) (hf : g_fit E G 1 3) (kk : ∀ G', g_mod (noLL G) G G' 1 3 → PsAt n G' ps ((if as.length = 8 then as.drop 1 else as) ++ [b]) → P (.returned none) G') : g_Spc l E mX4_add 4 [.ref ps, .ref b] G P := by
  obtain ⟨h1, ll, h2, h3⟩ := h
  have hBp : g_B E ≤ ps := Nat.le_trans hB h1
  refine VS_intro rfl (plainFor_of_name plX4) h2 hBp q1522 (Nat.le_of_ble_eq_true rfl) ?_
  have h3' := ps_up (x := g_ob 31 [.ref ll]) h2 h3
  obtain ⟨mc, x, y, hc⟩ := h3'.cell
  refine VS_aload_n dX4_add_0 rfl ?_
  refine VS_get ckX4 (cj := 31) g_up_at rfl 0 (by decide) q286 rfl rfl dX4_add_1 ?_
  refine VS_callV (q := (RJ4, TJ4, 4)) kJ4_size q1525 q538 q3301 hc rfl dX4_add_4 (d' := 0) (as := []) (hst := rfl) ?_
  refine ll_size h3' ⟨_, rfl, ?_⟩
  refine VS_bipush (v := 8) dX4_add_7 (by decide) ?_
  have last : ∀ (G1 : g_G) (as1 : List Nat), g_mod (noLL (g_up G ps (g_ob 31 [.ref ll]))) (g_up G ps (g_ob 31 [.ref ll])) G1 0 0 → LlAt n G1 ll as1 → as1 = (if as.length = 8 then as.drop 1 else as) → VS l E mX4_add 4 P ps 20 (lv_args 0 [.ref ps, .ref b]) [] G1 := by
    intro G1 as1 m hl1 e1
    obtain ⟨m0, hp1⟩ := ps_mod (fs := []) h2 m
    obtain ⟨mc1, x1, y1, hc1⟩ := hl1.cell
    have m' := m
    obtain ⟨a1, a2, a3, a4, a5⟩ := m'
    obtain ⟨hf1, hf2⟩ := hf
    simp only [g_up] at a2 a3 a4 a5
    refine VS_aload_n dX4_add_20 rfl ?_
    refine VS_get ckX4 (cj := 31) hp1 rfl 0 (by decide) q286 rfl rfl dX4_add_21 ?_
    refine VS_aload_n dX4_add_24 rfl ?_
    refine VS_callV (q := (RJ4, TJ4, 4)) kJ4_addLast q1536 q1537 q1538 hc1 rfl dX4_add_25 (d' := 3) (as := [_]) (hst := rfl) ?_
    refine ll_addLast hl1 hB (by omega) ⟨by omega, by omega⟩ (fun G2 m2 hl2 => ⟨_, rfl, ?_⟩)
    have hno : ∀ q, noLL (g_up G ps (g_ob 31 [.ref ll])) q → (g_up G ps (g_ob 31 [.ref ll])).1 q ≠ none → noLL G1 q := fun q hq hx vs => by
      obtain ⟨y, hy⟩ := Option.ne_none_iff_exists'.mp hx
      have := a1 q y hq hy
      rw [this]
      rw [← hy]
      exact hq vs
    have mm : g_mod (noLL (g_up G ps (g_ob 31 [.ref ll]))) (g_up G ps (g_ob 31 [.ref ll])) G2 1 3 := by
      obtain ⟨c1, c2, c3, c4, c5⟩ := m2
      refine ⟨fun q x hq hx => c1 q x (hno q hq (by rw [hx]; exact fun e => by cases e)) (a1 q x hq hx), ?_, ?_, ?_, ?_⟩
      · simp only [g_up]; omega
      · simp only [g_up]; omega
      · simp only [g_up]; omega
      · simp only [g_up]; omega
    obtain ⟨mf, hp2⟩ := ps_mod (fs := []) h2 mm
    refine VS_return hp2 hBp dX4_add_28 rfl ?_
    refine kk _ mf ⟨h1, ll, g_up_at, ?_⟩
    rw [← e1]
    exact hl2.ke2 (g_ke.up (A := fun q => q ≠ ps) (fun q => q rfl) _) fun q vs hv e => by
      subst e
      rcases hv with hv | hv
      · rw [hp2] at hv; cases hv
      · rw [hp2] at hv; cases hv
  refine VS_icmp_ne 20 dX4_add_9 (by decide) (fun c9 => ?_) (fun c9 => ?_)
  · have hne : as.length ≠ 8 := fun e => c9 (by rw [e]; rfl)
    exact last _ as ⟨g_ke.refl, Nat.le_refl _, Nat.le_refl _, Nat.le_refl _, Nat.le_refl _⟩ h3' (by rw [if_neg hne])
  · have he : as.length = 8 := (nI_eq (b := 8) (by omega) (by decide)).mp c9
    cases as with
    | nil => cases he
    | cons a0 t =>
      refine VS_aload_n dX4_add_12 rfl ?_
      refine VS_get ckX4 (cj := 31) g_up_at rfl 0 (by decide) q286 rfl rfl dX4_add_13 ?_
      refine VS_callV (q := (RJ4, TJ4, 4)) kJ4_removeFirst q1526 q1527 q1528 hc rfl dX4_add_16 (d' := 1) (as := []) (hst := rfl) ?_
      refine ll_removeFirst h3' hB (fun G1 m hl1 => ⟨_, rfl, ?_⟩)
      refine VS_pop dX4_add_19 rfl ?_
      exact last G1 t m hl1 (by rw [if_pos he]; rfl)
theorem ps_count {n ps : Nat} {as : List Nat} (h : PsAt n G ps as) (hB : g_B E ≤ n) (k : P (.returned (some (.int (nI as.length)))) G) : g_Spc l E mX4_count 1 [.ref ps] G P := by
  obtain ⟨h1, ll, h2, h3⟩ := h
  have hBp : g_B E ≤ ps := Nat.le_trans hB h1
  refine VS_intro rfl (plainFor_of_name plX4) h2 hBp q2662 (Nat.le_of_ble_eq_true rfl) ?_
  have h3' := ps_up (x := g_ob 31 [.ref ll]) h2 h3
  obtain ⟨mc, x, y, hc⟩ := h3'.cell
  refine VS_aload_n dX4_count_0 rfl ?_
  refine VS_get ckX4 (cj := 31) g_up_at rfl 0 (by decide) q286 rfl rfl dX4_count_1 ?_
  refine VS_callV (q := (RJ4, TJ4, 4)) kJ4_size q1525 q538 q3301 hc rfl dX4_count_4 (d' := 0) (as := []) (hst := rfl) ?_
  refine ll_size h3' ⟨_, rfl, ?_⟩
  refine VS_ireturn g_up_at hBp dX4_count_7 rfl ?_
  rw [g_up_up, g_up_same h2]
  exact k
theorem ps_takeLatest {n ps b : Nat} {as : List Nat} {vs : List Value} (h : PsAt n G ps (as ++ [b])) (hB : g_B E ≤ n) (hb : G.1 b = some (g_ob 1 vs)) (kk : ∀ G', g_mod (noLL G) G G' 0 0 → PsAt n G' ps as → P (.returned (some (.ref b))) G') : g_Spc l E mX4_takeLatest 2 [.ref ps] G P := by
  obtain ⟨h1, ll, h2, h3⟩ := h
  have hBp : g_B E ≤ ps := Nat.le_trans hB h1
  have hbp : b ≠ ps := g_apart hb h2 (by intro e; cases e)
  refine VS_intro rfl (plainFor_of_name plX4) h2 hBp q2666 (Nat.le_of_ble_eq_true rfl) ?_
  have h3' := ps_up (x := g_ob 31 [.ref ll]) h2 h3
  obtain ⟨mc, x, y, hc⟩ := h3'.cell
  refine VS_aload_n dX4_takeLatest_0 rfl ?_
  refine VS_get ckX4 (cj := 31) g_up_at rfl 0 (by decide) q286 rfl rfl dX4_takeLatest_1 ?_
  refine VS_callV (q := (RJ4, TJ4, 4)) kJ4_removeLast q2669 q2670 q2671 hc rfl dX4_takeLatest_4 (d' := 1) (as := []) (hst := rfl) ?_
  refine ll_removeLast h3' hB (fun G1 m hl1 => ⟨_, rfl, ?_⟩)
  obtain ⟨m0, hp1⟩ := ps_mod (fs := []) h2 m
  have hb1 : G1.1 b = some (g_ob 1 vs) := m.1 b _ (fun ws => by
    rw [g_up_ne _ _ hbp, hb]
    exact ⟨(fun e => by cases e), (fun e => by cases e)⟩) (g_up_of hbp hb)
  refine VS_castS (q := (RX2, TX2, 10)) hb1 rfl q2677 dX4_takeLatest_7 ?_
  refine VS_areturn hp1 hBp dX4_takeLatest_10 rfl ?_
  refine kk _ m0 ⟨h1, ll, g_up_at, ?_⟩
  exact hl1.ke2 (g_ke.up (A := fun q => q ≠ ps) (fun q => q rfl) _) fun q vs hv e => by
    subst e
    rcases hv with hv | hv
    · rw [hp1] at hv; cases hv
    · rw [hp1] at hv; cases hv
theorem ps_forget {n ps : Nat} {as : List Nat} (h : PsAt n G ps as) (hB : g_B E ≤ n) (kk : ∀ G', g_mod (noLL G) G G' 0 0 → PsAt n G' ps [] → P (.returned none) G') : g_Spc l E mX4_forget 1 [.ref ps] G P := by
  obtain ⟨h1, ll, h2, h3⟩ := h
  have hBp : g_B E ≤ ps := Nat.le_trans hB h1
  refine VS_intro rfl (plainFor_of_name plX4) h2 hBp q2686 (Nat.le_of_ble_eq_true rfl) ?_
  have h3' := ps_up (x := g_ob 31 [.ref ll]) h2 h3
  obtain ⟨mc, x, y, hc⟩ := h3'.cell
  refine VS_aload_n dX4_forget_0 rfl ?_
  refine VS_get ckX4 (cj := 31) g_up_at rfl 0 (by decide) q286 rfl rfl dX4_forget_1 ?_
  refine VS_callV (q := (RJ4, TJ4, 4)) kJ4_clear q2689 q2690 q2691 hc rfl dX4_forget_4 (d' := 0) (as := []) (hst := rfl) ?_
  refine ll_clear h3' hB (fun G1 m hl1 => ⟨_, rfl, ?_⟩)
  obtain ⟨m0, hp1⟩ := ps_mod (fs := []) h2 m
  refine VS_return hp1 hBp dX4_forget_7 rfl ?_
  refine kk _ m0 ⟨h1, ll, g_up_at, ?_⟩
  exact hl1.ke2 (g_ke.up (A := fun q => q ≠ ps) (fun q => q rfl) _) fun q vs hv e => by
    subst e
    rcases hv with hv | hv
    · rw [hp1] at hv; cases hv
    · rw [hp1] at hv; cases hv
theorem ps_init {ps : Nat} (h : G.1 ps = some (g_ob 3 [.null])) (hB : g_B E ≤ ps) (hf : g_fit E G 1 4) (kk : ∀ G', g_mod (fun q => q ≠ ps) G G' 1 4 → (∀ n, n ≤ ps → n ≤ G.2.1 → PsAt n G' ps []) → P (.returned none) G') : g_Spc l E mX4_init 5 [.ref ps] G P := by
  obtain ⟨hf1, hf2⟩ := hf
  refine V_intro (plainFor_of_name plX4) (Nat.le_of_ble_eq_true rfl) ?_
  refine V_wf (fun wf hBG => ?_)
  have hps := wf.ne h
  refine V_aload_n dX4_init_0 rfl (Or.inl ⟨_, rfl⟩) ?_
  refine V_objInit q265 q170 q171 dX4_init_1 (by decide) (by decide) ?_
  refine V_aload_n dX4_init_4 rfl (Or.inl ⟨_, rfl⟩) ?_
  refine V_new ckJ4 q266 dX4_init_5 (by first | omega | (simp only [g_new, g_up]; omega)) (by first | omega | (simp only [g_new, g_up]; omega)) ?_
  refine V_dup dX4_init_8 rfl ?_
  refine V_callI kJ4_init rfl rfl q268 q269 dX4_init_9 ?_ (d' := 4) (as := []) (hst := rfl)
  refine (ll_init (g_new_at rfl) hBG ?_)
  refine V_putF ckX4 (g_new_of hps h) (by first | assumption | omega | (simp only [g_new, g_up]; omega) | (simp only [g_new, g_up, g_B] at *; omega)) 0 (by decide) q286 rfl rfl rfl rfl rfl rfl (Nat.le_of_ble_eq_true rfl) dX4_init_12 ?_
  refine V_return dX4_init_15 rfl ?_
  refine kk _ ⟨fun q x hq hx => g_up_of hq (g_new_of (wf.ne hx) hx), Nat.le_succ _, Nat.le_refl _, Nat.le_add_right _ _, Nat.le_refl _⟩ (fun n h1 h2 => ⟨h1, G.2.1, g_up_at, ll_new h2 (g_up_of (Ne.symm hps) (g_new_at rfl))⟩)
/-! Throwable.getCause -/
theorem th_cause {q c : Nat} {vs : List Value} (h : G.1 q = some (g_ob 18 (.ref c :: vs))) (hcq : c ≠ q) (k : P (.returned (some (.ref c))) G) : g_Spc l E mJ9_getCause 0 [.ref q] G P := by
  refine g_syncIn rfl (plainFor_of_name plJ9) h (fun o ho => by cases ho; exact (show 18 < 31 by decide)) ⟨_, rfl⟩ q2612 (Nat.le_of_ble_eq_true rfl) (fun p e s m below meth cc cell0 C q1 h01 h02 hR hu => ?_)
  obtain ⟨c1, c2, c3, c4, c5, c6, c7, c8, c9⟩ := id C
  have hW' : E.1.WarmedH (s.setCell q (cell0.withEntry s.cur)).vm := c7
  have h6 : (s.setCell q (cell0.withEntry s.cur)).vm.findClass RJ9 = some m.cls := c6
  have hlt : q < s.heap.size := (Array.getElem?_eq_some_iff.mp q1).1
  obtain ⟨r, e1, cell, v1, v2, v3, v4⟩ := hR.va h
  cases v1.symm.trans q1
  cases Option.some.inj (e1.symm.trans (show g_cl[18]? = some (RX20, TX20, 7) from rfl))
  have hslot := v4 0 (show 0 < 7 by decide)
  have oa : (s.heap.setIfInBounds q (cell0.withEntry s.cur))[q]? = some (cell0.withEntry s.cur) := by simp [Array.getElem?_setIfInBounds, hlt]
  have back : (s.heap.setIfInBounds q (cell0.withEntry s.cur)).setIfInBounds q cell0 = s.heap := by
    rw [Array.setIfInBounds_setIfInBounds]
    refine Array.ext_getElem? fun i => ?_
    by_cases hi : q = i
    · subst hi
      have q9 : s.heap[q]? = some cell0 := q1
      rw [q9]
      simp [Array.getElem?_setIfInBounds, hlt]
    · simp [Array.getElem?_setIfInBounds, hi]
  have hts : ∀ w ∈ lw_all, w.before (Value.ref q :: []).toArray (s.setCell q (cell0.withEntry s.cur)) = true := fun w hw => g_wordAt c1 hW' hw _
  obtain ⟨hS, hfc, kC, hkC, hkind⟩ := g_K c1 hW' (show g_cl[18]? = some (RX20, TX20, 7) from rfl)
  obtain ⟨cf, kf, fi, f, hi, hsl⟩ := hS 0 (show 0 < 7 by decide)
  have hst := (u_facts hfc hkC (u_lays hts ckX20.2.1 (show 0 < 7 by decide)) hi).1
  have hcell : (cell0.withEntry s.cur).slots[f.slot]? = some (.ref c) := by
    rw [hsl]
    exact hslot
  have hret : ∀ (ls : Array Slot), W p l e (g_room E 0 G) (s.setCell q (cell0.withEntry s.cur)) m (Value.ref q :: []).toArray below meth cc (s.heap.setIfInBounds q (cell0.withEntry s.cur)) [] 0 0 (g_Z E P below s) (F1 q m 16 ls [.ref c]) := by
    intro ls T hT X
    have hr9 : meth.sig.returnType = some (.object "java/lang/Throwable") := c4
    have hmeth' : T.vm.method? m = some meth := X.method'
    obtain ⟨fs', cellT, y1, y2, y3, y4, y5, y6⟩ := X.leaveSync (v := some (.ref c)) q1 (Or.inl ⟨h01, h02⟩) c8 (fun h => by rw [hr9] at h; cases h)
    have hl := g_left X q1 h01 h02 y1
    rw [hT, oa] at y1
    cases y1
    have e9 : (cell0.withEntry s.cur).left = cell0 := Cell.left_withEntry _ h01 h02
    refine ⟨_, ?_, .returned (some (.ref c)), y3, y4, y5, ⟨[], _, _, y6, fun _ h => nomatch h⟩, G, ?_, k⟩
    · have hd := dJ9_getCause_16
      have hb : cc.code = cJ9_getCause := c3
      jvm_step X.here [X.here.top, c2, hb, hd, hmeth', hr9]
      (try refine ⟨rfl, ?_⟩); (try refine ⟨rfl, ?_⟩)
      first | (intro acts; rw [y2 _ acts rfl rfl rfl]) | rw [y2 _ _ rfl rfl rfl]
      exact Steps.refl _
    · show g_Rep E G (T.heap.setIfInBounds q (cell0.withEntry s.cur).left)
      rw [hT, e9, back]
      exact hR
  have hb : cc.code = cJ9_getCause := c3
  have al : ∀ {pc : Nat} {st : List Value} {ls : Array Slot} (hd : decode cJ9_getCause pc = .ok (.aload_n 0, 1)) (hl : ls[0]? = some (.val (.ref q))), W p l e (g_room E 0 G) (s.setCell q (cell0.withEntry s.cur)) m (Value.ref q :: []).toArray below meth cc (s.heap.setIfInBounds q (cell0.withEntry s.cur)) [] 0 0 (g_Z E P below s) (F1 q m (pc + 1) ls (.ref q :: st)) → W p l e (g_room E 0 G) (s.setCell q (cell0.withEntry s.cur)) m (Value.ref q :: []).toArray below meth cc (s.heap.setIfInBounds q (cell0.withEntry s.cur)) [] 0 0 (g_Z E P below s) (F1 q m pc ls st) := by
    intro pc st ls hd hl kW T hT X
    obtain ⟨t, a, b⟩ := kW T hT X
    refine ⟨t, ?_, b⟩
    jvm_step X.here [X.here.top, c2, hb, hd, hl, Value.isRef]
    exact a
  have gf : ∀ {pc : Nat} {st : List Value} {ls : Array Slot} (hd : decode cJ9_getCause pc = .ok (.getfield 7, 3)), W p l e (g_room E 0 G) (s.setCell q (cell0.withEntry s.cur)) m (Value.ref q :: []).toArray below meth cc (s.heap.setIfInBounds q (cell0.withEntry s.cur)) [] 0 0 (g_Z E P below s) (F1 q m (pc + 3) ls (.ref c :: st)) → W p l e (g_room E 0 G) (s.setCell q (cell0.withEntry s.cur)) m (Value.ref q :: []).toArray below meth cc (s.heap.setIfInBounds q (cell0.withEntry s.cur)) [] 0 0 (g_Z E P below s) (F1 q m pc ls (.ref q :: st)) := by
    intro pc st ls hd kW
    generalize hs1 : s.setCell q (cell0.withEntry s.cur) = s1 at *
    exact W.getf c2 hb h6 (hts _ q474) hi hst oa (by show cell0.vm ≠ _; rw [v3]; exact fun h => nomatch h) hcell rfl rfl hd kW
  have cmp : ∀ {ls : Array Slot}, W p l e (g_room E 0 G) (s.setCell q (cell0.withEntry s.cur)) m (Value.ref q :: []).toArray below meth cc (s.heap.setIfInBounds q (cell0.withEntry s.cur)) [] 0 0 (g_Z E P below s) (F1 q m 12 ls []) → W p l e (g_room E 0 G) (s.setCell q (cell0.withEntry s.cur)) m (Value.ref q :: []).toArray below meth cc (s.heap.setIfInBounds q (cell0.withEntry s.cur)) [] 0 0 (g_Z E P below s) (F1 q m 5 ls [.ref q, .ref c]) := by
    intro ls kW T hT X
    obtain ⟨t, a, b⟩ := kW T hT X
    refine ⟨t, ?_, b⟩
    have hd := dJ9_getCause_5
    have hneq : ¬ (Value.ref c = Value.ref q) := fun e => hcq (by injection e)
    have hneq2 : ¬ (c = q) := hcq
    jvm_step X.here [X.here.top, c2, hb, hd, Op.if_acmp.holds, hneq, hneq2, Ne.symm hcq]
    refine ⟨some q, rfl, some c, rfl, ?_⟩
    rw [if_neg (fun e => hcq (by injection e))]
    exact a
  exact al dJ9_getCause_0 rfl (gf dJ9_getCause_1 (al dJ9_getCause_4 rfl (cmp (al dJ9_getCause_12 rfl (gf dJ9_getCause_13 (hret _))))))
/-! failures -/
theorem cf_kind {q : Nat} {kd : Int32} (h : CfAt G q kd) (hc : isC kd) (k : P (.returned (some (.int kd))) G) : g_Spc l E mX10_kind 0 [.ref q] G P := by
  obtain ⟨v1, v2, v3, v4, v5, v6, h⟩ := h
  refine V_intro (plainFor_of_name plX10) (Nat.le_of_ble_eq_true rfl) ?_
  refine V_aload_n dX10_kind_0 rfl (Or.inl ⟨_, rfl⟩) ?_
  refine V_get ckX10 (by first | assumption | (repeat (first | exact g_up_at | exact g_new_at rfl | assumption | refine g_up_of (by first | assumption | (simp only [g_new, g_up]; omega) | omega) ?_ | refine g_new_of (by first | assumption | (simp only [g_new, g_up]; omega) | omega) ?_))) 6 (by decide) q1068 rfl (by rfl) dX10_kind_1 ?_
  refine V_zreturn dX10_kind_4 rfl hc.nar ?_
  exact k
end PAST
