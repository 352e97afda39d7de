/-! MODULE Parser: a command, all commands -/
set_option maxRecDepth 100000
/-- a command is read from i to j -/
def PcT (L : List Int32) (i kind : Nat) (f : Nat → Int32) (j : Nat) : Prop := kind < 9 ∧ i + 3 ≤ j ∧ j ≤ L.length ∧ ∃ k, wkC L i 61 0 = (k, false) ∧ seg L i k = cmW kind ∧ ∃ A, rsA L 0 kind (i + k, false, fun _ => 0) = (j, false, A) ∧ ∀ z, z < nAr kind → f z = A z
/-- reading a command from i fails at j -/
def PcF (L : List Int32) (i j : Nat) : Prop := (∃ k, wkC L i 61 0 = (k, true) ∧ j = i + k) ∨ ∃ kind k, kind < 9 ∧ wkC L i 61 0 = (k, false) ∧ seg L i k = cmW kind ∧ (rsA L 0 kind (i + k, false, fun _ => 0)).1 = j ∧ (rsA L 0 kind (i + k, false, fun _ => 0)).2.1 = true
def WkOK (L : List Int32) : Prop := ∀ i k, i ≤ L.length → wkC L i 61 0 = (k, false) → ∃ kind, kind < 9 ∧ seg L i k = cmW kind
abbrev Cmx : Type := Nat × (Nat → Int32)
/-- commands, the latest first, read up to j -/
def RunR (L : List Int32) : List Cmx → Nat → Prop
  | [], _ => False
  | x :: t, j => match t with
    | [] => PcT L 0 x.1 x.2 j
    | y :: u => ∃ i, RunR L (y :: u) i ∧ mkC L i = 59 ∧ PcT L (i + 1) x.1 x.2 j
def RunF (L : List Int32) (j : Nat) : Prop := PcF L 0 j ∨ ∃ cl i, RunR L cl i ∧ i < L.length ∧ ((mkC L i ≠ 59 ∧ j = i) ∨ (mkC L i = 59 ∧ PcF L (i + 1) j))
theorem cmW_len : ∀ kind, kind < 9 → 3 ≤ (cmW kind).length := by decide
theorem RunR_n {L : List Int32} : ∀ (cl : List Cmx) (j : Nat), RunR L cl j → 4 * cl.length ≤ j + 1 ∧ j ≤ L.length
  | [], _, h => h.elim
  | x :: [], j, h => by
    have h : PcT L 0 x.1 x.2 j := h
    have h1 := h.2.1
    have h2 := h.2.2.1
    exact ⟨by show 4 * 1 ≤ j + 1; omega, h2⟩
  | x :: y :: u, j, h => by
    obtain ⟨i, h1, h2, h3⟩ := h
    have := RunR_n (y :: u) i h1
    have h4 := h3.2.1
    have h5 := h3.2.2.1
    refine ⟨?_, h5⟩
    show 4 * ((y :: u).length + 1) ≤ j + 1
    omega
section PCMDS
variable {l : Launch} {E : g_E} {P : Outcome → g_G → Prop} {G : g_G}
theorem pa_command {pr ta i : Nat} {L : List Int32} (h : PaAt E G pr ta L i) (hB : g_B E ≤ pr) (hT : TxC L) (h50 : L.length ≤ 50) (hW : WkOK L) (hi : i ≤ L.length) (hf : g_fit E G (40 + 10 * (L.length - i)) (3100 + 1900 * (L.length - i))) (kt : ∀ kind f j, PcT L i kind f j → ∀ G' c, g_mod (fun z => z ≠ pr) G G' (19 * (j - i)) (2700 * (j - i)) → CmdAt E G' c kind f → PaAt E G' pr ta L j → G.2.1 ≤ c → P (.returned (some (.ref c))) G') (kf : ∀ j, PcF L i j → ∀ q G', g_mod (fun z => z ≠ pr) G G' (40 + 10 * (L.length - i)) (3100 + 1900 * (L.length - i)) → SyAt G' q (nI j) → P (.threw q) G') : g_Spc l E mX18_command 10 [.ref pr] G P := by
  obtain ⟨hf1, hf2⟩ := hf
  obtain ⟨va, hta, -⟩ := id h.2
  refine V_intro (plainFor_of_name plX18) (Nat.le_of_ble_eq_true rfl) ?_
  refine V_wf (fun wf hBG => ?_)
  have htl := wf _ _ hta
  have hpl := wf _ _ h.1
  refine V_aload_n dX18_command_0 rfl (Or.inl ⟨_, rfl⟩) ?_
  refine V_callV (q := (RX18, TX18, 2)) kX18_word q2328 q2330 qs37 h.1 rfl dX18_command_1 ?_ (d' := 8) (as := []) (hst := rfl)
  refine (pa_word h hB hT h50 hi ⟨by omega, by omega⟩ (fun k hk hik G1 q m hN hP hq => ?_) (fun k hk hik q G1 m hs => ?_))
  rotate_left
  · obtain ⟨m1, m2, m3, m4, m5⟩ := m
    exact VX_out (ci := 0) (fs := []) rfl (kf (i + k) (Or.inl ⟨k, hk, rfl⟩) q G1 ⟨m1, by omega, by omega, by omega, by omega⟩ hs)
  obtain ⟨kind, hk9, hseg⟩ := hW i k hi hk
  obtain ⟨m1, m2, m3, m4, m5⟩ := m
  have hk3 : 3 ≤ k := by
    have := seg_len hik
    rw [hseg] at this
    have := cmW_len kind hk9
    omega
  rw [hseg] at hN
  have good : ∀ (f A : Nat → Int32) (j : Nat), rsA L 0 kind (i + k, false, fun _ => 0) = (j, false, A) → (∀ z, z < nAr kind → f z = A z) → j ≤ L.length → ∀ G' c, g_mod (fun z => z ≠ pr ∧ z ≠ q) G1 G' 4 30 → CmdAt E G' c kind f → PaAt E G' pr ta L j → G1.2.1 ≤ c → P (.returned (some (.ref c))) G' := by
    intro f A j hA hfA hj G' c m hC hPj hc
    have hle := (rsA_le (L := L) (n := 0) (kind := kind) (s := (i + k, false, fun _ => 0)) hik).1
    rw [hA] at hle
    have hle : i + k ≤ j := hle
    obtain ⟨n1, n2, n3, n4, n5⟩ := m
    exact kt kind f j ⟨hk9, by omega, hj, k, hk, hseg, A, hA, hfA⟩ G' c ⟨fun z x hz hx => n1 z x ⟨hz, fun e => by have := wf _ _ hx; omega⟩ (m1 z x hz hx), by omega, by omega, by omega, by omega⟩ hC hPj (by omega)
  have bad : ∀ j, (rsA L 0 kind (i + k, false, fun _ => 0)).1 = j → (rsA L 0 kind (i + k, false, fun _ => 0)).2.1 = true → ∀ qq G', g_mod (fun z => z ≠ pr ∧ z ≠ q) G1 G' 6 40 → SyAt G' qq (nI j) → P (.threw qq) G' := by
    intro j h1 h2 qq G' m hs
    obtain ⟨n1, n2, n3, n4, n5⟩ := m
    exact kf j (Or.inr ⟨kind, k, hk9, hk, hseg, h1, h2⟩) qq G' ⟨fun z x hz hx => n1 z x ⟨hz, fun e => by have := wf _ _ hx; omega⟩ (m1 z x hz hx), by omega, by omega, by omega, by omega⟩ hs
  have fit : g_fit E G1 6 40 := ⟨by omega, by omega⟩
  have hqp : q ≠ pr := by omega
  have hqt : ta ≠ q := by omega
  have hBq : g_B E ≤ q := by omega
  have hh : kind = 0 ∨ kind = 1 ∨ kind = 2 ∨ kind = 3 ∨ kind = 4 ∨ kind = 5 ∨ kind = 6 ∨ kind = 7 ∨ kind = 8 := by omega
  refine V_sub (L' := [(0, .ref pr)]) ⟨rfl, trivial⟩ ?_
  rcases hh with rfl | rfl | rfl | rfl | rfl | rfl | rfl | rfl | rfl
  · exact pc_0 hN hP hB hBq hqp hqt hT hik fit good bad
  · exact pc_1 hN hP hB hBq hqp hqt hT hik fit good bad
  · exact pc_2 hN hP hB hBq hqp hqt hT hik fit good bad
  · exact pc_3 hN hP hB hBq hqp hqt hT hik fit good bad
  · exact pc_4 hN hP hB hBq hqp hqt hT hik fit good bad
  · exact pc_5 hN hP hB hBq hqp hqt hT hik fit good bad
  · exact pc_6 hN hP hB hBq hqp hqt hT hik fit good bad
  · exact pc_7 hN hP hB hBq hqp hqt hT hik fit good bad
  · exact pc_8 hN hP hB hBq hqp hqt hT hik fit good bad
/-- parsed commands at addresses -/
def CsAt (E : g_E) (G : g_G) (cs : List Nat) (cl : List Cmx) : Prop := cs.length = cl.length ∧ ∀ (k c : Nat) (x : Cmx), cs[k]? = some c → cl[k]? = some x → CmdAt E G c x.1 x.2
theorem CmdAt.cell {c kind : Nat} {f : Nat → Int32} (h : CmdAt E G c kind f) : ∃ wa ar, G.1 c = some (g_ob 7 [.ref wa, .ref ar]) := by
  obtain ⟨wa, ar, n, z, h1, -⟩ := h
  exact ⟨wa, ar, h1⟩
theorem CsAt.at {cs : List Nat} {cl : List Cmx} {k : Nat} {x : Cmx} (h : CsAt E G cs cl) (hk : cl[k]? = some x) : ∃ c, cs[k]? = some c ∧ CmdAt E G c x.1 x.2 := by
  have hl : k < cs.length := by rw [h.1]; exact lt_of_at hk
  exact ⟨cs[k], List.getElem?_eq_getElem hl, h.2 _ _ _ (List.getElem?_eq_getElem hl) hk⟩
theorem CsAt.cellOf {cs : List Nat} {cl : List Cmx} (h : CsAt E G cs cl) : ∀ b ∈ cs, ∃ wa ar, G.1 b = some (g_ob 7 [.ref wa, .ref ar]) := by
  intro b hb
  obtain ⟨k, hk⟩ := List.mem_iff_getElem?.mp hb
  have hkl := lt_of_at hk
  have hkl2 : k < cl.length := by rw [← h.1]; exact hkl
  exact (h.2 k b _ hk (List.getElem?_eq_getElem hkl2)).cell
theorem CsAt.ke2 {cs : List Nat} {cl : List Cmx} {B : Nat → Prop} {G' : g_G} (h : CsAt E G cs cl) (hk : g_ke B G G') (hc : ∀ b wa ar, G.1 b = some (g_ob 7 [.ref wa, .ref ar]) → B b) (hb : ∀ q x, G.1 q = some x → isS x = true → B q) : CsAt E G' cs cl := by
  refine ⟨h.1, fun k c x h1 h2 => ?_⟩
  have h9 := h.2 k c x h1 h2
  obtain ⟨wa, ar, hcell⟩ := h9.cell
  exact h9.ke2 hk (hc _ _ _ hcell) hb
theorem CsAt.push {cs : List Nat} {cl : List Cmx} {a : Nat} {x : Cmx} (h : CsAt E G cs cl) (ha : CmdAt E G a x.1 x.2) : CsAt E G (cs ++ [a]) (cl ++ [x]) := by
  refine ⟨by rw [List.length_append, List.length_append, h.1]; rfl, fun k b q hb hq => ?_⟩
  have := h.1
  rcases at_push hb with e | ⟨e1, e2⟩
  · rcases at_push hq with e' | ⟨e1', e2'⟩
    · exact h.2 k b q e e'
    · have := lt_of_at e
      omega
  · rcases at_push hq with e' | ⟨e1', e2'⟩
    · have := lt_of_at e'
      omega
    · subst e2
      subst e2'
      exact ha
/-- a command is added to the list al = G0's end -/
theorem pa_add {G0 G1 : g_G} {pr ta i j c : Nat} {L : List Int32} {cl : List Cmx} {x : Cmx} {cs : List Nat} (hB0 : g_B E ≤ G0.2.1) (hpr0 : pr < G0.2.1) (wf0 : g_wf G0) (hij : i + 3 ≤ j) (hjL : j ≤ L.length) (h50 : L.length ≤ 50) (hcl : 4 * cl.length ≤ i + 1) (hP1 : PaAt E G1 pr ta L i) (m1 : g_mod (fun z => z ≠ pr) G0 G1 (5 + 20 * i) (10 + 2800 * i)) (m2 : g_mod (fun z => z ≠ pr) G1 G (19 * (j - i)) (2700 * (j - i))) (hA1 : AlsAt E g_all G0.2.1 G1 G0.2.1 cs) (hC1 : CsAt E G1 cs cl.reverse) (hc : CmdAt E G c x.1 x.2) (hP2 : PaAt E G pr ta L j) (hf : g_fit E G0 (60 + 30 * L.length) (3500 + 4700 * L.length)) (kk : ∀ G3, g_mod (fun z => z ≠ pr) G0 G3 (5 + 20 * j) (10 + 2800 * j) → AlsAt E g_all G0.2.1 G3 G0.2.1 (cs ++ [c]) → CsAt E G3 (cs ++ [c]) (x :: cl).reverse → PaAt E G3 pr ta L j → P (.returned (some (.int 1))) G3) : g_Spc l E mJ2_add 6 [.ref G0.2.1, .ref c] G P := by
  obtain ⟨hf1, hf2⟩ := hf
  obtain ⟨a1, a2, a3, a4, a5⟩ := id m1
  obtain ⟨b1, b2, b3, b4, b5⟩ := id m2
  have prS : ∀ (GG : g_G) (k : Nat), PaAt E GG pr ta L k → ∀ q y, GG.1 q = some y → isS y = true → q ≠ pr := fun GG k hh q y hy hi e => by
    subst e
    rw [hh.1] at hy
    cases hy
    cases hi
  have hA2 : AlsAt E g_all G0.2.1 G G0.2.1 cs := hA1.ke2 b1 (by omega) (fun ar hq e => by have := hq.1; omega)
  obtain ⟨mc2, ar2, hc2⟩ := hA2.cell
  have hC2 : CsAt E G cs cl.reverse := hC1.ke2 b1 (fun b wa ar hb => g_apart hb hP1.1 (by intro e; cases e)) (prS _ _ hP1)
  obtain ⟨wa, ara, hcc⟩ := hc.cell
  have hlen : cs.length = cl.length := by rw [hC1.1, List.length_reverse]
  have hel : ∀ b ∈ cs, ∃ y, b ≠ G0.2.1 ∧ G.1 b = some y ∧ g_cast E y "java/lang/Object" := fun b hb => by
    obtain ⟨w1, w2, hw⟩ := hC2.cellOf b hb
    exact ⟨_, g_apart hw hc2 (by intro e; cases e), hw, g_cast_of (q := (RX8, TX8, 2)) rfl q3323⟩
  refine als_add hA2 hB0 (by omega) (fun _ _ => trivial) hcc (g_cast_of (q := (RX8, TX8, 2)) rfl q3323) (g_apart hcc hc2 (by intro e; cases e)) hel (by omega) ⟨by omega, by omega⟩ (fun G3 m3 _ hA3 => ?_)
  obtain ⟨d1, d2, d3, d4, d5⟩ := m3
  have nO : ∀ {z ci : Nat} {vs : List Value}, G.1 z = some (g_ob ci vs) → ci ≠ 19 → z ≠ G0.2.1 ∧ ¬ AlsAr E G0.2.1 G G0.2.1 z := fun hz hne => by
    refine ⟨g_apart hz hc2 (by intro e; cases e; exact hne rfl), fun hq => ?_⟩
    obtain ⟨_, _, cap, g, hg⟩ := hq
    rw [hz] at hg
    cases hg
  have nS : ∀ q y, G.1 q = some y → isS y = true → q ≠ G0.2.1 ∧ ¬ AlsAr E G0.2.1 G G0.2.1 q := fun q y hy hi => by
    refine ⟨fun e => ?_, fun hq => ?_⟩
    · subst e
      rw [hc2] at hy
      cases hy
      cases hi
    · obtain ⟨_, _, cap, g, hg⟩ := hq
      rw [hy] at hg
      cases hg
      cases hi
  have hC3 : CsAt E G3 cs cl.reverse := hC2.ke2 d1 (fun b w1 w2 hb => nO hb (by decide)) nS
  have hc3 : CmdAt E G3 c x.1 x.2 := hc.ke2 d1 (nO hcc (by decide)) nS
  refine kk G3 ⟨fun z y hz hy => d1 z y ⟨by have := wf0 _ _ hy; omega, fun hq => by have := wf0 _ _ hy; have := hq.1; omega⟩ (b1 z y hz (a1 z y hz hy)), by omega, by omega, by omega, by omega⟩ hA3 ?_ ⟨d1 _ _ (nO hP2.1 (by decide)) hP2.1, hP2.2.ke2 d1 nS⟩
  rw [List.reverse_cons]
  exact hC3.push hc3
theorem pa_commands {pr ta : Nat} {L : List Int32} (h : PaAt E G pr ta L 0) (hB : g_B E ≤ pr) (hT : TxC L) (h50 : L.length ≤ 50) (hW : WkOK L) (hf : g_fit E G (60 + 30 * L.length) (3500 + 4700 * L.length)) (kt : ∀ cl, RunR L cl L.length → ∀ G' al cs, g_mod (fun z => z ≠ pr) G G' (60 + 30 * L.length) (3500 + 4700 * L.length) → AlsAt E g_all G.2.1 G' al cs → CsAt E G' cs cl.reverse → P (.returned (some (.ref al))) G') (kf : ∀ j, RunF L j → ∀ q G', g_mod (fun z => z ≠ pr) G G' (60 + 30 * L.length) (3500 + 4700 * L.length) → SyAt G' q (nI j) → P (.threw q) G') : g_Spc l E mX18_commands 11 [.ref pr] G P := by
  obtain ⟨hf1, hf2⟩ := hf
  refine V_intro (plainFor_of_name plX18) (Nat.le_of_ble_eq_true rfl) ?_
  refine V_wf (fun wf hBG => ?_)
  have hpl := wf _ _ h.1
  have k0 := g_ke.new (A := g_all) wf (g_ob 19 [.int 0, .ref (emp E), .int (nI 0)]) 3
  have hAl : AlsAt E g_all G.2.1 (g_new G (g_ob 19 [.int 0, .ref (emp E), .int (nI 0)]) 3) G.2.1 [] := ⟨Nat.le_refl _, trivial, 0, emp E, g_new_at rfl, Or.inl ⟨rfl, rfl⟩⟩
  have hP0 : PaAt E (g_new G (g_ob 19 [.int 0, .ref (emp E), .int (nI 0)]) 3) pr ta L 0 := h.keep k0
  have m0 : g_mod (fun z => z ≠ pr) G (g_new G (g_ob 19 [.int 0, .ref (emp E), .int (nI 0)]) 3) (5 + 20 * 0) (10 + 2800 * 0) := ⟨k0.mono fun _ _ => trivial, by simp only [g_new]; omega, by simp only [g_new]; omega, by simp only [g_new]; omega, by simp only [g_new]; omega⟩
  have loop : ∀ fu (x : Cmx) (cl : List Cmx) (j : Nat), L.length - j ≤ fu → RunR L (x :: cl) j → ∀ (G1 : g_G) (cs : List Nat), g_mod (fun z => z ≠ pr) G G1 (5 + 20 * j) (10 + 2800 * j) → AlsAt E g_all G.2.1 G1 G.2.1 cs → CsAt E G1 cs (x :: cl).reverse → PaAt E G1 pr ta L j → V l E mX18_commands 11 P 19 [(0, .ref pr), (1, .ref G.2.1)] [] G1 := by
    intro fu
    induction fu with
    | zero =>
      intro x cl j hfu hrun G1 cs m1 hA1 hC1 hP1
      obtain ⟨hn, hjL⟩ := RunR_n _ _ hrun
      have ej : j = L.length := by omega
      subst ej
      obtain ⟨va, hta, -⟩ := id hP1.2
      obtain ⟨a1, a2, a3, a4, a5⟩ := m1
      refine V_aload_n dX18_commands_19 rfl (Or.inl ⟨_, rfl⟩) ?_
      refine V_get ckX18 hP1.1 1 (by decide) q2312 rfl (by rfl) dX18_commands_20 ?_
      refine V_aload_n dX18_commands_23 rfl (Or.inl ⟨_, rfl⟩) ?_
      refine V_get ckX18 hP1.1 0 (by decide) q2311 rfl (by rfl) dX18_commands_24 ?_
      refine V_callV (q := (RJ7, TJ7, 4)) kJ7_length q2338 q667 q668 hta rfl dX18_commands_27 ?_ (d' := 1) (as := []) (hst := rfl)
      refine (str_length hP1.2.R ?_)
      refine V_icmp_ge 75 dX18_commands_30 (by decide) (fun _ => ?_) (fun c30 => absurd (Int32.le_refl _) c30)
      refine V_aload_n dX18_commands_75 rfl (Or.inl ⟨_, rfl⟩) ?_
      refine V_areturnO dX18_commands_76 rfl ?_
      exact kt (x :: cl) hrun G1 _ cs ⟨a1, a2, by omega, a4, by omega⟩ hA1 hC1
    | succ fu ih =>
      intro x cl j hfu hrun G1 cs m1 hA1 hC1 hP1
      obtain ⟨hn, hjL⟩ := RunR_n _ _ hrun
      obtain ⟨va, hta, -⟩ := id hP1.2
      obtain ⟨a1, a2, a3, a4, a5⟩ := id m1
      by_cases hend : j = L.length
      · subst hend
        refine V_aload_n dX18_commands_19 rfl (Or.inl ⟨_, rfl⟩) ?_
        refine V_get ckX18 hP1.1 1 (by decide) q2312 rfl (by rfl) dX18_commands_20 ?_
        refine V_aload_n dX18_commands_23 rfl (Or.inl ⟨_, rfl⟩) ?_
        refine V_get ckX18 hP1.1 0 (by decide) q2311 rfl (by rfl) dX18_commands_24 ?_
        refine V_callV (q := (RJ7, TJ7, 4)) kJ7_length q2338 q667 q668 hta rfl dX18_commands_27 ?_ (d' := 1) (as := []) (hst := rfl)
        refine (str_length hP1.2.R ?_)
        refine V_icmp_ge 75 dX18_commands_30 (by decide) (fun _ => ?_) (fun c30 => absurd (Int32.le_refl _) c30)
        refine V_aload_n dX18_commands_75 rfl (Or.inl ⟨_, rfl⟩) ?_
        refine V_areturnO dX18_commands_76 rfl ?_
        exact kt (x :: cl) hrun G1 _ cs ⟨a1, a2, by omega, a4, by omega⟩ hA1 hC1
      · have hjl : j < L.length := by omega
        have rest : ∀ b : Bool, b = decide (mkC L j = 59) → V l E mX18_commands 11 P 48 [(0, .ref pr), (1, .ref G.2.1)] [.int (b2i b), .ref pr] G1 := by
          intro b hb
          refine V_callV (q := (RX18, TX18, 2)) kX18_require q2465 q2467 qs39 hP1.1 rfl dX18_commands_48 ?_ (d' := 7) (as := [_]) (hst := rfl)
          refine (pa_require hP1 ⟨by omega, by omega⟩ (fun ht => ?_) (fun ht q G' m hs => ?_))
          · rw [hb] at ht
            have em := of_decide_eq_true ht
            have hP2 : PaAt E (g_up G1 pr (g_ob 16 [.ref ta, .int (nI (j + 1))])) pr ta L (j + 1) := hP1.up
            have kU : g_ke (fun z => z ≠ pr) G1 (g_up G1 pr (g_ob 16 [.ref ta, .int (nI (j + 1))])) := g_ke.up (fun q => q rfl) _
            refine V_aload_n dX18_commands_51 rfl (Or.inl ⟨_, rfl⟩) ?_
            refine V_dup dX18_commands_52 rfl ?_
            refine V_get ckX18 hP1.1 1 (by decide) q2312 rfl (by rfl) dX18_commands_53 ?_
            refine V_iconstv 1 dX18_commands_56 (by decide) ?_
            refine V_iadd dX18_commands_57 ?_
            refine V_put ckX18 hP1.1 (by first | assumption | omega | (simp only [g_new, g_up]; omega) | (simp only [g_new, g_up, g_B] at *; omega)) 1 (by decide) q2312 rfl rfl rfl rfl (Nat.le_of_ble_eq_true rfl) dX18_commands_58 ?_
            rw [show nI j + 1 = nI (j + 1) from nI_1 j]
            refine V_aload_n dX18_commands_61 rfl (Or.inl ⟨_, rfl⟩) ?_
            refine V_aload_n dX18_commands_62 rfl (Or.inl ⟨_, rfl⟩) ?_
            refine V_callV (q := (RX18, TX18, 2)) kX18_command q2324 q2326 qs36 hP2.1 rfl dX18_commands_63 ?_ (d' := 10) (as := []) (hst := rfl)
            refine (pa_command hP2 hB hT h50 hW (by omega) ⟨by simp only [g_up]; omega, by simp only [g_up]; omega⟩ (fun kind f j2 hpc G2 c m2 hc hP3 hcl2 => ?_) (fun j2 hpf q G2 m2 hs => ?_))
            · have hrun2 : RunR L ((kind, f) :: x :: cl) j2 := ⟨j, hrun, em, hpc⟩
              have hA2 : AlsAt E g_all G.2.1 (g_up G1 pr (g_ob 16 [.ref ta, .int (nI (j + 1))])) G.2.1 cs := hA1.ke2 kU (by omega) (fun ar hq e => by have := hq.1; omega)
              have hC2 : CsAt E (g_up G1 pr (g_ob 16 [.ref ta, .int (nI (j + 1))])) cs (x :: cl).reverse := hC1.ke2 kU (fun b wa ar hb => g_apart hb hP1.1 (by intro e; cases e)) (fun q y hy hi e => by
                subst e
                rw [hP1.1] at hy
                cases hy
                cases hi)
              have m1' : g_mod (fun z => z ≠ pr) G (g_up G1 pr (g_ob 16 [.ref ta, .int (nI (j + 1))])) (5 + 20 * (j + 1)) (10 + 2800 * (j + 1)) := ⟨a1.trans kU, a2, by simp only [g_up]; omega, a4, by simp only [g_up]; omega⟩
              obtain ⟨hij, hj2L⟩ := hpc.2
              have hA3 : AlsAt E g_all G.2.1 G2 G.2.1 cs := hA2.ke2 m2.1 (by omega) (fun ar hq e => by have := hq.1; omega)
              obtain ⟨mc3, ar3, hc3⟩ := hA3.cell
              refine V_callF (q := (RJ2, TJ2, 3)) (x := ⟨"java/util/List", "add", "(Ljava/lang/Object;)Z"⟩) kJ2_add q2518 ⟨by decide +kernel, by decide +kernel⟩ q840 q839 q844 q842 q529 (by decide +kernel) q843 q841 hc3 rfl dX18_commands_66 ?_ (d' := 6) (as := [_]) (hst := rfl)
              refine (pa_add (x := (kind, f)) hBG hpl wf hij hj2L.1 h50 (by omega) hP2 m1' m2 hA2 hC2 hc hP3 ⟨hf1, hf2⟩ (fun G3 m3 hA4 hC4 hP4 => ?_))
              refine V_pop dX18_commands_71 rfl ?_
              refine V_goto 19 dX18_commands_72 (by decide) ?_
              exact V_subk (ih (kind, f) (x :: cl) j2 (by omega) hrun2 G3 _ m3 hA4 hC4 hP4) ⟨rfl, rfl, trivial⟩
            · obtain ⟨n1, n2, n3, n4, n5⟩ := m2
              simp only [g_up] at n2 n3 n4 n5
              exact VX_out (ci := 0) (fs := []) rfl (kf j2 (Or.inr ⟨x :: cl, j, hrun, hjl, Or.inr ⟨em, hpf⟩⟩) q G2 ⟨fun z y hz hy => n1 z y hz (g_up_of hz (a1 z y hz hy)), by omega, by omega, by omega, by omega⟩ hs)
          · rw [hb] at ht
            have em := of_decide_eq_false ht
            obtain ⟨n1, n2, n3, n4, n5⟩ := m
            exact VX_out (ci := 0) (fs := []) rfl (kf j (Or.inr ⟨x :: cl, j, hrun, hjl, Or.inl ⟨em, rfl⟩⟩) q G' ⟨fun z y hz hy => n1 z y trivial (a1 z y hz hy), by omega, by omega, by omega, by omega⟩ hs)
        refine V_aload_n dX18_commands_19 rfl (Or.inl ⟨_, rfl⟩) ?_
        refine V_get ckX18 hP1.1 1 (by decide) q2312 rfl (by rfl) dX18_commands_20 ?_
        refine V_aload_n dX18_commands_23 rfl (Or.inl ⟨_, rfl⟩) ?_
        refine V_get ckX18 hP1.1 0 (by decide) q2311 rfl (by rfl) dX18_commands_24 ?_
        refine V_callV (q := (RJ7, TJ7, 4)) kJ7_length q2338 q667 q668 hta rfl dX18_commands_27 ?_ (d' := 1) (as := []) (hst := rfl)
        refine (str_length hP1.2.R ?_)
        refine V_icmp_ge 75 dX18_commands_30 (by decide) (fun c30 => absurd c30 (nI_ge hjl (by omega))) (fun _ => ?_)
        refine V_aload_n dX18_commands_33 rfl (Or.inl ⟨_, rfl⟩) ?_
        refine V_aload_n dX18_commands_34 rfl (Or.inl ⟨_, rfl⟩) ?_
        refine V_callV (q := (RX18, TX18, 2)) kX18_current q2334 q2336 qs38 hP1.1 rfl dX18_commands_35 ?_ (d' := 4) (as := []) (hst := rfl)
        refine (pa_current hP1 hT hjL ?_)
        refine V_bipushv 59 dX18_commands_38 (by decide) ?_
        refine V_icmp_ne 47 dX18_commands_40 (by decide) (fun c40 => ?_) (fun c40 => ?_)
        · refine V_iconstv 0 dX18_commands_47 (by decide) ?_
          exact V_subk (rest false (decide_eq_false (fun q => c40 ((cur_mk (by decide) (by decide)).mpr q))).symm) ⟨rfl, rfl, trivial⟩
        · refine V_iconstv 1 dX18_commands_43 (by decide) ?_
          refine V_goto 48 dX18_commands_44 (by decide) ?_
          exact V_subk (rest true (decide_eq_true ((cur_mk (by decide) (by decide)).mp c40)).symm) ⟨rfl, rfl, trivial⟩
  refine V_new ckJ2 q2322 dX18_commands_0 (by first | omega | (simp only [g_new, g_up]; omega)) (by first | omega | (simp only [g_new, g_up]; omega)) ?_
  refine V_dup dX18_commands_3 rfl ?_
  refine V_callI kJ2_init rfl rfl q2323 q198 dX18_commands_4 ?_ (d' := 3) (as := []) (hst := rfl)
  refine (als_init (g_new_at rfl) (by first | assumption | omega | (simp only [g_new, g_up]; omega) | (simp only [g_new, g_up, g_B] at *; omega)) ?_)
  rw [g_new_up rfl]
  refine V_astore_n dX18_commands_7 (Or.inl ⟨_, rfl⟩) (by decide) ?_
  refine V_aload_n dX18_commands_8 rfl (Or.inl ⟨_, rfl⟩) ?_
  refine V_aload_n dX18_commands_9 rfl (Or.inl ⟨_, rfl⟩) ?_
  refine V_callV (q := (RX18, TX18, 2)) kX18_command q2324 q2326 qs36 hP0.1 rfl dX18_commands_10 ?_ (d' := 10) (as := []) (hst := rfl)
  refine (pa_command hP0 hB hT h50 hW (Nat.zero_le _) ⟨by simp only [g_new]; omega, by simp only [g_new]; omega⟩ (fun kind f j hpc G2 c m2 hc hP3 hcl2 => ?_) (fun j hpf q G2 m2 hs => ?_))
  · obtain ⟨hij, hjL⟩ := hpc.2
    have hrun : RunR L [(kind, f)] j := hpc
    have hA3 : AlsAt E g_all G.2.1 G2 G.2.1 [] := hAl.ke2 m2.1 (by omega) (fun ar hq e => by have := hq.1; omega)
    obtain ⟨mc3, ar3, hc3⟩ := hA3.cell
    refine V_callF (q := (RJ2, TJ2, 3)) (x := ⟨"java/util/List", "add", "(Ljava/lang/Object;)Z"⟩) kJ2_add q2518 ⟨by decide +kernel, by decide +kernel⟩ q840 q839 q844 q842 q529 (by decide +kernel) q843 q841 hc3 rfl dX18_commands_13 ?_ (d' := 6) (as := [_]) (hst := rfl)
    refine (pa_add (cl := []) (x := (kind, f)) hBG hpl wf hij hjL.1 h50 (by decide) hP0 m0 m2 hAl ⟨rfl, fun k c x hk => by cases hk⟩ hc hP3 ⟨hf1, hf2⟩ (fun G3 m3 hA4 hC4 hP4 => ?_))
    refine V_pop dX18_commands_18 rfl ?_
    exact V_subk (loop (L.length - j) (kind, f) [] j (Nat.le_refl _) hrun G3 _ m3 hA4 hC4 hP4) ⟨rfl, rfl, trivial⟩
  · obtain ⟨n1, n2, n3, n4, n5⟩ := m2
    simp only [g_new] at n2 n3 n4 n5
    exact VX_out (ci := 0) (fs := []) rfl (kf j (Or.inl hpf) q G2 ⟨fun z y hz hy => n1 z y hz (k0 z y trivial hy), by omega, by omega, by omega, by omega⟩ hs)
theorem pa_init {pr ta : Nat} (h : G.1 pr = some (g_ob 16 [.null, .int 0])) (hB : g_B E ≤ pr) (k : P (.returned none) (g_up G pr (g_ob 16 [.ref ta, .int 0]))) : g_Spc l E mX18_init 1 [.ref pr, .ref ta] G P := by
  refine V_intro (plainFor_of_name plX18) (Nat.le_of_ble_eq_true rfl) ?_
  refine V_aload_n dX18_init_0 rfl (Or.inl ⟨_, rfl⟩) ?_
  refine V_objInit q2310 q170 q171 dX18_init_1 (by decide) (by decide) ?_
  refine V_aload_n dX18_init_4 rfl (Or.inl ⟨_, rfl⟩) ?_
  refine V_aload_n dX18_init_5 rfl (Or.inl ⟨_, rfl⟩) ?_
  refine V_putF ckX18 (by first | assumption | (repeat (first | exact g_up_at | exact g_new_at rfl | assumption | refine g_up_of (by first | assumption | (simp only [g_new, g_up]; omega) | omega) ?_ | refine g_new_of (by first | assumption | (simp only [g_new, g_up]; omega) | omega) ?_))) (by first | assumption | omega | (simp only [g_new, g_up]; omega) | (simp only [g_new, g_up, g_B] at *; omega)) 0 (by decide) q2311 rfl rfl rfl rfl rfl rfl (Nat.le_of_ble_eq_true rfl) dX18_init_6 ?_
  refine V_return dX18_init_9 rfl ?_
  exact k
end PCMDS
