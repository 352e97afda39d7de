/-! REFERENCE 11: settlements -/
set_option maxRecDepth 100000
/-- what a pair is worth -/
def gn (o : Of) (r c : Rw) : Int32 := 200000 * r.2.2.2 - dO o r.2.1 c
def bW (o : Of) (nx : Nat → Int32) (r : Rw) (S : Nat) : Nat → Int32 → List Rw → Int32
  | _, b, [] => b
  | j, b, c :: t => bW o nx r S (j + 1) (if S.testBit j = false ∧ fitO o r c = true then (if b < gn o r c + nx (S ||| 2 ^ j) then gn o r c + nx (S ||| 2 ^ j) else b) else b) t
/-- the most that the reports can bring when the colours of S are taken -/
def bT (o : Of) : List Rw → Nat → Int32
  | [], _ => 0
  | r :: t, S => bW o (bT o t) r S 0 (bT o t S) o.1
theorem bT_c {o : Of} {r : Rw} {t : List Rw} {S : Nat} : bT o (r :: t) S = bW o (bT o t) r S 0 (bT o t S) o.1 := rfl
def chF (o : Of) (nx : Nat → Int32) (v : Int32) (r : Rw) (S : Nat) : Nat → List Rw → Option Nat
  | _, [] => none
  | j, c :: t => if S.testBit j = false ∧ fitO o r c = true ∧ gn o r c + nx (S ||| 2 ^ j) = v then some j else chF o nx v r S (j + 1) t
/-- the place that the first report gets -/
def chc (o : Of) (rs : List Rw) (S : Nat) : Option Nat := match rs with
  | [] => none
  | r :: t => chF o (bT o t) (bT o (r :: t) S) r S 0 o.1
def stN (S : Nat) (x : Option Nat) : Nat := match x with
  | none => S
  | some j => S ||| 2 ^ j
/-- the places that the reports get -/
def stl (o : Of) : List Rw → Nat → List (Option Nat)
  | [], _ => []
  | r :: t, S => chc o (r :: t) S :: stl o t (stN S (chc o (r :: t) S))
/-- the table from report k on -/
def TwB (f : Nat → Int32) (o : Of) (k : Nat) : Prop := ∀ i, k ≤ i → i ≤ o.2.1.length → ∀ S, S < 2 ^ o.1.length → f (1024 * i + S) = bT o (o.2.1.drop i) S
section TW12
variable {l : Launch} {E : g_E} {P : Outcome → g_G → Prop} {G : g_G} {m : Nat} {T : Tw} {o : Of}
theorem tw_gain {x y : Int32} {k j : Nat} {r c : Rw} (h : TwO (T.1 1) o) (hx : x = nI k) (hy : y = nI j) (hk : o.2.1[k]? = some r) (hj : o.1[j]? = some c) (kk : P (.returned (some (.int (gn o r c)))) (g_tG E G m T)) : g_Spc l E mX5_gain 3 [.ref m, .int x, .int y] (g_tG E G m T) P := by
  refine V_intro (plainFor_of_name plX5) (Nat.le_of_ble_eq_true rfl) ?_
  refine V_ldc 200000 q2930 dX5_gain_0 ?_
  refine V_aload_n dX5_gain_2 rfl (Or.inl ⟨_, rfl⟩) ?_
  refine V_iload_n dX5_gain_3 rfl ?_
  refine V_iconstv 5 dX5_gain_4 (by decide) ?_
  refine V_callV (q := (RX5, TX5, 23)) kX5_r q2836 q2838 qs56 tw0 rfl dX5_gain_5 ?_ (d' := 1) (as := [_, _]) (hst := rfl)
  refine (tw_r (k := k) (j := 5) h hx rfl hk (by decide) ?_)
  refine V_imul dX5_gain_8 ?_
  refine V_aload_n dX5_gain_9 rfl (Or.inl ⟨_, rfl⟩) ?_
  refine V_iload_n dX5_gain_10 rfl ?_
  refine V_iload_n dX5_gain_11 rfl ?_
  refine V_callV (q := (RX5, TX5, 23)) kX5_apartFor q2906 q2908 qs69 tw0 rfl dX5_gain_12 ?_ (d' := 2) (as := [_, _]) (hst := rfl)
  refine (tw_apartFor h hx hy hk hj ?_)
  refine V_isub dX5_gain_15 ?_
  refine V_ireturn dX5_gain_16 rfl ?_
  exact kk
theorem tw_settling (hm : g_B E ≤ m) (h : TwO (T.1 1) o) (kk : ∀ F, TwB F o 0 → P (.returned (some (.int (bT o o.2.1 0)))) (g_tG E G m (twA T 5 F))) : g_Spc l E mX5_settling 4 [.ref m] (g_tG E G m T) P := by
  have b1 := h.1
  have b2 := h.2.1
  have e0 : T.1 1 0 = nI o.1.length := h.2.2.1
  have e1 : T.1 1 1 = nI o.2.1.length := h.2.2.2.1
  have hF : ∀ F, TwO ((twA T 5 F).1 1) o := fun _ => h
  have p10 := sb_p10 b1
  have p0 : 0 < 2 ^ o.1.length := Nat.pow_pos (by decide)
  have em : ∀ q : Nat, (1024 : Int32) * nI q = nI (1024 * q) := fun q => by rw [← nI_mul]; rfl
  refine V_intro (plainFor_of_name plX5) (Nat.le_of_ble_eq_true rfl) ?_
  have place : ∀ (k S : Nat) (r : Rw) (F : Nat → Int32), o.2.1[k]? = some r → S < 2 ^ o.1.length → TwB F o (k + 1) →
      (V l E mX5_settling 4 P 160 [(0, .ref m), (1, .int (nI k)), (2, .int (nI S)), (3, .int (bT o (r :: o.2.1.drop (k + 1)) S))] [] (g_tG E G m (twA T 5 F))) →
      ∀ p, p ≤ o.1.length → ∀ b, bW o (bT o (o.2.1.drop (k + 1))) r S p b (o.1.drop p) = bT o (r :: o.2.1.drop (k + 1)) S → V l E mX5_settling 4 P 78 [(0, .ref m), (1, .int (nI k)), (2, .int (nI S)), (3, .int b), (4, .int (nI p))] [] (g_tG E G m (twA T 5 F)) := by
    intro k S r F hk hS hT nx
    have hkl := lt_of_at hk
    refine down o.1.length ?_ ?_
    · intro b hb
      rw [List.drop_length] at hb
      have hb : b = bT o (r :: o.2.1.drop (k + 1)) S := hb
      subst hb
      refine V_iload dX5_settling_78 rfl ?_
      refine V_aload_n dX5_settling_80 rfl (Or.inl ⟨_, rfl⟩) ?_
      refine V_get ckX5 tw0 0 (by decide) q2699 rfl rfl dX5_settling_81 ?_
      refine V_iconstv 0 dX5_settling_84 (by decide) ?_
      refine tw_ld 1 (0) (by decide) (by decide) rfl (show _ < 136 from by omega) (by decide) dX5_settling_85 ?_
      rw [show (twA T 5 F).1 1 0 = nI o.1.length from e0]
      refine V_icmp_ge 160 dX5_settling_86 (by decide) (fun _ => ?_) (fun c86 => absurd (Int32.le_refl _) c86)
      exact V_subk nx ⟨rfl, rfl, rfl, rfl, trivial⟩
    · intro p hp ih b hb
      obtain ⟨c, hc, hd⟩ := drop_at hp
      rw [hd] at hb
      unfold bW at hb
      have next : ∀ b', bW o (bT o (o.2.1.drop (k + 1))) r S (p + 1) b' (o.1.drop (p + 1)) = bT o (r :: o.2.1.drop (k + 1)) S → V l E mX5_settling 4 P 154 [(0, .ref m), (1, .int (nI k)), (2, .int (nI S)), (3, .int b'), (4, .int (nI p))] [] (g_tG E G m (twA T 5 F)) := by
        intro b' hb'
        refine V_iinc dX5_settling_154 rfl (by decide) ?_
        refine V_goto 78 dX5_settling_157 (by decide) ?_
        refine V_sub (L' := [(0, .ref m), (1, .int (nI k)), (2, .int (nI S)), (3, .int b'), (4, .int (nI p + Int32.ofInt 1))]) ⟨rfl, rfl, rfl, rfl, rfl, trivial⟩ ?_
        rw [show nI p + Int32.ofInt 1 = nI (p + 1) from nI_1 p]
        exact ih b' hb'
      refine V_iload dX5_settling_78 rfl ?_
      refine V_aload_n dX5_settling_80 rfl (Or.inl ⟨_, rfl⟩) ?_
      refine V_get ckX5 tw0 0 (by decide) q2699 rfl rfl dX5_settling_81 ?_
      refine V_iconstv 0 dX5_settling_84 (by decide) ?_
      refine tw_ld 1 (0) (by decide) (by decide) rfl (show _ < 136 from by omega) (by decide) dX5_settling_85 ?_
      rw [show (twA T 5 F).1 1 0 = nI o.1.length from e0]
      refine V_icmp_ge 160 dX5_settling_86 (by decide) (fun c86 => absurd c86 (nI_ge hp (by omega))) (fun _ => ?_)
      refine V_iload_n dX5_settling_89 rfl ?_
      refine V_iload dX5_settling_90 rfl ?_
      refine V_ishr dX5_settling_92 ?_
      refine V_iconstv 1 dX5_settling_93 (by decide) ?_
      refine V_iand dX5_settling_94 ?_
      rw [sb_bit S (by omega) p (by omega)]
      cases hbit : S.testBit p with
      | true =>
        rw [if_neg (by rw [hbit]; exact fun q => by cases q.1)] at hb
        refine V_iconstv 1 dX5_settling_95 (by decide) ?_
        refine V_icmp_eq 154 dX5_settling_96 (by decide) (fun _ => ?_) (fun c96 => absurd rfl c96)
        exact next b hb
      | false =>
        refine V_iconstv 1 dX5_settling_95 (by decide) ?_
        refine V_icmp_eq 154 dX5_settling_96 (by decide) (fun c96 => absurd c96 (show ¬ (0 : Int32) = 1 by decide)) (fun _ => ?_)
        refine V_aload_n dX5_settling_99 rfl (Or.inl ⟨_, rfl⟩) ?_
        refine V_iload_n dX5_settling_100 rfl ?_
        refine V_iload dX5_settling_101 rfl ?_
        refine V_callV (q := (RX5, TX5, 23)) kX5_isFit q2902 q2904 qs68 tw0 rfl dX5_settling_103 ?_ (d' := 3) (as := [_, _]) (hst := rfl)
        refine (tw_isFit (k := k) (j := p) (hF F) rfl rfl hk hc ?_)
        cases hfit : fitO o r c with
        | false =>
          rw [if_neg (by rw [hfit]; exact fun q => by cases q.2)] at hb
          refine V_if_ne 112 dX5_settling_106 (by decide) (fun c106 => absurd c106 (show ¬ ¬ b2i false = 0 by decide)) (fun _ => ?_)
          refine V_goto 154 dX5_settling_109 (by decide) ?_
          exact next b hb
        | true =>
          rw [if_pos ⟨hbit, hfit⟩] at hb
          have hS2 := sb_set hS hp
          refine V_if_ne 112 dX5_settling_106 (by decide) (fun _ => ?_) (fun c106 => absurd c106 (show ¬ b2i true = 0 by decide))
          refine V_aload_n dX5_settling_112 rfl (Or.inl ⟨_, rfl⟩) ?_
          refine V_iload_n dX5_settling_113 rfl ?_
          refine V_iload dX5_settling_114 rfl ?_
          refine V_callV (q := (RX5, TX5, 23)) kX5_gain q2926 q2928 qs73 tw0 rfl dX5_settling_116 ?_ (d' := 3) (as := [_, _]) (hst := rfl)
          refine (tw_gain (k := k) (j := p) (hF F) rfl rfl hk hc ?_)
          refine V_aload_n dX5_settling_119 rfl (Or.inl ⟨_, rfl⟩) ?_
          refine V_get ckX5 tw0 4 (by decide) q2703 rfl rfl dX5_settling_120 ?_
          refine V_sipushv 1024 dX5_settling_123 (by decide) ?_
          refine V_iload_n dX5_settling_126 rfl ?_
          refine V_iconstv 1 dX5_settling_127 (by decide) ?_
          refine V_iadd dX5_settling_128 ?_
          rw [show nI k + 1 = nI (k + 1) from nI_1 k]
          refine V_imul dX5_settling_129 ?_
          rw [em]
          refine V_iload_n dX5_settling_130 rfl ?_
          refine V_iconstv 1 dX5_settling_131 (by decide) ?_
          refine V_iload dX5_settling_132 rfl ?_
          refine V_ishl dX5_settling_134 ?_
          rw [sb_shl p (by omega)]
          refine V_ior dX5_settling_135 ?_
          rw [nx_or]
          refine V_iadd dX5_settling_136 ?_
          refine tw_ld 5 (1024 * (k + 1) + (S ||| 2 ^ p)) (by decide) (by decide) (nI_add _ _) (show _ < 7168 from by omega) (by decide) dX5_settling_137 ?_
          refine V_iadd dX5_settling_138 ?_
          refine V_istore dX5_settling_139 (by decide) ?_
          refine V_iload dX5_settling_141 rfl ?_
          refine V_iload_n dX5_settling_143 rfl ?_
          rw [twA_at, hT (k + 1) (Nat.le_refl _) hkl _ hS2]
          refine V_icmp_le 152 dX5_settling_144 (by decide) (fun c144 => ?_) (fun c144 => ?_)
          · rw [if_neg (Int32.not_lt.mpr c144)] at hb
            refine V_iload_n dX5_settling_152 rfl ?_
            refine V_istore_n dX5_settling_153 (by decide) ?_
            exact V_subk (next b hb) ⟨rfl, rfl, rfl, rfl, rfl, trivial⟩
          · rw [if_pos (Int32.not_le.mp c144)] at hb
            refine V_iload dX5_settling_147 rfl ?_
            refine V_goto 153 dX5_settling_149 (by decide) ?_
            refine V_istore_n dX5_settling_153 (by decide) ?_
            exact V_subk (next _ hb) ⟨rfl, rfl, rfl, rfl, rfl, trivial⟩
  have sets : ∀ (k : Nat) (r : Rw), o.2.1[k]? = some r →
      (∀ F, TwB F o k → V l E mX5_settling 4 P 179 [(0, .ref m), (1, .int (nI k))] [] (g_tG E G m (twA T 5 F))) →
      ∀ S, S ≤ 2 ^ o.1.length → ∀ F, TwB F o (k + 1) → (∀ s, s < S → F (1024 * k + s) = bT o (o.2.1.drop k) s) → V l E mX5_settling 4 P 48 [(0, .ref m), (1, .int (nI k)), (2, .int (nI S))] [] (g_tG E G m (twA T 5 F)) := by
    intro k r hk nx
    have hkl := lt_of_at hk
    obtain ⟨r9, hr', hd⟩ := drop_at hkl
    cases hr'.symm.trans hk
    refine down (2 ^ o.1.length) ?_ ?_
    · intro F hT hrow
      refine V_iload_n dX5_settling_48 rfl ?_
      refine V_iconstv 1 dX5_settling_49 (by decide) ?_
      refine V_aload_n dX5_settling_50 rfl (Or.inl ⟨_, rfl⟩) ?_
      refine V_get ckX5 tw0 0 (by decide) q2699 rfl rfl dX5_settling_51 ?_
      refine V_iconstv 0 dX5_settling_54 (by decide) ?_
      refine tw_ld 1 (0) (by decide) (by decide) rfl (show _ < 136 from by omega) (by decide) dX5_settling_55 ?_
      rw [show (twA T 5 F).1 1 0 = nI o.1.length from e0]
      refine V_ishl dX5_settling_56 ?_
      rw [sb_shl _ (by omega)]
      refine V_icmp_ge 179 dX5_settling_57 (by decide) (fun _ => ?_) (fun c57 => absurd (Int32.le_refl _) c57)
      refine V_subk (nx F ?_) ⟨rfl, rfl, trivial⟩
      intro i h1 h2 S hS
      by_cases e : i = k
      · subst e; exact hrow S hS
      · exact hT i (by omega) h2 S hS
    · intro S hS ih F hT hrow
      refine V_iload_n dX5_settling_48 rfl ?_
      refine V_iconstv 1 dX5_settling_49 (by decide) ?_
      refine V_aload_n dX5_settling_50 rfl (Or.inl ⟨_, rfl⟩) ?_
      refine V_get ckX5 tw0 0 (by decide) q2699 rfl rfl dX5_settling_51 ?_
      refine V_iconstv 0 dX5_settling_54 (by decide) ?_
      refine tw_ld 1 (0) (by decide) (by decide) rfl (show _ < 136 from by omega) (by decide) dX5_settling_55 ?_
      rw [show (twA T 5 F).1 1 0 = nI o.1.length from e0]
      refine V_ishl dX5_settling_56 ?_
      rw [sb_shl _ (by omega)]
      refine V_icmp_ge 179 dX5_settling_57 (by decide) (fun c57 => absurd c57 (nI_ge hS (by omega))) (fun _ => ?_)
      refine V_aload_n dX5_settling_60 rfl (Or.inl ⟨_, rfl⟩) ?_
      refine V_get ckX5 tw0 4 (by decide) q2703 rfl rfl dX5_settling_61 ?_
      refine V_sipushv 1024 dX5_settling_64 (by decide) ?_
      refine V_iload_n dX5_settling_67 rfl ?_
      refine V_iconstv 1 dX5_settling_68 (by decide) ?_
      refine V_iadd dX5_settling_69 ?_
      rw [show nI k + 1 = nI (k + 1) from nI_1 k]
      refine V_imul dX5_settling_70 ?_
      rw [em]
      refine V_iload_n dX5_settling_71 rfl ?_
      refine V_iadd dX5_settling_72 ?_
      refine tw_ld 5 (1024 * (k + 1) + S) (by decide) (by decide) (nI_add _ _) (show _ < 7168 from by omega) (by decide) dX5_settling_73 ?_
      refine V_istore_n dX5_settling_74 (by decide) ?_
      refine V_iconstv 0 dX5_settling_75 (by decide) ?_
      refine V_istore dX5_settling_76 (by decide) ?_
      rw [twA_at, hT (k + 1) (Nat.le_refl _) hkl S hS]
      refine V_sub (L' := [(0, .ref m), (1, .int (nI k)), (2, .int (nI S)), (3, .int (bT o (o.2.1.drop (k + 1)) S)), (4, .int (nI 0))]) ⟨rfl, rfl, rfl, rfl, rfl, trivial⟩ ?_
      refine place k S r F hk hS hT ?_ 0 (Nat.zero_le _) _ (by rw [List.drop_zero, bT_c])
      refine V_aload_n dX5_settling_160 rfl (Or.inl ⟨_, rfl⟩) ?_
      refine V_get ckX5 tw0 4 (by decide) q2703 rfl rfl dX5_settling_161 ?_
      refine V_sipushv 1024 dX5_settling_164 (by decide) ?_
      refine V_iload_n dX5_settling_167 rfl ?_
      refine V_imul dX5_settling_168 ?_
      rw [em]
      refine V_iload_n dX5_settling_169 rfl ?_
      refine V_iadd dX5_settling_170 ?_
      refine V_iload_n dX5_settling_171 rfl ?_
      refine tw_st 5 (1024 * k + S) hm (by decide) (by decide) (nI_add _ _) (show _ < 7168 from by omega) (by decide) dX5_settling_172 ?_
      rw [twA_at, twA_twA]
      refine V_iinc dX5_settling_173 rfl (by decide) ?_
      refine V_goto 48 dX5_settling_176 (by decide) ?_
      refine V_sub (L' := [(0, .ref m), (1, .int (nI k)), (2, .int (nI S + Int32.ofInt 1))]) ⟨rfl, rfl, rfl, trivial⟩ ?_
      rw [show nI S + Int32.ofInt 1 = nI (S + 1) from nI_1 S]
      refine ih _ (fun i h1 h2 S2 hS2 => ?_) (fun s hs => ?_)
      · exact (if_neg (by omega)).trans (hT i h1 h2 S2 hS2)
      · by_cases e : s = S
        · subst e
          rw [hd]
          exact if_pos rfl
        · exact (if_neg (by omega)).trans (hrow s (by omega))
  have rows : ∀ k, k ≤ o.2.1.length → ∀ F, TwB F o k → V l E mX5_settling 4 P 42 [(0, .ref m), (1, .int (nI k - 1))] [] (g_tG E G m (twA T 5 F)) := by
    intro k
    induction k with
    | zero =>
      intro _ F hT
      have e9 := hT 0 (Nat.le_refl _) (Nat.zero_le _) 0 p0
      rw [List.drop_zero] at e9
      refine V_iload_n dX5_settling_42 rfl ?_
      refine V_if_lt 185 dX5_settling_43 (by decide) (fun _ => ?_) (fun c43 => absurd (show nI 0 - 1 < 0 by decide) c43)
      refine V_aload_n dX5_settling_185 rfl (Or.inl ⟨_, rfl⟩) ?_
      refine V_get ckX5 tw0 4 (by decide) q2703 rfl rfl dX5_settling_186 ?_
      refine V_iconstv 0 dX5_settling_189 (by decide) ?_
      refine tw_ld 5 (0) (by decide) (by decide) rfl (show _ < 7168 from by omega) (by decide) dX5_settling_190 ?_
      rw [show (twA T 5 F).1 5 0 = bT o o.2.1 0 by rw [twA_at]; exact e9]
      refine V_ireturn dX5_settling_191 rfl ?_
      exact kk F hT
    | succ k ihk =>
      intro hk F hT
      rw [nI_pred]
      obtain ⟨r, hr, -⟩ := drop_at (show k < o.2.1.length by omega)
      refine V_iload_n dX5_settling_42 rfl ?_
      refine V_if_lt 185 dX5_settling_43 (by decide) (fun c43 => absurd c43 (nI_pos (by omega))) (fun _ => ?_)
      refine V_iconstv 0 dX5_settling_46 (by decide) ?_
      refine V_istore_n dX5_settling_47 (by decide) ?_
      refine V_sub (L' := [(0, .ref m), (1, .int (nI k)), (2, .int (nI 0))]) ⟨rfl, rfl, rfl, trivial⟩ ?_
      refine sets k r hr ?_ 0 (Nat.zero_le _) F hT (fun s hs => absurd hs (Nat.not_lt_zero s))
      intro F2 hT2
      refine V_iinc dX5_settling_179 rfl (by decide) ?_
      refine V_goto 42 dX5_settling_182 (by decide) ?_
      refine V_sub (L' := [(0, .ref m), (1, .int (nI k + Int32.ofInt (-1)))]) ⟨rfl, rfl, trivial⟩ ?_
      rw [show nI k + Int32.ofInt (-1) = nI k - 1 from by rw [Int32.sub_eq_add_neg]; rfl]
      exact ihk (by omega) F2 hT2
  have zeros : ∀ s, s ≤ 1024 → ∀ F, (∀ q, q < s → F (1024 * o.2.1.length + q) = 0) → V l E mX5_settling 4 P 2 [(0, .ref m), (1, .int (nI s))] [] (g_tG E G m (twA T 5 F)) := by
    refine down 1024 ?_ ?_
    · intro F hz
      refine V_iload_n dX5_settling_2 rfl ?_
      refine V_sipushv 1024 dX5_settling_3 (by decide) ?_
      refine V_icmp_ge 33 dX5_settling_6 (by decide) (fun _ => ?_) (fun c6 => absurd (Int32.le_refl _) c6)
      refine V_aload_n dX5_settling_33 rfl (Or.inl ⟨_, rfl⟩) ?_
      refine V_get ckX5 tw0 0 (by decide) q2699 rfl rfl dX5_settling_34 ?_
      refine V_iconstv 1 dX5_settling_37 (by decide) ?_
      refine tw_ld 1 (1) (by decide) (by decide) rfl (show _ < 136 from by omega) (by decide) dX5_settling_38 ?_
      rw [show (twA T 5 F).1 1 1 = nI o.2.1.length from e1]
      refine V_iconstv 1 dX5_settling_39 (by decide) ?_
      refine V_isub dX5_settling_40 ?_
      refine V_istore_n dX5_settling_41 (by decide) ?_
      refine V_sub (L' := [(0, .ref m), (1, .int (nI o.2.1.length - 1))]) ⟨rfl, rfl, trivial⟩ ?_
      refine rows o.2.1.length (Nat.le_refl _) F (fun i h1 h2 S hS => ?_)
      have : i = o.2.1.length := by omega
      subst this
      rw [List.drop_length]
      exact hz S (by omega)
    · intro s hs ih F hz
      refine V_iload_n dX5_settling_2 rfl ?_
      refine V_sipushv 1024 dX5_settling_3 (by decide) ?_
      refine V_icmp_ge 33 dX5_settling_6 (by decide) (fun c6 => absurd c6 (nI_ge hs (by decide))) (fun _ => ?_)
      refine V_aload_n dX5_settling_9 rfl (Or.inl ⟨_, rfl⟩) ?_
      refine V_get ckX5 tw0 4 (by decide) q2703 rfl rfl dX5_settling_10 ?_
      refine V_sipushv 1024 dX5_settling_13 (by decide) ?_
      refine V_aload_n dX5_settling_16 rfl (Or.inl ⟨_, rfl⟩) ?_
      refine V_get ckX5 tw0 0 (by decide) q2699 rfl rfl dX5_settling_17 ?_
      refine V_iconstv 1 dX5_settling_20 (by decide) ?_
      refine tw_ld 1 (1) (by decide) (by decide) rfl (show _ < 136 from by omega) (by decide) dX5_settling_21 ?_
      rw [show (twA T 5 F).1 1 1 = nI o.2.1.length from e1]
      refine V_imul dX5_settling_22 ?_
      rw [em]
      refine V_iload_n dX5_settling_23 rfl ?_
      refine V_iadd dX5_settling_24 ?_
      refine V_iconstv 0 dX5_settling_25 (by decide) ?_
      refine tw_st 5 (1024 * o.2.1.length + s) hm (by decide) (by decide) (nI_add _ _) (show _ < 7168 from by omega) (by decide) dX5_settling_26 ?_
      rw [twA_at, twA_twA]
      refine V_iinc dX5_settling_27 rfl (by decide) ?_
      refine V_goto 2 dX5_settling_30 (by decide) ?_
      refine V_sub (L' := [(0, .ref m), (1, .int (nI s + Int32.ofInt 1))]) ⟨rfl, rfl, trivial⟩ ?_
      rw [show nI s + Int32.ofInt 1 = nI (s + 1) from nI_1 s]
      refine ih _ (fun q hq => ?_)
      by_cases e : q = s
      · subst e; exact if_pos rfl
      · exact (if_neg (by omega)).trans (hz q (by omega))
  refine V_iconstv 0 dX5_settling_0 (by decide) ?_
  refine V_istore_n dX5_settling_1 (by decide) ?_
  refine V_sub (L' := [(0, .ref m), (1, .int (nI 0))]) ⟨rfl, rfl, trivial⟩ ?_
  have := zeros 0 (by decide) (T.1 5) (fun q hq => absurd hq (Nat.not_lt_zero q))
  rw [twA_self] at this
  exact this
theorem tw_choice {x y : Int32} {k S : Nat} {r : Rw} (h : TwO (T.1 1) o) (hB : TwB (T.1 5) o 0) (hx : x = nI k) (hy : y = nI S) (hk : o.2.1[k]? = some r) (hS : S < 2 ^ o.1.length) (kk : P (.returned (some (.int (plI (chc o (o.2.1.drop k) S))))) (g_tG E G m T)) : g_Spc l E mX5_choice 4 [.ref m, .int x, .int y] (g_tG E G m T) P := by
  subst hx hy
  have b1 := h.1
  have b2 := h.2.1
  have e0 : T.1 1 0 = nI o.1.length := h.2.2.1
  have p10 := sb_p10 b1
  have em : ∀ q : Nat, (1024 : Int32) * nI q = nI (1024 * q) := fun q => by rw [← nI_mul]; rfl
  have hkl := lt_of_at hk
  obtain ⟨r9, hr', hd⟩ := drop_at hkl
  cases hr'.symm.trans hk
  rw [hd] at kk
  refine V_intro (plainFor_of_name plX5) (Nat.le_of_ble_eq_true rfl) ?_
  have loop : ∀ p, p ≤ o.1.length → P (.returned (some (.int (plI (chF o (bT o (o.2.1.drop (k + 1))) (bT o (r :: o.2.1.drop (k + 1)) S) r S p (o.1.drop p)))))) (g_tG E G m T) → V l E mX5_choice 4 P 2 [(0, .ref m), (1, .int (nI k)), (2, .int (nI S)), (3, .int (nI p))] [] (g_tG E G m T) := by
    refine down o.1.length ?_ ?_
    · intro kk
      rw [List.drop_length] at kk
      refine V_iload_n dX5_choice_2 rfl ?_
      refine V_aload_n dX5_choice_3 rfl (Or.inl ⟨_, rfl⟩) ?_
      refine V_get ckX5 tw0 0 (by decide) q2699 rfl rfl dX5_choice_4 ?_
      refine V_iconstv 0 dX5_choice_7 (by decide) ?_
      refine tw_ld 1 (0) (by decide) (by decide) rfl (show _ < 136 from by omega) (by decide) dX5_choice_8 ?_
      rw [e0]
      refine V_icmp_ge 81 dX5_choice_9 (by decide) (fun _ => ?_) (fun c9 => absurd (Int32.le_refl _) c9)
      refine V_iconstv (-1) dX5_choice_81 (by decide) ?_
      refine V_ireturn dX5_choice_82 rfl ?_
      exact kk
    · intro p hp ih kk
      obtain ⟨c, hc, hd2⟩ := drop_at hp
      rw [hd2] at kk
      unfold chF at kk
      have next : P (.returned (some (.int (plI (chF o (bT o (o.2.1.drop (k + 1))) (bT o (r :: o.2.1.drop (k + 1)) S) r S (p + 1) (o.1.drop (p + 1))))))) (g_tG E G m T) → V l E mX5_choice 4 P 75 [(0, .ref m), (1, .int (nI k)), (2, .int (nI S)), (3, .int (nI p))] [] (g_tG E G m T) := by
        intro kk'
        refine V_iinc dX5_choice_75 rfl (by decide) ?_
        refine V_goto 2 dX5_choice_78 (by decide) ?_
        refine V_sub (L' := [(0, .ref m), (1, .int (nI k)), (2, .int (nI S)), (3, .int (nI p + Int32.ofInt 1))]) ⟨rfl, rfl, rfl, rfl, trivial⟩ ?_
        rw [show nI p + Int32.ofInt 1 = nI (p + 1) from nI_1 p]
        exact ih kk'
      refine V_iload_n dX5_choice_2 rfl ?_
      refine V_aload_n dX5_choice_3 rfl (Or.inl ⟨_, rfl⟩) ?_
      refine V_get ckX5 tw0 0 (by decide) q2699 rfl rfl dX5_choice_4 ?_
      refine V_iconstv 0 dX5_choice_7 (by decide) ?_
      refine tw_ld 1 (0) (by decide) (by decide) rfl (show _ < 136 from by omega) (by decide) dX5_choice_8 ?_
      rw [e0]
      refine V_icmp_ge 81 dX5_choice_9 (by decide) (fun c9 => absurd c9 (nI_ge hp (by omega))) (fun _ => ?_)
      refine V_iload_n dX5_choice_12 rfl ?_
      refine V_iload_n dX5_choice_13 rfl ?_
      refine V_ishr dX5_choice_14 ?_
      refine V_iconstv 1 dX5_choice_15 (by decide) ?_
      refine V_iand dX5_choice_16 ?_
      rw [sb_bit S (by omega) p (by omega)]
      cases hbit : S.testBit p with
      | true =>
        rw [if_neg (by rw [hbit]; exact fun q => by cases q.1)] at kk
        refine V_iconstv 1 dX5_choice_17 (by decide) ?_
        refine V_icmp_eq 75 dX5_choice_18 (by decide) (fun _ => ?_) (fun c18 => absurd rfl c18)
        exact next kk
      | false =>
        refine V_iconstv 1 dX5_choice_17 (by decide) ?_
        refine V_icmp_eq 75 dX5_choice_18 (by decide) (fun c18 => absurd c18 (show ¬ (0 : Int32) = 1 by decide)) (fun _ => ?_)
        refine V_aload_n dX5_choice_21 rfl (Or.inl ⟨_, rfl⟩) ?_
        refine V_iload_n dX5_choice_22 rfl ?_
        refine V_iload_n dX5_choice_23 rfl ?_
        refine V_callV (q := (RX5, TX5, 23)) kX5_isFit q2902 q2904 qs68 tw0 rfl dX5_choice_24 ?_ (d' := 3) (as := [_, _]) (hst := rfl)
        refine (tw_isFit (k := k) (j := p) h rfl rfl hk hc ?_)
        cases hfit : fitO o r c with
        | false =>
          rw [if_neg (by rw [hfit]; exact fun q => by cases q.2.1)] at kk
          refine V_if_ne 33 dX5_choice_27 (by decide) (fun c27 => absurd c27 (show ¬ ¬ b2i false = 0 by decide)) (fun _ => ?_)
          refine V_goto 75 dX5_choice_30 (by decide) ?_
          exact next kk
        | true =>
          have hS2 := sb_set hS hp
          refine V_if_ne 33 dX5_choice_27 (by decide) (fun _ => ?_) (fun c27 => absurd c27 (show ¬ b2i true = 0 by decide))
          refine V_aload_n dX5_choice_33 rfl (Or.inl ⟨_, rfl⟩) ?_
          refine V_iload_n dX5_choice_34 rfl ?_
          refine V_iload_n dX5_choice_35 rfl ?_
          refine V_callV (q := (RX5, TX5, 23)) kX5_gain q2926 q2928 qs73 tw0 rfl dX5_choice_36 ?_ (d' := 3) (as := [_, _]) (hst := rfl)
          refine (tw_gain (k := k) (j := p) h rfl rfl hk hc ?_)
          refine V_aload_n dX5_choice_39 rfl (Or.inl ⟨_, rfl⟩) ?_
          refine V_get ckX5 tw0 4 (by decide) q2703 rfl rfl dX5_choice_40 ?_
          refine V_sipushv 1024 dX5_choice_43 (by decide) ?_
          refine V_iload_n dX5_choice_46 rfl ?_
          refine V_iconstv 1 dX5_choice_47 (by decide) ?_
          refine V_iadd dX5_choice_48 ?_
          rw [show nI k + 1 = nI (k + 1) from nI_1 k]
          refine V_imul dX5_choice_49 ?_
          rw [em]
          refine V_iload_n dX5_choice_50 rfl ?_
          refine V_iconstv 1 dX5_choice_51 (by decide) ?_
          refine V_iload_n dX5_choice_52 rfl ?_
          refine V_ishl dX5_choice_53 ?_
          rw [sb_shl p (by omega)]
          refine V_ior dX5_choice_54 ?_
          rw [nx_or]
          refine V_iadd dX5_choice_55 ?_
          refine tw_ld 5 (1024 * (k + 1) + (S ||| 2 ^ p)) (by decide) (by decide) (nI_add _ _) (show _ < 7168 from by omega) (by decide) dX5_choice_56 ?_
          rw [hB (k + 1) (Nat.zero_le _) hkl _ hS2]
          refine V_iadd dX5_choice_57 ?_
          refine V_aload_n dX5_choice_58 rfl (Or.inl ⟨_, rfl⟩) ?_
          refine V_get ckX5 tw0 4 (by decide) q2703 rfl rfl dX5_choice_59 ?_
          refine V_sipushv 1024 dX5_choice_62 (by decide) ?_
          refine V_iload_n dX5_choice_65 rfl ?_
          refine V_imul dX5_choice_66 ?_
          rw [em]
          refine V_iload_n dX5_choice_67 rfl ?_
          refine V_iadd dX5_choice_68 ?_
          refine tw_ld 5 (1024 * k + S) (by decide) (by decide) (nI_add _ _) (show _ < 7168 from by omega) (by decide) dX5_choice_69 ?_
          rw [hB k (Nat.zero_le _) (Nat.le_of_lt hkl) _ hS, hd]
          refine V_icmp_ne 75 dX5_choice_70 (by decide) (fun c70 => ?_) (fun c70 => ?_)
          · rw [if_neg (fun q => c70 q.2.2)] at kk
            exact next kk
          · rw [if_pos ⟨hbit, hfit, c70⟩] at kk
            refine V_iload_n dX5_choice_73 rfl ?_
            refine V_ireturn dX5_choice_74 rfl ?_
            exact kk
  refine V_iconstv 0 dX5_choice_0 (by decide) ?_
  refine V_istore_n dX5_choice_1 (by decide) ?_
  refine V_sub (L' := [(0, .ref m), (1, .int (nI k)), (2, .int (nI S)), (3, .int (nI 0))]) ⟨rfl, rfl, rfl, rfl, trivial⟩ ?_
  exact loop 0 (Nat.zero_le _) kk
end TW12
