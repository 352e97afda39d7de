/-! REFERENCE 18: words, arguments, commands -/
set_option maxRecDepth 100000
def pk7 (j : Nat) (a b c d e f g : Int32) : Int32 := match j with
  | 0 => a
  | 1 => b
  | 2 => c
  | 3 => d
  | 4 => e
  | 5 => f
  | 6 => g
  | _ => 0
/-- a letter of a word -/
def spl (kind k : Nat) : Int32 := match kind with
  | 0 => pk7 k 102 105 110 100 0 0 0
  | 1 => pk7 k 114 101 112 111 114 116 0
  | 2 => pk7 k 100 114 111 112 0 0 0
  | 3 => pk7 k 100 105 115 99 97 114 100
  | 4 => pk7 k 109 101 116 114 105 99 0
  | 5 => pk7 k 114 101 116 117 114 110 0
  | 6 => pk7 k 115 101 116 116 108 101 0
  | 7 => pk7 k 109 105 120 0 0 0 0
  | _ => pk7 k 100 97 121 0 0 0 0
def mtF (L : List Int32) (i kind : Nat) : Nat → Nat → Nat
  | 0, k => k
  | f + 1, k => if 0 < spl kind k ∧ mkC L (i + k) = spl kind k then mtF L i kind f (k + 1) else k
/-- kind, place, wrong -/
def wdF (L : List Int32) (i : Nat) : Nat → Nat → Nat → Nat × Nat × Bool
  | 0, _, g => (0, i + g, true)
  | f + 1, kind, g => if spl kind (mtF L i kind 7 0) = 0 then (kind, i + mtF L i kind 7 0, false) else wdF L i f (kind + 1) (if g < mtF L i kind 7 0 then mtF L i kind 7 0 else g)
def wdR (L : List Int32) (i : Nat) : Nat × Nat × Bool := wdF L i 9 0 0
/-- place, wrong, arguments -/
abbrev RS : Type := Nat × Bool × (Nat → Int32)
def rs (L : List Int32) (n : Nat) (c : Int32) (o : Nat) (s : RS) : RS := ((rdR s.2.1 L s.1 c).2.1, (rdR s.2.1 L s.1 c).2.2, upd s.2.2 (8 * n + o) (rdR s.2.1 L s.1 c).1)
def rsC (L : List Int32) (n : Nat) (s : RS) : RS := rs L n 32 3 (rs L n 47 2 (rs L n 47 1 (rs L n 32 0 s)))
def isM (c : Int32) : Bool := decide (c = 109 ∨ c = 115 ∨ c = 103)
def rsM (L : List Int32) (n : Nat) (s : RS) : RS :=
  (if (rdW s.2.1 L s.1 32 || !isM (mkW (rdW s.2.1 L s.1 32) L (if rdW s.2.1 L s.1 32 = true then s.1 else s.1 + 1))) = true then (if rdW s.2.1 L s.1 32 = true then s.1 else s.1 + 1) else (if rdW s.2.1 L s.1 32 = true then s.1 else s.1 + 1) + 1, rdW s.2.1 L s.1 32 || !isM (mkW (rdW s.2.1 L s.1 32) L (if rdW s.2.1 L s.1 32 = true then s.1 else s.1 + 1)), upd s.2.2 (8 * n) (mkW (rdW s.2.1 L s.1 32 || !isM (mkW (rdW s.2.1 L s.1 32) L (if rdW s.2.1 L s.1 32 = true then s.1 else s.1 + 1))) L (if rdW s.2.1 L s.1 32 = true then s.1 else s.1 + 1)))
def rsA (L : List Int32) (n kind : Nat) (s : RS) : RS := match kind with
  | 0 => rsC L n s
  | 1 => rs L n 32 4 (rsC L n s)
  | 4 => rsM L n s
  | 5 => rs L n 32 1 (rs L n 32 0 s)
  | 7 => rs L n 32 1 (rs L n 32 0 s)
  | 6 => s
  | 8 => if mkW s.2.1 L s.1 = 32 then rs L n 32 0 (s.1, s.2.1, upd s.2.2 (8 * n) 1) else (s.1, s.2.1, upd s.2.2 (8 * n) 1)
  | _ => rs L n 32 0 s
theorem mtF_le {L : List Int32} {i kind f k : Nat} (h : i + k ≤ L.length) : k ≤ mtF L i kind f k ∧ i + mtF L i kind f k ≤ L.length ∧ mtF L i kind f k ≤ k + f := by
  induction f generalizing k with
  | zero => exact ⟨Nat.le_refl _, h, Nat.le_refl _⟩
  | succ f ih =>
    unfold mtF
    by_cases e : 0 < spl kind k ∧ mkC L (i + k) = spl kind k
    · rw [if_pos e]
      have hin : i + k < L.length := mkC_in e.2 (fun q => by rw [q] at e; exact absurd e.1 (by decide))
      have := ih (k := k + 1) (by omega)
      exact ⟨by omega, this.2.1, by omega⟩
    · rw [if_neg e]
      exact ⟨Nat.le_refl _, h, by omega⟩
theorem wdF_le {L : List Int32} {i f kind g : Nat} (h : i ≤ L.length) (hg : i + g ≤ L.length) (hk : kind + f ≤ 9) (hk9 : 0 < 9) : i ≤ (wdF L i f kind g).2.1 ∧ (wdF L i f kind g).2.1 ≤ L.length ∧ (wdF L i f kind g).1 < 9 := by
  induction f generalizing kind g with
  | zero => exact ⟨Nat.le_add_right _ _, hg, (show 0 < 9 by decide)⟩
  | succ f ih =>
    unfold wdF
    have hm := mtF_le (L := L) (i := i) (kind := kind) (f := 7) (k := 0) (by omega)
    by_cases e : spl kind (mtF L i kind 7 0) = 0
    · rw [if_pos e]
      exact ⟨Nat.le_add_right _ _, hm.2.1, by show kind < 9; omega⟩
    · rw [if_neg e]
      refine ih ?_ (by omega)
      split
      · exact hm.2.1
      · exact hg
section TW19
variable {l : Launch} {E : g_E} {P : Outcome → g_G → Prop} {G : g_G} {m : Nat} {T : Tw} {L : List Int32} {i n : Nat} {w : Bool} {K A : Nat → Int32}
theorem tw_pick {x a b c d e f g : Int32} {j : Nat} (hx : x = nI j) (hj : j ≤ 7) (kk : P (.returned (some (.int (pk7 j a b c d e f g)))) G) : g_Spc l E mX5_pick 0 [.int x, .int a, .int b, .int c, .int d, .int e, .int f, .int g] G P := by
  subst hx
  refine V_intro (plainFor_of_name plX5) (Nat.le_of_ble_eq_true rfl) ?_
  match j, hj, kk with
  | 0, _, kk =>
    refine V_iload_n dX5_pick_0 rfl ?_
    refine V_tableIn 44 dX5_pick_1 (by decide) (by decide) rfl (by decide) ?_
    refine V_iload_n dX5_pick_44 rfl ?_
    refine V_ireturn dX5_pick_45 rfl ?_
    exact kk
  | 1, _, kk =>
    refine V_iload_n dX5_pick_0 rfl ?_
    refine V_tableIn 46 dX5_pick_1 (by decide) (by decide) rfl (by decide) ?_
    refine V_iload_n dX5_pick_46 rfl ?_
    refine V_ireturn dX5_pick_47 rfl ?_
    exact kk
  | 2, _, kk =>
    refine V_iload_n dX5_pick_0 rfl ?_
    refine V_tableIn 48 dX5_pick_1 (by decide) (by decide) rfl (by decide) ?_
    refine V_iload_n dX5_pick_48 rfl ?_
    refine V_ireturn dX5_pick_49 rfl ?_
    exact kk
  | 3, _, kk =>
    refine V_iload_n dX5_pick_0 rfl ?_
    refine V_tableIn 50 dX5_pick_1 (by decide) (by decide) rfl (by decide) ?_
    refine V_iload dX5_pick_50 rfl ?_
    refine V_ireturn dX5_pick_52 rfl ?_
    exact kk
  | 4, _, kk =>
    refine V_iload_n dX5_pick_0 rfl ?_
    refine V_tableIn 53 dX5_pick_1 (by decide) (by decide) rfl (by decide) ?_
    refine V_iload dX5_pick_53 rfl ?_
    refine V_ireturn dX5_pick_55 rfl ?_
    exact kk
  | 5, _, kk =>
    refine V_iload_n dX5_pick_0 rfl ?_
    refine V_tableIn 56 dX5_pick_1 (by decide) (by decide) rfl (by decide) ?_
    refine V_iload dX5_pick_56 rfl ?_
    refine V_ireturn dX5_pick_58 rfl ?_
    exact kk
  | 6, _, kk =>
    refine V_iload_n dX5_pick_0 rfl ?_
    refine V_tableIn 59 dX5_pick_1 (by decide) (by decide) rfl (by decide) ?_
    refine V_iload dX5_pick_59 rfl ?_
    refine V_ireturn dX5_pick_61 rfl ?_
    exact kk
  | 7, _, kk =>
    refine V_iload_n dX5_pick_0 rfl ?_
    refine V_tableOut 62 dX5_pick_1 (Or.inr (by decide)) (by decide) ?_
    refine V_iconstv 0 dX5_pick_62 (by decide) ?_
    refine V_ireturn dX5_pick_63 rfl ?_
    exact kk
theorem tw_spelled {x y : Int32} {kind k : Nat} (hx : x = nI kind) (hy : y = nI k) (hk : kind < 9) (hk7 : k ≤ 7) (kk : P (.returned (some (.int (spl kind k)))) G) : g_Spc l E mX5_spelled 1 [.int x, .int y] G P := by
  subst hx
  refine V_intro (plainFor_of_name plX5) (Nat.le_of_ble_eq_true rfl) ?_
  match kind, hk, kk with
  | 0, _, kk =>
    refine V_iload_n dX5_spelled_0 rfl ?_
    refine V_tableIn 48 dX5_spelled_1 (by decide) (by decide) rfl (by decide) ?_
    refine V_iload_n dX5_spelled_48 rfl ?_
    refine V_bipushv 102 dX5_spelled_49 (by decide) ?_
    refine V_bipushv 105 dX5_spelled_51 (by decide) ?_
    refine V_bipushv 110 dX5_spelled_53 (by decide) ?_
    refine V_bipushv 100 dX5_spelled_55 (by decide) ?_
    refine V_iconstv 0 dX5_spelled_57 (by decide) ?_
    refine V_iconstv 0 dX5_spelled_58 (by decide) ?_
    refine V_iconstv 0 dX5_spelled_59 (by decide) ?_
    refine V_callS kX5_pick q3224 q3225 dX5_spelled_60 ?_ (d' := 0) (as := [_, _, _, _, _, _, _, _]) (hst := rfl)
    refine (tw_pick hy hk7 ?_)
    refine V_ireturn dX5_spelled_63 rfl ?_
    exact kk
  | 1, _, kk =>
    refine V_iload_n dX5_spelled_0 rfl ?_
    refine V_tableIn 64 dX5_spelled_1 (by decide) (by decide) rfl (by decide) ?_
    refine V_iload_n dX5_spelled_64 rfl ?_
    refine V_bipushv 114 dX5_spelled_65 (by decide) ?_
    refine V_bipushv 101 dX5_spelled_67 (by decide) ?_
    refine V_bipushv 112 dX5_spelled_69 (by decide) ?_
    refine V_bipushv 111 dX5_spelled_71 (by decide) ?_
    refine V_bipushv 114 dX5_spelled_73 (by decide) ?_
    refine V_bipushv 116 dX5_spelled_75 (by decide) ?_
    refine V_iconstv 0 dX5_spelled_77 (by decide) ?_
    refine V_callS kX5_pick q3224 q3225 dX5_spelled_78 ?_ (d' := 0) (as := [_, _, _, _, _, _, _, _]) (hst := rfl)
    refine (tw_pick hy hk7 ?_)
    refine V_ireturn dX5_spelled_81 rfl ?_
    exact kk
  | 2, _, kk =>
    refine V_iload_n dX5_spelled_0 rfl ?_
    refine V_tableIn 82 dX5_spelled_1 (by decide) (by decide) rfl (by decide) ?_
    refine V_iload_n dX5_spelled_82 rfl ?_
    refine V_bipushv 100 dX5_spelled_83 (by decide) ?_
    refine V_bipushv 114 dX5_spelled_85 (by decide) ?_
    refine V_bipushv 111 dX5_spelled_87 (by decide) ?_
    refine V_bipushv 112 dX5_spelled_89 (by decide) ?_
    refine V_iconstv 0 dX5_spelled_91 (by decide) ?_
    refine V_iconstv 0 dX5_spelled_92 (by decide) ?_
    refine V_iconstv 0 dX5_spelled_93 (by decide) ?_
    refine V_callS kX5_pick q3224 q3225 dX5_spelled_94 ?_ (d' := 0) (as := [_, _, _, _, _, _, _, _]) (hst := rfl)
    refine (tw_pick hy hk7 ?_)
    refine V_ireturn dX5_spelled_97 rfl ?_
    exact kk
  | 3, _, kk =>
    refine V_iload_n dX5_spelled_0 rfl ?_
    refine V_tableIn 98 dX5_spelled_1 (by decide) (by decide) rfl (by decide) ?_
    refine V_iload_n dX5_spelled_98 rfl ?_
    refine V_bipushv 100 dX5_spelled_99 (by decide) ?_
    refine V_bipushv 105 dX5_spelled_101 (by decide) ?_
    refine V_bipushv 115 dX5_spelled_103 (by decide) ?_
    refine V_bipushv 99 dX5_spelled_105 (by decide) ?_
    refine V_bipushv 97 dX5_spelled_107 (by decide) ?_
    refine V_bipushv 114 dX5_spelled_109 (by decide) ?_
    refine V_bipushv 100 dX5_spelled_111 (by decide) ?_
    refine V_callS kX5_pick q3224 q3225 dX5_spelled_113 ?_ (d' := 0) (as := [_, _, _, _, _, _, _, _]) (hst := rfl)
    refine (tw_pick hy hk7 ?_)
    refine V_ireturn dX5_spelled_116 rfl ?_
    exact kk
  | 4, _, kk =>
    refine V_iload_n dX5_spelled_0 rfl ?_
    refine V_tableIn 117 dX5_spelled_1 (by decide) (by decide) rfl (by decide) ?_
    refine V_iload_n dX5_spelled_117 rfl ?_
    refine V_bipushv 109 dX5_spelled_118 (by decide) ?_
    refine V_bipushv 101 dX5_spelled_120 (by decide) ?_
    refine V_bipushv 116 dX5_spelled_122 (by decide) ?_
    refine V_bipushv 114 dX5_spelled_124 (by decide) ?_
    refine V_bipushv 105 dX5_spelled_126 (by decide) ?_
    refine V_bipushv 99 dX5_spelled_128 (by decide) ?_
    refine V_iconstv 0 dX5_spelled_130 (by decide) ?_
    refine V_callS kX5_pick q3224 q3225 dX5_spelled_131 ?_ (d' := 0) (as := [_, _, _, _, _, _, _, _]) (hst := rfl)
    refine (tw_pick hy hk7 ?_)
    refine V_ireturn dX5_spelled_134 rfl ?_
    exact kk
  | 5, _, kk =>
    refine V_iload_n dX5_spelled_0 rfl ?_
    refine V_tableIn 135 dX5_spelled_1 (by decide) (by decide) rfl (by decide) ?_
    refine V_iload_n dX5_spelled_135 rfl ?_
    refine V_bipushv 114 dX5_spelled_136 (by decide) ?_
    refine V_bipushv 101 dX5_spelled_138 (by decide) ?_
    refine V_bipushv 116 dX5_spelled_140 (by decide) ?_
    refine V_bipushv 117 dX5_spelled_142 (by decide) ?_
    refine V_bipushv 114 dX5_spelled_144 (by decide) ?_
    refine V_bipushv 110 dX5_spelled_146 (by decide) ?_
    refine V_iconstv 0 dX5_spelled_148 (by decide) ?_
    refine V_callS kX5_pick q3224 q3225 dX5_spelled_149 ?_ (d' := 0) (as := [_, _, _, _, _, _, _, _]) (hst := rfl)
    refine (tw_pick hy hk7 ?_)
    refine V_ireturn dX5_spelled_152 rfl ?_
    exact kk
  | 6, _, kk =>
    refine V_iload_n dX5_spelled_0 rfl ?_
    refine V_tableIn 153 dX5_spelled_1 (by decide) (by decide) rfl (by decide) ?_
    refine V_iload_n dX5_spelled_153 rfl ?_
    refine V_bipushv 115 dX5_spelled_154 (by decide) ?_
    refine V_bipushv 101 dX5_spelled_156 (by decide) ?_
    refine V_bipushv 116 dX5_spelled_158 (by decide) ?_
    refine V_bipushv 116 dX5_spelled_160 (by decide) ?_
    refine V_bipushv 108 dX5_spelled_162 (by decide) ?_
    refine V_bipushv 101 dX5_spelled_164 (by decide) ?_
    refine V_iconstv 0 dX5_spelled_166 (by decide) ?_
    refine V_callS kX5_pick q3224 q3225 dX5_spelled_167 ?_ (d' := 0) (as := [_, _, _, _, _, _, _, _]) (hst := rfl)
    refine (tw_pick hy hk7 ?_)
    refine V_ireturn dX5_spelled_170 rfl ?_
    exact kk
  | 7, _, kk =>
    refine V_iload_n dX5_spelled_0 rfl ?_
    refine V_tableIn 171 dX5_spelled_1 (by decide) (by decide) rfl (by decide) ?_
    refine V_iload_n dX5_spelled_171 rfl ?_
    refine V_bipushv 109 dX5_spelled_172 (by decide) ?_
    refine V_bipushv 105 dX5_spelled_174 (by decide) ?_
    refine V_bipushv 120 dX5_spelled_176 (by decide) ?_
    refine V_iconstv 0 dX5_spelled_178 (by decide) ?_
    refine V_iconstv 0 dX5_spelled_179 (by decide) ?_
    refine V_iconstv 0 dX5_spelled_180 (by decide) ?_
    refine V_iconstv 0 dX5_spelled_181 (by decide) ?_
    refine V_callS kX5_pick q3224 q3225 dX5_spelled_182 ?_ (d' := 0) (as := [_, _, _, _, _, _, _, _]) (hst := rfl)
    refine (tw_pick hy hk7 ?_)
    refine V_ireturn dX5_spelled_185 rfl ?_
    exact kk
  | 8, _, kk =>
    refine V_iload_n dX5_spelled_0 rfl ?_
    refine V_tableOut 186 dX5_spelled_1 (Or.inr (by decide)) (by decide) ?_
    refine V_iload_n dX5_spelled_186 rfl ?_
    refine V_bipushv 100 dX5_spelled_187 (by decide) ?_
    refine V_bipushv 97 dX5_spelled_189 (by decide) ?_
    refine V_bipushv 121 dX5_spelled_191 (by decide) ?_
    refine V_iconstv 0 dX5_spelled_193 (by decide) ?_
    refine V_iconstv 0 dX5_spelled_194 (by decide) ?_
    refine V_iconstv 0 dX5_spelled_195 (by decide) ?_
    refine V_iconstv 0 dX5_spelled_196 (by decide) ?_
    refine V_callS kX5_pick q3224 q3225 dX5_spelled_197 ?_ (d' := 0) (as := [_, _, _, _, _, _, _, _]) (hst := rfl)
    refine (tw_pick hy hk7 ?_)
    refine V_ireturn dX5_spelled_200 rfl ?_
    exact kk
theorem spl_7 : ∀ kind, kind < 9 → spl kind 7 = 0 := by decide +kernel
theorem spl_nn : ∀ kind, kind < 9 → ∀ k, k ≤ 7 → ¬ spl kind k < 0 := by decide +kernel
theorem tw_word (hm : g_B E ≤ m) (hL : TxT T L) (hi : i ≤ L.length) (kk : P (.returned (some (.int (nI (wdR L i).1)))) (g_tG E G m (pT T (wdR L i).2.1 (w || (wdR L i).2.2) n K A))) : g_Spc l E mX5_word 2 [.ref m] (g_tG E G m (pT T i w n K A)) P := by
  have hLl := hL.2.1
  refine V_intro (plainFor_of_name plX5) (Nat.le_of_ble_eq_true rfl) ?_
  have kinds : ∀ f kind, kind + f = 9 → ∀ g, i + g ≤ L.length → wdF L i f kind g = wdR L i → V l E mX5_word 2 P 4 [(0, .ref m), (1, .int (nI g)), (2, .int (nI kind))] [] (g_tG E G m (pT T i w n K A)) := by
    intro f
    induction f with
    | zero =>
      intro kind hk g hg he
      have he : (0, i + g, true) = wdR L i := he
      rw [← he] at kk
      have : kind = 9 := by omega
      subst this
      refine V_iload_n dX5_word_4 rfl ?_
      refine V_bipushv 9 dX5_word_5 (by decide) ?_
      refine V_icmp_ge 95 dX5_word_7 (by decide) (fun _ => ?_) (fun c7 => absurd (by decide) c7)
      refine V_aload_n dX5_word_95 rfl (Or.inl ⟨_, rfl⟩) ?_
      refine V_dup dX5_word_96 rfl ?_
      refine V_get ckX5 tw0 20 (by decide) q2719 rfl rfl dX5_word_97 ?_
      rw [show (pT T i w n K A).2 20 = nI i from rfl]
      refine V_iload_n dX5_word_100 rfl ?_
      refine V_iadd dX5_word_101 ?_
      rw [nI_add]
      refine tw_putI 20 hm (by decide) q2719 rfl rfl rfl rfl rfl dX5_word_102 ?_
      rw [pT_pos rfl]
      refine V_aload_n dX5_word_105 rfl (Or.inl ⟨_, rfl⟩) ?_
      refine V_iconstv 1 dX5_word_106 (by decide) ?_
      refine tw_putI 22 hm (by decide) q2721 rfl rfl rfl rfl rfl dX5_word_107 ?_
      refine V_iconstv 0 dX5_word_110 (by decide) ?_
      refine V_ireturn dX5_word_111 rfl ?_
      rw [pT_wr (w' := true) (v := 1) rfl]
      rw [Bool.or_true] at kk
      exact kk
    | succ f ih =>
      intro kind hk g hg he
      have hk9 : kind < 9 := by omega
      have hm0 := mtF_le (L := L) (i := i) (kind := kind) (f := 7) (k := 0) (by omega)
      have he : (if spl kind (mtF L i kind 7 0) = 0 then (kind, i + mtF L i kind 7 0, false) else wdF L i f (kind + 1) (if g < mtF L i kind 7 0 then mtF L i kind 7 0 else g)) = wdR L i := he
      have done : ∀ k, k = mtF L i kind 7 0 → V l E mX5_word 2 P 58 [(0, .ref m), (1, .int (nI g)), (2, .int (nI kind)), (3, .int (nI k))] [] (g_tG E G m (pT T i w n K A)) := by
        intro k hkm
        subst hkm
        refine V_iload_n dX5_word_58 rfl ?_
        refine V_iload_n dX5_word_59 rfl ?_
        refine V_callS kX5_spelled q3221 q3222 dX5_word_60 ?_ (d' := 1) (as := [_, _]) (hst := rfl)
        refine (tw_spelled (k := mtF L i kind 7 0) rfl rfl hk9 (by omega) ?_)
        by_cases hz : spl kind (mtF L i kind 7 0) = 0
        · rw [if_pos hz] at he
          rw [← he] at kk
          refine V_if_ne 78 dX5_word_63 (by decide) (fun c63 => absurd c63 (not_not_intro hz)) (fun _ => ?_)
          refine V_aload_n dX5_word_66 rfl (Or.inl ⟨_, rfl⟩) ?_
          refine V_dup dX5_word_67 rfl ?_
          refine V_get ckX5 tw0 20 (by decide) q2719 rfl rfl dX5_word_68 ?_
          rw [show (pT T i w n K A).2 20 = nI i from rfl]
          refine V_iload_n dX5_word_71 rfl ?_
          refine V_iadd dX5_word_72 ?_
          rw [nI_add]
          refine tw_putI 20 hm (by decide) q2719 rfl rfl rfl rfl rfl dX5_word_73 ?_
          refine V_iload_n dX5_word_76 rfl ?_
          refine V_ireturn dX5_word_77 rfl ?_
          rw [pT_pos rfl]
          rw [Bool.or_false] at kk
          exact kk
        · rw [if_neg hz] at he
          have nx : ∀ v, v = (if g < mtF L i kind 7 0 then mtF L i kind 7 0 else g) → V l E mX5_word 2 P 88 [(0, .ref m), (2, .int (nI kind)), (3, .int (nI (mtF L i kind 7 0)))] [.int (nI v)] (g_tG E G m (pT T i w n K A)) := by
            intro v hv
            rw [← hv] at he
            refine V_istore_n dX5_word_88 (by decide) ?_
            refine V_iinc dX5_word_89 rfl (by decide) ?_
            refine V_goto 4 dX5_word_92 (by decide) ?_
            refine V_sub (L' := [(0, .ref m), (1, .int (nI v)), (2, .int (nI kind + Int32.ofInt 1))]) ⟨rfl, rfl, rfl, trivial⟩ ?_
            rw [show nI kind + Int32.ofInt 1 = nI (kind + 1) from nI_1 kind]
            refine ih (kind + 1) (by omega) v ?_ he
            rw [hv]
            split
            · exact hm0.2.1
            · exact hg
          refine V_if_ne 78 dX5_word_63 (by decide) (fun _ => ?_) (fun c63 => absurd c63 hz)
          refine V_iload_n dX5_word_78 rfl ?_
          refine V_iload_n dX5_word_79 rfl ?_
          by_cases hgl : g < mtF L i kind 7 0
          · refine V_icmp_le 87 dX5_word_80 (by decide) (fun c80 => absurd c80 (fun z => absurd ((nI_leI (by omega) (by omega)).mp z) (by omega))) (fun _ => ?_)
            refine V_iload_n dX5_word_83 rfl ?_
            refine V_goto 88 dX5_word_84 (by decide) ?_
            exact V_subk (nx _ (if_pos hgl).symm) ⟨rfl, rfl, rfl, trivial⟩
          · refine V_icmp_le 87 dX5_word_80 (by decide) (fun _ => ?_) (fun c80 => absurd (nI_le (by omega) (by omega)) c80)
            refine V_iload_n dX5_word_87 rfl ?_
            exact V_subk (nx _ (if_neg hgl).symm) ⟨rfl, rfl, rfl, trivial⟩
      have loop : ∀ q k, k + q = 7 → i + k ≤ L.length → mtF L i kind q k = mtF L i kind 7 0 → V l E mX5_word 2 P 12 [(0, .ref m), (1, .int (nI g)), (2, .int (nI kind)), (3, .int (nI k))] [] (g_tG E G m (pT T i w n K A)) := by
        intro q
        induction q with
        | zero =>
          intro k hkq hkl hmt
          have hmt : k = mtF L i kind 7 0 := hmt
          have e7 : k = 7 := by omega
          refine V_iload_n dX5_word_12 rfl ?_
          refine V_iload_n dX5_word_13 rfl ?_
          refine V_callS kX5_spelled q3221 q3222 dX5_word_14 ?_ (d' := 1) (as := [_, _]) (hst := rfl)
          refine (tw_spelled (k := k) rfl rfl hk9 (by omega) ?_)
          rw [e7, spl_7 kind hk9]
          refine V_if_le 58 dX5_word_17 (by decide) (fun _ => ?_) (fun c17 => absurd (Int32.le_refl _) c17)
          rw [← e7]
          exact done k hmt
        | succ q ihq =>
          intro k hkq hkl hmt
          have hmt : (if 0 < spl kind k ∧ mkC L (i + k) = spl kind k then mtF L i kind q (k + 1) else k) = mtF L i kind 7 0 := hmt
          refine V_iload_n dX5_word_12 rfl ?_
          refine V_iload_n dX5_word_13 rfl ?_
          refine V_callS kX5_spelled q3221 q3222 dX5_word_14 ?_ (d' := 1) (as := [_, _]) (hst := rfl)
          refine (tw_spelled (k := k) rfl rfl hk9 (by omega) ?_)
          by_cases hs : 0 < spl kind k
          · refine V_if_le 58 dX5_word_17 (by decide) (fun c17 => absurd c17 (Int32.not_le.mpr hs)) (fun _ => ?_)
            refine V_aload_n dX5_word_20 rfl (Or.inl ⟨_, rfl⟩) ?_
            refine V_get ckX5 tw0 20 (by decide) q2719 rfl rfl dX5_word_21 ?_
            rw [show (pT T i w n K A).2 20 = nI i from rfl]
            refine V_iload_n dX5_word_24 rfl ?_
            refine V_iadd dX5_word_25 ?_
            refine V_aload_n dX5_word_26 rfl (Or.inl ⟨_, rfl⟩) ?_
            refine V_get ckX5 tw0 19 (by decide) q2718 rfl rfl dX5_word_27 ?_
            rw [nI_add, show (pT T i w n K A).2 19 = nI L.length from hL.1]
            by_cases hlt : i + k < L.length
            · have hc := List.getElem?_eq_getElem hlt
              have em : mkC L (i + k) = L[i + k] := by unfold mkC; rw [hc]; rfl
              refine V_icmp_ge 58 dX5_word_30 (by decide) (fun c30 => absurd c30 (nI_ge hlt (by omega))) (fun _ => ?_)
              refine V_aload_n dX5_word_33 rfl (Or.inl ⟨_, rfl⟩) ?_
              refine V_get ckX5 tw0 15 (by decide) q2714 rfl rfl dX5_word_34 ?_
              refine V_aload_n dX5_word_37 rfl (Or.inl ⟨_, rfl⟩) ?_
              refine V_get ckX5 tw0 20 (by decide) q2719 rfl rfl dX5_word_38 ?_
              rw [show (pT T i w n K A).2 20 = nI i from rfl]
              refine V_iload_n dX5_word_41 rfl ?_
              refine V_iadd dX5_word_42 ?_
              rw [nI_add]
              refine tw_ld 9 (i + k) (by decide) (by decide) rfl (show _ < 60 from by omega) (by decide) dX5_word_43 ?_
              refine V_iload_n dX5_word_44 rfl ?_
              refine V_iload_n dX5_word_45 rfl ?_
              refine V_callS kX5_spelled q3221 q3222 dX5_word_46 ?_ (d' := 1) (as := [_, _]) (hst := rfl)
              refine (tw_spelled (k := k) rfl rfl hk9 (by omega) ?_)
              rw [show (pT T i w n K A).1 9 (i + k) = mkC L (i + k) from (hL.2.2 _ _ hc).trans em.symm]
              by_cases hch : mkC L (i + k) = spl kind k
              · rw [if_pos ⟨hs, hch⟩] at hmt
                refine V_icmp_ne 58 dX5_word_49 (by decide) (fun c49 => absurd c49 (not_not_intro hch)) (fun _ => ?_)
                refine V_iinc dX5_word_52 rfl (by decide) ?_
                refine V_goto 12 dX5_word_55 (by decide) ?_
                refine V_sub (L' := [(0, .ref m), (1, .int (nI g)), (2, .int (nI kind)), (3, .int (nI k + Int32.ofInt 1))]) ⟨rfl, rfl, rfl, rfl, trivial⟩ ?_
                rw [show nI k + Int32.ofInt 1 = nI (k + 1) from nI_1 k]
                exact ihq (k + 1) (by omega) (by omega) hmt
              · rw [if_neg (fun z => hch z.2)] at hmt
                refine V_icmp_ne 58 dX5_word_49 (by decide) (fun _ => ?_) (fun c49 => absurd c49 hch)
                exact done k hmt
            · rw [if_neg (fun z => hlt (mkC_in z.2 (fun q => by rw [q] at hs; exact absurd hs (by decide))))] at hmt
              refine V_icmp_ge 58 dX5_word_30 (by decide) (fun _ => ?_) (fun c30 => absurd (nI_le (by omega) (by omega)) c30)
              exact done k hmt
          · rw [if_neg (fun z => hs z.1)] at hmt
            refine V_if_le 58 dX5_word_17 (by decide) (fun _ => ?_) (fun c17 => absurd (Int32.not_lt.mp hs) c17)
            exact done k hmt
      refine V_iload_n dX5_word_4 rfl ?_
      refine V_bipushv 9 dX5_word_5 (by decide) ?_
      refine V_icmp_ge 95 dX5_word_7 (by decide) (fun c7 => absurd c7 (fun z => absurd ((nI_leI (a := 9) (by decide) (by omega)).mp z) (by omega))) (fun _ => ?_)
      refine V_iconstv 0 dX5_word_10 (by decide) ?_
      refine V_istore_n dX5_word_11 (by decide) ?_
      refine V_sub (L' := [(0, .ref m), (1, .int (nI g)), (2, .int (nI kind)), (3, .int (nI 0))]) ⟨rfl, rfl, rfl, rfl, trivial⟩ ?_
      exact loop 7 0 rfl (by omega) rfl
  refine V_iconstv 0 dX5_word_0 (by decide) ?_
  refine V_istore_n dX5_word_1 (by decide) ?_
  refine V_iconstv 0 dX5_word_2 (by decide) ?_
  refine V_istore_n dX5_word_3 (by decide) ?_
  refine V_sub (L' := [(0, .ref m), (1, .int (nI 0)), (2, .int (nI 0))]) ⟨rfl, rfl, rfl, trivial⟩ ?_
  exact kinds 9 0 rfl 0 hi rfl
end TW19
