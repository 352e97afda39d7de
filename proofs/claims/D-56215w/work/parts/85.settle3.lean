/-! MODULE Settlement: its making, the chosen colours -/
set_option maxRecDepth 100000
theorem chFL_c {o : Of} {nx : Nat → Int64} {v : Int64} {r c : Rw} {S j : Nat} {t : List Rw} : chFL o nx v r S j (c :: t) = if S.testBit j = false ∧ fitO o r c = true ∧ gL o r c + nx (S ||| 2 ^ j) = v then some j else chFL o nx v r S (j + 1) t := rfl
theorem chFL_lt {o : Of} {nx : Nat → Int64} {v : Int64} {r : Rw} {S : Nat} : ∀ (L : List Rw) (j i : Nat), chFL o nx v r S j L = some i → j ≤ i ∧ i < j + L.length ∧ ∃ c, L[i - j]? = some c ∧ fitO o r c = true
  | [], _, _, h => by cases h
  | c :: t, j, i, h => by
    rw [chFL_c] at h
    by_cases e : S.testBit j = false ∧ fitO o r c = true ∧ gL o r c + nx (S ||| 2 ^ j) = v
    · rw [if_pos e] at h
      cases h
      refine ⟨Nat.le_refl _, by rw [List.length_cons]; omega, c, by rw [Nat.sub_self]; rfl, e.2.1⟩
    · rw [if_neg e] at h
      obtain ⟨h1, h2, c', h3, h4⟩ := chFL_lt t (j + 1) i h
      refine ⟨by omega, by rw [List.length_cons]; omega, c', ?_, h4⟩
      rw [show i - j = (i - (j + 1)) + 1 from by omega, List.getElem?_cons_succ]
      exact h3
/-- the colours that are taken and what is left to be reached, behind k reports -/
def stC (o : Of) : Nat → Nat × Int64
  | 0 => (0, bTL o o.2.1 0)
  | k + 1 => match chFL o (bTL o (o.2.1.drop (k + 1))) (stC o k).2 (rwAt o.2.1 k) (stC o k).1 0 o.1 with
    | none => stC o k
    | some j => ((stC o k).1 ||| 2 ^ j, (stC o k).2 - gL o (rwAt o.2.1 k) (rwAt o.1 j))
def chC (o : Of) (k : Nat) : Option Nat := chFL o (bTL o (o.2.1.drop (k + 1))) (stC o k).2 (rwAt o.2.1 k) (stC o k).1 0 o.1
theorem stC_s {o : Of} {k : Nat} : stC o (k + 1) = match chC o k with
    | none => stC o k
    | some j => ((stC o k).1 ||| 2 ^ j, (stC o k).2 - gL o (rwAt o.2.1 k) (rwAt o.1 j)) := rfl
theorem chC_lt {o : Of} {k j : Nat} (h : chC o k = some j) : j < o.1.length ∧ ∃ c, o.1[j]? = some c ∧ fitO o (rwAt o.2.1 k) c = true := by
  obtain ⟨-, h2, c, h3, h4⟩ := chFL_lt _ _ _ h
  exact ⟨by omega, c, h3, h4⟩
theorem stC_lt {o : Of} : ∀ k, (stC o k).1 < 2 ^ o.1.length
  | 0 => Nat.pow_pos (by decide)
  | k + 1 => by
    rw [stC_s]
    cases h : chC o k with
    | none => exact stC_lt k
    | some j => exact sb_set (stC_lt k) (chC_lt h).1
section SETL3
variable {l : Launch} {E : g_E} {P : Outcome → g_G → Prop} {G : g_G}
theorem st_init {A : Nat → Prop} {n a s pa al p : Nat} {fs rs : List Nat} {o : Of} {G0 : g_G} (h : OffC E A n G0 a o s pa fs al rs) (wf0 : g_wf G0) (hk0 : g_ke g_all G0 G) (hp0 : G0.2.1 ≤ p) (hp : G.1 p = some (g_ob 13 [.int 0, .int 0, .null, .null])) (hB : g_B E ≤ p) (hf : g_fit E G 2 66) (kk : ∀ G', g_mod (fun q => q < G0.2.1) G G' 2 66 → SetAt E G' p o → P (.returned none) G') : g_Spc l E mX15_init 4 [.ref p, .ref al, .ref s, .ref (mt_ad E (mt_k (o.2.2 5)))] G P := by
  obtain ⟨hf1, hf2⟩ := hf
  have hl := h.len
  have hkeep : ∀ {G1 : g_G}, g_ke g_all G0 G1 → OffC E A n G1 a o s pa fs al rs := fun hk => h.keep (hk.mono fun _ _ => trivial)
  have hb : o.2.1.length * o.1.length ≤ 60 := Nat.mul_le_mul hl.2.2.2 hl.2.2.1
  refine V_intro (plainFor_of_name plX15) (Nat.le_of_ble_eq_true rfl) ?_
  refine V_wf (fun wf hBG => ?_)
  have hpl := wf _ _ hp
  have up0 : ∀ {G1 : g_G} {q : Nat} {y : va_E}, g_ke g_all G0 G1 → G0.2.1 ≤ q → g_ke g_all G0 (g_up G1 q y) := fun hk hq z x _ hx => g_up_of (by have := wf0 _ _ hx; omega) (hk z x trivial hx)
  have rewards : ∀ i, i ≤ o.2.1.length → ∀ (G1 : g_G) (rf df : Nat → Int32), g_ke g_all G0 G1 → g_ke (fun q => q < G0.2.1) G G1 → G1.2.1 = G.2.1 + 2 → G1.2.2 = G.2.2 + (o.2.1.length + o.2.1.length * o.1.length) → G1.1 p = some (g_ob 13 [.int (nI o.2.1.length), .int (nI o.1.length), .ref G.2.1, .ref (G.2.1 + 1)]) → G1.1 G.2.1 = some (g_ai E o.2.1.length rf) → G1.1 (G.2.1 + 1) = some (g_ai E (o.2.1.length * o.1.length) df) → (∀ (k j : Nat) (r c : Rw), o.2.1[k]? = some r → o.1[j]? = some c → df (o.1.length * k + j) = if fitO o r c = true then dO o r.2.1 c else -1) → (∀ (k : Nat) (r : Rw), k < i → o.2.1[k]? = some r → rf k = r.2.2.2) → V l E mX15_init 4 P 135 [(0, .ref p), (1, .ref al), (2, .ref s), (3, .ref (mt_ad E (mt_k (o.2.2 5)))), (4, .int (nI i))] [] G1 := by
    refine down _ ?_ ?_
    · intro G1 rf df e1 e2 e3 e4 e5 e6 e7 e8 e9
      refine V_iload dX15_init_135 rfl ?_
      refine V_aload_n dX15_init_137 rfl (Or.inl ⟨_, rfl⟩) ?_
      refine V_get ckX15 (by first | assumption | (repeat (first | exact g_up_at | exact g_new_at rfl | assumption | refine g_up_of (by first | assumption | (simp only [g_new, g_up]; omega) | omega) ?_ | refine g_new_of (by first | assumption | (simp only [g_new, g_up]; omega) | omega) ?_))) 0 (by decide) q1431 rfl (by rfl) dX15_init_138 ?_
      refine V_icmp_ge 171 dX15_init_141 (by decide) (fun _ => ?_) (fun c141 => absurd (Int32.le_refl _) c141)
      refine V_return dX15_init_171 rfl ?_
      exact kk G1 ⟨e2, by omega, by omega, by omega, by omega⟩ ⟨G.2.1, G.2.1 + 1, rf, df, e5, e6, e7, fun k r hr => e9 k r (lt_of_at hr) hr, e8⟩
    · intro i hi ih G1 rf df e1 e2 e3 e4 e5 e6 e7 e8 e9
      have hC1 := hkeep e1
      obtain ⟨r, hr, -⟩ := drop_at hi
      obtain ⟨mc, ar, hc⟩ := hC1.2.2.2.2.2.2.1.cell
      obtain ⟨q, hq, -, tq, hqc, -⟩ := hC1.2.2.2.2.2.2.2.1.at hr
      have hin : vp_in (nI i) o.2.1.length := vp_in_nI hi (by omega)
      refine V_iload dX15_init_135 rfl ?_
      refine V_aload_n dX15_init_137 rfl (Or.inl ⟨_, rfl⟩) ?_
      refine V_get ckX15 (by first | assumption | (repeat (first | exact g_up_at | exact g_new_at rfl | assumption | refine g_up_of (by first | assumption | (simp only [g_new, g_up]; omega) | omega) ?_ | refine g_new_of (by first | assumption | (simp only [g_new, g_up]; omega) | omega) ?_))) 0 (by decide) q1431 rfl (by rfl) dX15_init_138 ?_
      refine V_icmp_ge 171 dX15_init_141 (by decide) (fun c141 => absurd c141 (nI_ge hi (by omega))) (fun _ => ?_)
      refine V_aload_n dX15_init_144 rfl (Or.inl ⟨_, rfl⟩) ?_
      refine V_get ckX15 (by first | assumption | (repeat (first | exact g_up_at | exact g_new_at rfl | assumption | refine g_up_of (by first | assumption | (simp only [g_new, g_up]; omega) | omega) ?_ | refine g_new_of (by first | assumption | (simp only [g_new, g_up]; omega) | omega) ?_))) 2 (by decide) q1433 rfl (by rfl) dX15_init_145 ?_
      refine V_iload dX15_init_148 rfl ?_
      refine V_aload_n dX15_init_150 rfl (Or.inl ⟨_, rfl⟩) ?_
      refine V_iload dX15_init_151 rfl ?_
      refine V_callF (q := (RJ2, TJ2, 3)) (x := ⟨"java/util/List", "get", "(I)Ljava/lang/Object;"⟩) kJ2_get q1427 ⟨by decide +kernel, by decide +kernel⟩ q544 q543 q548 q546 q529 (by decide +kernel) q547 q545 hc rfl dX15_init_153 ?_ (d' := 2) (as := [_]) (hst := rfl)
      refine (als_get (k := i) hC1.2.2.2.2.2.2.1 rfl hq ?_)
      refine V_castS (q := (RX12, TX12, 4)) (by first | assumption | (repeat (first | exact g_up_at | exact g_new_at rfl | assumption | refine g_up_of (by first | assumption | (simp only [g_new, g_up]; omega) | omega) ?_ | refine g_new_of (by first | assumption | (simp only [g_new, g_up]; omega) | omega) ?_))) rfl q1428 dX15_init_158 ?_
      refine V_getN ckX12 (by first | assumption | (repeat (first | exact g_up_at | exact g_new_at rfl | assumption | refine g_up_of (by first | assumption | (simp only [g_new, g_up]; omega) | omega) ?_ | refine g_new_of (by first | assumption | (simp only [g_new, g_up]; omega) | omega) ?_))) 3 (by decide) q1123 rfl (by rfl) dX15_init_161 ?_
      refine V_iastore e6 (by first | assumption | omega | (simp only [g_new, g_up]; omega) | (simp only [g_new, g_up, g_B] at *; omega)) (by first | assumption | exact g_in (by decide)) q388 dX15_init_164 ?_
      refine V_iinc dX15_init_165 rfl (by decide) ?_
      refine V_goto 135 dX15_init_168 (by decide) ?_
      rw [nI_clamp (by omega)]
      refine V_subk (ih _ (upd rf i r.2.2.2) df (up0 e1 (by omega)) (e2.trans (g_ke.up (fun hq => absurd hq (by show ¬ G.2.1 < G0.2.1; omega)) _)) e3 e4 (g_up_of (by omega) e5) g_up_at (g_up_of (by omega) e7) e8 (fun k r' hk hr' => ?_)) ⟨rfl, rfl, rfl, rfl, ?_, trivial⟩
      · by_cases e : k = i
        · subst e
          rw [hr] at hr'
          cases hr'
          exact pk_us
        · rw [pk_un e]
          exact e9 k r' (by omega) hr'
      · rw [← nI_1 i]; rfl
  have dists : ∀ i, i ≤ o.2.1.length * o.1.length → ∀ (G1 : g_G) (df : Nat → Int32), g_ke g_all G0 G1 → g_ke (fun q => q < G0.2.1) G G1 → G1.2.1 = G.2.1 + 2 → G1.2.2 = G.2.2 + (o.2.1.length + o.2.1.length * o.1.length) → G1.1 p = some (g_ob 13 [.int (nI o.2.1.length), .int (nI o.1.length), .ref G.2.1, .ref (G.2.1 + 1)]) → G1.1 G.2.1 = some (g_ai E o.2.1.length (fun _ => 0)) → G1.1 (G.2.1 + 1) = some (g_ai E (o.2.1.length * o.1.length) df) → (∀ (k j : Nat) (r c : Rw), o.1.length * k + j < i → o.2.1[k]? = some r → o.1[j]? = some c → df (o.1.length * k + j) = if fitO o r c = true then dO o r.2.1 c else -1) → V l E mX15_init 4 P 50 [(0, .ref p), (1, .ref al), (2, .ref s), (3, .ref (mt_ad E (mt_k (o.2.2 5)))), (4, .int (nI i))] [] G1 := by
    refine down _ ?_ ?_
    · intro G1 df e1 e2 e3 e4 e5 e6 e7 e8
      refine V_iload dX15_init_50 rfl ?_
      refine V_aload_n dX15_init_52 rfl (Or.inl ⟨_, rfl⟩) ?_
      refine V_get ckX15 (by first | assumption | (repeat (first | exact g_up_at | exact g_new_at rfl | assumption | refine g_up_of (by first | assumption | (simp only [g_new, g_up]; omega) | omega) ?_ | refine g_new_of (by first | assumption | (simp only [g_new, g_up]; omega) | omega) ?_))) 3 (by decide) q1434 rfl (by rfl) dX15_init_53 ?_
      refine V_alen_i e7 q388 dX15_init_56 ?_
      refine V_icmp_ge 132 dX15_init_57 (by decide) (fun _ => ?_) (fun c57 => absurd (Int32.le_refl _) c57)
      refine V_iconstv 0 dX15_init_132 (by decide) ?_
      refine V_istore dX15_init_133 (by decide) ?_
      exact V_subk (rewards 0 (Nat.zero_le _) G1 _ df e1 e2 e3 e4 e5 e6 e7 (fun k j r c hr hc => e8 k j r c (pl_lt (lt_of_at hr) (lt_of_at hc)) hr hc) (fun k r hk _ => absurd hk (Nat.not_lt_zero _))) ⟨rfl, rfl, rfl, rfl, rfl, trivial⟩
    · intro i hi ih G1 df e1 e2 e3 e4 e5 e6 e7 e8
      have hC0 : 0 < o.1.length := by
        rcases Nat.eq_zero_or_pos o.1.length with h0 | h0
        · rw [h0, Nat.mul_zero] at hi
          exact absurd hi (Nat.not_lt_zero _)
        · exact h0
      have hC1 := hkeep e1
      have hd : i / o.1.length < o.2.1.length := (Nat.div_lt_iff_lt_mul hC0).mpr hi
      have hm : i % o.1.length < o.1.length := Nat.mod_lt _ hC0
      have him : o.1.length * (i / o.1.length) + i % o.1.length = i := Nat.div_add_mod i _
      obtain ⟨r, hr, -⟩ := drop_at hd
      obtain ⟨c, hcc, -⟩ := drop_at hm
      obtain ⟨mc, ar, hc⟩ := hC1.2.2.2.2.2.2.1.cell
      obtain ⟨q, hq, -, tq, hqc, hqt⟩ := hC1.2.2.2.2.2.2.2.1.at hr
      obtain ⟨q2, hq2, hF2⟩ := hC1.2.2.2.2.2.1.at (agL_at hcc)
      obtain ⟨tb, hqc2, ht2⟩ := TintAt.ag hF2
      have hin : vp_in (nI i) (o.2.1.length * o.1.length) := vp_in_nI hi (by omega)
      have ed : nI i / nI o.1.length = nI (i / o.1.length) := pk_div (by omega) hC0 (by omega)
      have er : nI i - nI i / nI o.1.length * nI o.1.length = nI (i % o.1.length) := by
        rw [ed, nI_mul]
        have k9 := pk_sub (a := i) (b := i / o.1.length * o.1.length) (by rw [Nat.mul_comm]; omega)
        rw [k9]
        congr 1
        rw [Nat.mul_comm (i / o.1.length)]
        omega
      have hne : ¬ nI o.1.length = 0 := nI_ne0 hC0 (by omega)
      have fin : ∀ d : Int32, d = (if fitO o r c = true then dO o r.2.1 c else -1) → V l E mX15_init 4 P 125 [(0, .ref p), (1, .ref al), (2, .ref s), (3, .ref (mt_ad E (mt_k (o.2.2 5)))), (4, .int (nI i)), (5, .ref q), (6, .int (dO o r.2.1 c))] [.int d, .int (nI i), .ref (G.2.1 + 1)] G1 := by
        intro d hdd
        refine V_iastore e7 (by first | assumption | omega | (simp only [g_new, g_up]; omega) | (simp only [g_new, g_up, g_B] at *; omega)) (by first | assumption | exact g_in (by decide)) q388 dX15_init_125 ?_
        refine V_iinc dX15_init_126 rfl (by decide) ?_
        refine V_goto 50 dX15_init_129 (by decide) ?_
        rw [nI_clamp (by omega)]
        refine V_subk (ih _ (upd df i d) (up0 e1 (by omega)) (e2.trans (g_ke.up (fun hq => absurd hq (by show ¬ G.2.1 + 1 < G0.2.1; omega)) _)) e3 e4 (g_up_of (by omega) e5) (g_up_of (by omega) e6) g_up_at (fun k j r' c' hkj hr' hc' => ?_)) ⟨rfl, rfl, rfl, rfl, ?_, trivial⟩
        · by_cases e : o.1.length * k + j = i
          · have hjl := lt_of_at hc'
            have hk : k = i / o.1.length := by
              rw [← e, Nat.mul_add_div hC0, Nat.div_eq_of_lt hjl, Nat.add_zero]
            have hj : j = i % o.1.length := by
              rw [← e, Nat.mul_add_mod, Nat.mod_eq_of_lt hjl]
            subst hk
            subst hj
            rw [hr] at hr'
            rw [hcc] at hc'
            cases hr'
            cases hc'
            rw [e, pk_us]
            exact hdd
          · rw [pk_un e]
            exact e8 k j r' c' (by omega) hr' hc'
        · rw [← nI_1 i]; rfl
      refine V_iload dX15_init_50 rfl ?_
      refine V_aload_n dX15_init_52 rfl (Or.inl ⟨_, rfl⟩) ?_
      refine V_get ckX15 (by first | assumption | (repeat (first | exact g_up_at | exact g_new_at rfl | assumption | refine g_up_of (by first | assumption | (simp only [g_new, g_up]; omega) | omega) ?_ | refine g_new_of (by first | assumption | (simp only [g_new, g_up]; omega) | omega) ?_))) 3 (by decide) q1434 rfl (by rfl) dX15_init_53 ?_
      refine V_alen_i e7 q388 dX15_init_56 ?_
      refine V_icmp_ge 132 dX15_init_57 (by decide) (fun c57 => absurd c57 (nI_ge hi (by omega))) (fun _ => ?_)
      refine V_aload_n dX15_init_60 rfl (Or.inl ⟨_, rfl⟩) ?_
      refine V_iload dX15_init_61 rfl ?_
      refine V_aload_n dX15_init_63 rfl (Or.inl ⟨_, rfl⟩) ?_
      refine V_get ckX15 (by first | assumption | (repeat (first | exact g_up_at | exact g_new_at rfl | assumption | refine g_up_of (by first | assumption | (simp only [g_new, g_up]; omega) | omega) ?_ | refine g_new_of (by first | assumption | (simp only [g_new, g_up]; omega) | omega) ?_))) 1 (by decide) q1432 rfl (by rfl) dX15_init_64 ?_
      refine V_idiv dX15_init_67 hne ?_
      rw [ed]
      refine V_callF (q := (RJ2, TJ2, 3)) (x := ⟨"java/util/List", "get", "(I)Ljava/lang/Object;"⟩) kJ2_get q1427 ⟨by decide +kernel, by decide +kernel⟩ q544 q543 q548 q546 q529 (by decide +kernel) q547 q545 hc rfl dX15_init_68 ?_ (d' := 2) (as := [_]) (hst := rfl)
      refine (als_get (k := i / o.1.length) hC1.2.2.2.2.2.2.1 rfl hq ?_)
      refine V_castS (q := (RX12, TX12, 4)) (by first | assumption | (repeat (first | exact g_up_at | exact g_new_at rfl | assumption | refine g_up_of (by first | assumption | (simp only [g_new, g_up]; omega) | omega) ?_ | refine g_new_of (by first | assumption | (simp only [g_new, g_up]; omega) | omega) ?_))) rfl q1428 dX15_init_73 ?_
      refine V_astore dX15_init_76 (Or.inl ⟨_, rfl⟩) (by decide) ?_
      refine V_aload_n dX15_init_78 rfl (Or.inl ⟨_, rfl⟩) ?_
      refine V_aload dX15_init_79 rfl (Or.inl ⟨_, rfl⟩) ?_
      refine V_getN ckX12 (by first | assumption | (repeat (first | exact g_up_at | exact g_new_at rfl | assumption | refine g_up_of (by first | assumption | (simp only [g_new, g_up]; omega) | omega) ?_ | refine g_new_of (by first | assumption | (simp only [g_new, g_up]; omega) | omega) ?_))) 1 (by decide) q1115 rfl (by rfl) dX15_init_81 ?_
      refine V_aload_n dX15_init_84 rfl (Or.inl ⟨_, rfl⟩) ?_
      refine V_iload dX15_init_85 rfl ?_
      refine V_aload_n dX15_init_87 rfl (Or.inl ⟨_, rfl⟩) ?_
      refine V_get ckX15 (by first | assumption | (repeat (first | exact g_up_at | exact g_new_at rfl | assumption | refine g_up_of (by first | assumption | (simp only [g_new, g_up]; omega) | omega) ?_ | refine g_new_of (by first | assumption | (simp only [g_new, g_up]; omega) | omega) ?_))) 1 (by decide) q1432 rfl (by rfl) dX15_init_88 ?_
      refine V_irem dX15_init_91 hne ?_
      rw [er]
      refine V_callV (q := (RX3, TX3, 2)) kX3_at q1429 q1401 q1402 hC1.2.2.2.2.1.2.2.2.2.1 rfl dX15_init_92 ?_ (d' := 0) (as := [_]) (hst := rfl)
      refine (shf_at (k := i % o.1.length) hC1.2.2.2.2.1 rfl hq2 ?_)
      refine V_getN ckX7 (by first | assumption | (repeat (first | exact g_up_at | exact g_new_at rfl | assumption | refine g_up_of (by first | assumption | (simp only [g_new, g_up]; omega) | omega) ?_ | refine g_new_of (by first | assumption | (simp only [g_new, g_up]; omega) | omega) ?_))) 2 (by decide) q504 rfl (by rfl) dX15_init_95 ?_
      refine V_callSN kX1_distance q1430 q1340 dX15_init_98 ?_ (d' := 3) (as := [_, _, _]) (hst := rfl)
      refine (co_distance hqt ht2 ?_)
      refine V_istore dX15_init_101 (by decide) ?_
      refine V_aload_n dX15_init_103 rfl (Or.inl ⟨_, rfl⟩) ?_
      refine V_get ckX15 (by first | assumption | (repeat (first | exact g_up_at | exact g_new_at rfl | assumption | refine g_up_of (by first | assumption | (simp only [g_new, g_up]; omega) | omega) ?_ | refine g_new_of (by first | assumption | (simp only [g_new, g_up]; omega) | omega) ?_))) 3 (by decide) q1434 rfl (by rfl) dX15_init_104 ?_
      refine V_iload dX15_init_107 rfl ?_
      refine V_iload dX15_init_109 rfl ?_
      refine V_aload dX15_init_111 rfl (Or.inl ⟨_, rfl⟩) ?_
      refine V_getN ckX12 (by first | assumption | (repeat (first | exact g_up_at | exact g_new_at rfl | assumption | refine g_up_of (by first | assumption | (simp only [g_new, g_up]; omega) | omega) ?_ | refine g_new_of (by first | assumption | (simp only [g_new, g_up]; omega) | omega) ?_))) 2 (by decide) q1119 rfl (by rfl) dX15_init_113 ?_
      refine V_icmp_gt 124 dX15_init_116 (by decide) (fun c116 => ?_) (fun c116 => ?_)
      · refine V_iconstv (-1) dX15_init_124 (by decide) ?_
        have ef : fitO o r c = false := decide_eq_false (Int32.not_le.mpr c116)
        exact V_subk (fin (-1) (by rw [ef, if_neg (by decide)])) ⟨rfl, rfl, rfl, rfl, rfl, rfl, rfl, trivial⟩
      · refine V_iload dX15_init_119 rfl ?_
        refine V_goto 125 dX15_init_121 (by decide) ?_
        have ef : fitO o r c = true := decide_eq_true (Int32.not_lt.mp c116)
        exact V_subk (fin _ (by rw [ef, if_pos rfl]; rfl)) ⟨rfl, rfl, rfl, rfl, rfl, rfl, rfl, trivial⟩
  have hC1 := hkeep hk0
  obtain ⟨mc, ar, hc⟩ := hC1.2.2.2.2.2.2.1.cell
  have hks := hC1.2.2.2.2.1.2.2.2.2.1
  have hnal : al ≠ p := g_apart hc hp (by intro e; cases e)
  have hnsh : s ≠ p := g_apart hks hp (by intro e; cases e)
  refine V_aload_n dX15_init_0 rfl (Or.inl ⟨_, rfl⟩) ?_
  refine V_objInit q1422 q170 q171 dX15_init_1 (by decide) (by decide) ?_
  refine V_aload_n dX15_init_4 rfl (Or.inl ⟨_, rfl⟩) ?_
  refine V_aload_n dX15_init_5 rfl (Or.inl ⟨_, rfl⟩) ?_
  refine V_callF (q := (RJ2, TJ2, 3)) (x := ⟨"java/util/List", "size", "()I"⟩) kJ2_size q1424 ⟨by decide +kernel, by decide +kernel⟩ q528 q527 q533 q531 q529 (by decide +kernel) q532 q530 hc rfl dX15_init_6 ?_ (d' := 0) (as := []) (hst := rfl)
  refine (hC1.2.2.2.2.2.2.1.size ?_)
  refine V_putF ckX15 (by first | assumption | (repeat (first | exact g_up_at | exact g_new_at rfl | assumption | refine g_up_of (by first | assumption | (simp only [g_new, g_up]; omega) | omega) ?_ | refine g_new_of (by first | assumption | (simp only [g_new, g_up]; omega) | omega) ?_))) (by first | assumption | omega | (simp only [g_new, g_up]; omega) | (simp only [g_new, g_up, g_B] at *; omega)) 0 (by decide) q1431 rfl rfl rfl rfl rfl rfl (Nat.le_of_ble_eq_true rfl) dX15_init_11 ?_
  rw [hl.2.1]
  refine V_aload_n dX15_init_14 rfl (Or.inl ⟨_, rfl⟩) ?_
  refine V_aload_n dX15_init_15 rfl (Or.inl ⟨_, rfl⟩) ?_
  refine V_callV (q := (RX3, TX3, 2)) kX3_count q1425 q1074 q1075 (g_up_of hnsh hks) rfl dX15_init_16 ?_ (d' := 0) (as := []) (hst := rfl)
  refine (shf_count (g_up_of hnsh hks) ?_)
  refine V_putF ckX15 (by first | assumption | (repeat (first | exact g_up_at | exact g_new_at rfl | assumption | refine g_up_of (by first | assumption | (simp only [g_new, g_up]; omega) | omega) ?_ | refine g_new_of (by first | assumption | (simp only [g_new, g_up]; omega) | omega) ?_))) (by first | assumption | omega | (simp only [g_new, g_up]; omega) | (simp only [g_new, g_up, g_B] at *; omega)) 1 (by decide) q1432 rfl rfl rfl rfl rfl rfl (Nat.le_of_ble_eq_true rfl) dX15_init_19 ?_
  rw [g_up_up, hl.1]
  refine V_aload_n dX15_init_22 rfl (Or.inl ⟨_, rfl⟩) ?_
  refine V_aload_n dX15_init_23 rfl (Or.inl ⟨_, rfl⟩) ?_
  refine V_get ckX15 (by first | assumption | (repeat (first | exact g_up_at | exact g_new_at rfl | assumption | refine g_up_of (by first | assumption | (simp only [g_new, g_up]; omega) | omega) ?_ | refine g_new_of (by first | assumption | (simp only [g_new, g_up]; omega) | omega) ?_))) 0 (by decide) q1431 rfl (by rfl) dX15_init_24 ?_
  refine V_newarray_int o.2.1.length rfl (by omega) q388 dX15_init_27 (by first | omega | (simp only [g_new, g_up]; omega)) (by first | omega | (simp only [g_new, g_up]; omega)) ?_
  refine V_putF ckX15 (g_new_of (by simp only [g_up]; omega) g_up_at) (by first | assumption | omega | (simp only [g_new, g_up]; omega) | (simp only [g_new, g_up, g_B] at *; omega)) 2 (by decide) q1433 rfl rfl rfl rfl rfl rfl (Nat.le_of_ble_eq_true rfl) dX15_init_29 ?_
  refine V_aload_n dX15_init_32 rfl (Or.inl ⟨_, rfl⟩) ?_
  refine V_aload_n dX15_init_33 rfl (Or.inl ⟨_, rfl⟩) ?_
  refine V_get ckX15 (by first | assumption | (repeat (first | exact g_up_at | exact g_new_at rfl | assumption | refine g_up_of (by first | assumption | (simp only [g_new, g_up]; omega) | omega) ?_ | refine g_new_of (by first | assumption | (simp only [g_new, g_up]; omega) | omega) ?_))) 0 (by decide) q1431 rfl (by rfl) dX15_init_34 ?_
  refine V_aload_n dX15_init_37 rfl (Or.inl ⟨_, rfl⟩) ?_
  refine V_get ckX15 (by first | assumption | (repeat (first | exact g_up_at | exact g_new_at rfl | assumption | refine g_up_of (by first | assumption | (simp only [g_new, g_up]; omega) | omega) ?_ | refine g_new_of (by first | assumption | (simp only [g_new, g_up]; omega) | omega) ?_))) 1 (by decide) q1432 rfl (by rfl) dX15_init_38 ?_
  refine V_imul dX15_init_41 ?_
  rw [nI_mul]
  refine V_newarray_int (o.2.1.length * o.1.length) rfl (by omega) q388 dX15_init_42 (by simp only [g_new, g_up]; omega) (by simp only [g_new, g_up]; omega) ?_
  refine V_putF ckX15 (g_new_of (by simp only [g_new, g_up]; omega) g_up_at) (by first | assumption | omega | (simp only [g_new, g_up]; omega) | (simp only [g_new, g_up, g_B] at *; omega)) 3 (by decide) q1434 rfl rfl rfl rfl rfl rfl (Nat.le_of_ble_eq_true rfl) dX15_init_44 ?_
  refine V_iconstv 0 dX15_init_47 (by decide) ?_
  refine V_istore dX15_init_48 (by decide) ?_
  have k1 : g_ke g_all G0 (g_up G p (g_ob 13 [.int (nI o.2.1.length), .int (nI o.1.length), .null, .null])) := up0 hk0 hp0
  refine V_subk (dists 0 (Nat.zero_le _) _ (fun _ => 0) (fun q x _ hx => ?_) (fun q x hq hx => ?_) rfl ?_ g_up_at ?_ ?_ (fun k j r c hkj _ _ => absurd hkj (Nat.not_lt_zero _))) ⟨rfl, rfl, rfl, rfl, rfl, trivial⟩
  · have hq := wf0 _ _ hx
    have hx2 := hk0 q x trivial hx
    refine g_up_of (by omega) (g_new_of (by simp only [g_new, g_up]; omega) (g_up_of (by omega) (g_new_of (by simp only [g_up]; omega) (g_up_of (by omega) hx2))))
  · have hq : q < G0.2.1 := hq
    refine g_up_of (by omega) (g_new_of (by simp only [g_new, g_up]; omega) (g_up_of (by omega) (g_new_of (by simp only [g_up]; omega) (g_up_of (by omega) hx))))
  · simp only [g_new, g_up]; omega
  · exact g_up_of (by omega) (g_new_of (by simp only [g_new, g_up]; omega) (g_up_of (by omega) (g_new_at rfl)))
  · exact g_up_of (by omega) (g_new_at rfl)
theorem off_settlement {A : Nat → Prop} {n a s pa al : Nat} {fs rs : List Nat} {o : Of} (h : OffC E A n G a o s pa fs al rs) (hf : g_fit E G 3 70) (kk : ∀ G' p, g_mod g_all G G' 3 70 → SetAt E G' p o → P (.returned (some (.ref p))) G') : g_Spc l E mX2_settlement 5 [.ref a] G P := by
  obtain ⟨hf1, hf2⟩ := hf
  have k4 := h.2.2.2.1
  refine V_intro (plainFor_of_name plX2) (Nat.le_of_ble_eq_true rfl) ?_
  refine V_wf (fun wf hBG => ?_)
  have k0 := g_ke.new (A := g_all) wf (g_ob 13 [.int 0, .int 0, .null, .null]) 4
  have h1 := h.keep (k0.mono fun _ _ => trivial)
  refine V_new ckX15 q1417 dX2_settlement_0 (by first | omega | (simp only [g_new, g_up]; omega)) (by first | omega | (simp only [g_new, g_up]; omega)) ?_
  refine V_dup dX2_settlement_3 rfl ?_
  refine V_aload_n dX2_settlement_4 rfl (Or.inl ⟨_, rfl⟩) ?_
  refine V_get ckX2 h1.2.2.2.1 1 (by decide) q225 rfl (by rfl) dX2_settlement_5 ?_
  refine V_aload_n dX2_settlement_8 rfl (Or.inl ⟨_, rfl⟩) ?_
  refine V_get ckX2 h1.2.2.2.1 0 (by decide) q223 rfl (by rfl) dX2_settlement_9 ?_
  refine V_aload_n dX2_settlement_12 rfl (Or.inl ⟨_, rfl⟩) ?_
  refine V_callV (q := (RX2, TX2, 10)) kX2_metric q1248 q1249 q1250 h1.2.2.2.1 rfl dX2_settlement_13 ?_ (d' := 1) (as := []) (hst := rfl)
  refine (off_metric h1 ?_)
  refine V_callI kX15_init rfl rfl q1419 q1420 dX2_settlement_16 ?_ (d' := 4) (as := [_, _, _]) (hst := rfl)
  refine (st_init h wf k0 (Nat.le_refl _) (g_new_at rfl) hBG ⟨by simp only [g_new]; omega, by simp only [g_new]; omega⟩ (fun G' m hS => ?_))
  refine V_areturnO dX2_settlement_19 rfl ?_
  obtain ⟨m1, m2, m3, m4, m5⟩ := m
  simp only [g_new] at m2 m3 m4 m5
  exact kk G' _ ⟨fun q x _ hx => m1 q x (wf _ _ hx) (k0 q x trivial hx), by omega, by omega, by omega, by omega⟩ hS
end SETL3
