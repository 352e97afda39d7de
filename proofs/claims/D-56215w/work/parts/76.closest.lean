/-! MODULE Office, Sorted: closest distances -/
set_option maxRecDepth 100000
def insP (t : Tn) : List Tn → Nat
  | [] => 0
  | u :: r => if u.1 ≤ t.1 then insP t r + 1 else 0
def insT (t : Tn) (L : List Tn) : List Tn := L.take (insP t L) ++ t :: L.drop (insP t L)
def srt : List Rw → List Tn → List Tn
  | [], acc => acc
  | c :: r, acc => srt r (insT c.2.1 acc)
def clS1 (k : Nat) (t : Tn) : Int32 → List Tn → Int32
  | m, [] => m
  | m, u :: r => if comb k (i_abs (t.1 - u.1)) 0 0 < m then clS1 k t (i_min m (dst k t u)) r else m
def clS (k : Nat) : Int32 → List Tn → Int32
  | m, [] => m
  | m, t :: r => clS k (clS1 k t m r) r
theorem insP_c {t u : Tn} {r : List Tn} : insP t (u :: r) = if u.1 ≤ t.1 then insP t r + 1 else 0 := rfl
theorem clS1_c {k : Nat} {t u : Tn} {m : Int32} {r : List Tn} : clS1 k t m (u :: r) = if comb k (i_abs (t.1 - u.1)) 0 0 < m then clS1 k t (i_min m (dst k t u)) r else m := rfl
theorem insP_le {t : Tn} : ∀ (L : List Tn), insP t L ≤ L.length
  | [] => Nat.le_refl _
  | u :: r => by
    rw [insP_c]
    have := insP_le (t := t) r
    rw [List.length_cons]
    split <;> omega
theorem insT_len {t : Tn} {L : List Tn} : (insT t L).length = L.length + 1 := by
  unfold insT
  have := insP_le (t := t) L
  rw [List.length_append, List.length_cons, List.length_take, List.length_drop]
  omega
section CLOSE
variable {l : Launch} {E : g_E} {P : Outcome → g_G → Prop} {G : g_G}
theorem off_closest {A : Nat → Prop} {n a s pa al : Nat} {fs rs : List Nat} {o : Of} (h : OffC E A n G a o s pa fs al rs) (kk : P (.returned (some (.int (clA o 1000000 o.1.length)))) G) : g_Spc l E mX2_closestDistance 4 [.ref a] G P := by
  have hl := h.len
  have k4 := h.2.2.2.1
  have ks := h.2.2.2.2.1.2.2.2.2.1
  refine V_intro (plainFor_of_name plX2) (Nat.le_of_ble_eq_true rfl) ?_
  have inner : ∀ i c, o.1[i]? = some c → ∀ j, j ≤ i → ∀ m : Int32, (V l E mX2_closestDistance 4 P 68 [(0, .ref a), (1, .ref (mt_ad E (mt_k (o.2.2 5)))), (2, .int (clI o c m ((o.1.take i).drop j))), (3, .int (nI i))] [] G) → V l E mX2_closestDistance 4 P 24 [(0, .ref a), (1, .ref (mt_ad E (mt_k (o.2.2 5)))), (2, .int m), (3, .int (nI i)), (4, .int (nI j))] [] G := by
    intro i c hc
    have hi := lt_of_at hc
    have htl : (o.1.take i).length = i := by rw [List.length_take]; omega
    refine down _ ?_ ?_
    · intro m k
      rw [List.drop_eq_nil_of_le (by omega)] at k
      refine V_iload dX2_closestDistance_24 rfl ?_
      refine V_iload_n dX2_closestDistance_26 rfl ?_
      refine V_icmp_ge 68 dX2_closestDistance_27 (by decide) (fun _ => ?_) (fun c27 => absurd (Int32.le_refl _) c27)
      exact V_subk k ⟨rfl, rfl, rfl, rfl, trivial⟩
    · intro j hj ih m k
      obtain ⟨x, hx, ed⟩ := drop_at (L := o.1.take i) (i := j) (by omega)
      rw [ed, clI_c] at k
      rw [List.getElem?_take_of_lt hj] at hx
      obtain ⟨q, hq, hF⟩ := h.2.2.2.2.2.1.at (agL_at hc)
      obtain ⟨ta, hqc, ht⟩ := TintAt.ag hF
      obtain ⟨q2, hq2, hF2⟩ := h.2.2.2.2.2.1.at (agL_at hx)
      obtain ⟨tb, hqc2, ht2⟩ := TintAt.ag hF2
      refine V_iload dX2_closestDistance_24 rfl ?_
      refine V_iload_n dX2_closestDistance_26 rfl ?_
      refine V_icmp_ge 68 dX2_closestDistance_27 (by decide) (fun c27 => absurd c27 (nI_ge hj (by omega))) (fun _ => ?_)
      refine V_iload_n dX2_closestDistance_30 rfl ?_
      refine V_aload_n dX2_closestDistance_31 rfl (Or.inl ⟨_, rfl⟩) ?_
      refine V_aload_n dX2_closestDistance_32 rfl (Or.inl ⟨_, rfl⟩) ?_
      refine V_get ckX2 (by first | assumption | (repeat (first | exact g_up_at | exact g_new_at rfl | assumption | refine g_up_of (by first | assumption | (simp only [g_new, g_up]; omega) | omega) ?_ | refine g_new_of (by first | assumption | (simp only [g_new, g_up]; omega) | omega) ?_))) 0 (by decide) q223 rfl (by rfl) dX2_closestDistance_33 ?_
      refine V_iload_n dX2_closestDistance_36 rfl ?_
      refine V_callV (q := (RX3, TX3, 2)) kX3_at q1400 q1401 q1402 (by first | assumption | (repeat (first | exact g_up_at | exact g_new_at rfl | assumption | refine g_up_of (by first | assumption | (simp only [g_new, g_up]; omega) | omega) ?_ | refine g_new_of (by first | assumption | (simp only [g_new, g_up]; omega) | omega) ?_))) rfl dX2_closestDistance_37 ?_ (d' := 0) (as := [_]) (hst := rfl)
      refine (shf_at (k := i) h.2.2.2.2.1 rfl hq ?_)
      refine V_getN ckX7 (by first | assumption | (repeat (first | exact g_up_at | exact g_new_at rfl | assumption | refine g_up_of (by first | assumption | (simp only [g_new, g_up]; omega) | omega) ?_ | refine g_new_of (by first | assumption | (simp only [g_new, g_up]; omega) | omega) ?_))) 2 (by decide) q508 rfl (by rfl) dX2_closestDistance_40 ?_
      refine V_aload_n dX2_closestDistance_43 rfl (Or.inl ⟨_, rfl⟩) ?_
      refine V_get ckX2 (by first | assumption | (repeat (first | exact g_up_at | exact g_new_at rfl | assumption | refine g_up_of (by first | assumption | (simp only [g_new, g_up]; omega) | omega) ?_ | refine g_new_of (by first | assumption | (simp only [g_new, g_up]; omega) | omega) ?_))) 0 (by decide) q223 rfl (by rfl) dX2_closestDistance_44 ?_
      refine V_iload dX2_closestDistance_47 rfl ?_
      refine V_callV (q := (RX3, TX3, 2)) kX3_at q1400 q1401 q1402 (by first | assumption | (repeat (first | exact g_up_at | exact g_new_at rfl | assumption | refine g_up_of (by first | assumption | (simp only [g_new, g_up]; omega) | omega) ?_ | refine g_new_of (by first | assumption | (simp only [g_new, g_up]; omega) | omega) ?_))) rfl dX2_closestDistance_49 ?_ (d' := 0) (as := [_]) (hst := rfl)
      refine (shf_at (k := j) h.2.2.2.2.1 rfl hq2 ?_)
      refine V_getN ckX7 (by first | assumption | (repeat (first | exact g_up_at | exact g_new_at rfl | assumption | refine g_up_of (by first | assumption | (simp only [g_new, g_up]; omega) | omega) ?_ | refine g_new_of (by first | assumption | (simp only [g_new, g_up]; omega) | omega) ?_))) 2 (by decide) q508 rfl (by rfl) dX2_closestDistance_52 ?_
      refine V_callSN kX1_distance q1404 q1340 dX2_closestDistance_55 ?_ (d' := 3) (as := [_, _, _]) (hst := rfl)
      refine (co_distance ht ht2 ?_)
      refine V_callS kJ17_min q1487 q630 dX2_closestDistance_58 ?_ (d' := 0) (as := [_, _]) (hst := rfl)
      refine (math_min ?_)
      refine V_istore_n dX2_closestDistance_61 (by decide) ?_
      refine V_iinc dX2_closestDistance_62 rfl (by decide) ?_
      refine V_goto 24 dX2_closestDistance_65 (by decide) ?_
      refine V_subk (ih (i_min m (dst (mt_k (o.2.2 5)) c.2.1 x.2.1)) k) ⟨rfl, rfl, rfl, rfl, ?_, trivial⟩
      rw [← nI_1 j]; rfl
  have outer : ∀ i, i ≤ o.1.length → V l E mX2_closestDistance 4 P 10 [(0, .ref a), (1, .ref (mt_ad E (mt_k (o.2.2 5)))), (2, .int (clA o 1000000 i)), (3, .int (nI i))] [] G := by
    refine down _ ?_ ?_
    · refine V_iload_n dX2_closestDistance_10 rfl ?_
      refine V_aload_n dX2_closestDistance_11 rfl (Or.inl ⟨_, rfl⟩) ?_
      refine V_get ckX2 (by first | assumption | (repeat (first | exact g_up_at | exact g_new_at rfl | assumption | refine g_up_of (by first | assumption | (simp only [g_new, g_up]; omega) | omega) ?_ | refine g_new_of (by first | assumption | (simp only [g_new, g_up]; omega) | omega) ?_))) 0 (by decide) q223 rfl (by rfl) dX2_closestDistance_12 ?_
      refine V_callV (q := (RX3, TX3, 2)) kX3_count q1073 q1074 q1075 (by first | assumption | (repeat (first | exact g_up_at | exact g_new_at rfl | assumption | refine g_up_of (by first | assumption | (simp only [g_new, g_up]; omega) | omega) ?_ | refine g_new_of (by first | assumption | (simp only [g_new, g_up]; omega) | omega) ?_))) rfl dX2_closestDistance_15 ?_ (d' := 0) (as := []) (hst := rfl)
      refine (shf_count ks ?_)
      refine V_icmp_ge 74 dX2_closestDistance_18 (by decide) (fun _ => ?_) (fun c18 => absurd (by rw [hl.1]; exact Int32.le_refl _) c18)
      refine V_iload_n dX2_closestDistance_74 rfl ?_
      refine V_ireturn dX2_closestDistance_75 rfl ?_
      exact kk
    · intro i hi ih
      obtain ⟨c, hc, -⟩ := drop_at hi
      refine V_iload_n dX2_closestDistance_10 rfl ?_
      refine V_aload_n dX2_closestDistance_11 rfl (Or.inl ⟨_, rfl⟩) ?_
      refine V_get ckX2 (by first | assumption | (repeat (first | exact g_up_at | exact g_new_at rfl | assumption | refine g_up_of (by first | assumption | (simp only [g_new, g_up]; omega) | omega) ?_ | refine g_new_of (by first | assumption | (simp only [g_new, g_up]; omega) | omega) ?_))) 0 (by decide) q223 rfl (by rfl) dX2_closestDistance_12 ?_
      refine V_callV (q := (RX3, TX3, 2)) kX3_count q1073 q1074 q1075 (by first | assumption | (repeat (first | exact g_up_at | exact g_new_at rfl | assumption | refine g_up_of (by first | assumption | (simp only [g_new, g_up]; omega) | omega) ?_ | refine g_new_of (by first | assumption | (simp only [g_new, g_up]; omega) | omega) ?_))) rfl dX2_closestDistance_15 ?_ (d' := 0) (as := []) (hst := rfl)
      refine (shf_count ks ?_)
      refine V_icmp_ge 74 dX2_closestDistance_18 (by decide) (fun c18 => absurd c18 (nI_ge (by omega) (by omega))) (fun _ => ?_)
      refine V_iconstv 0 dX2_closestDistance_21 (by decide) ?_
      refine V_istore dX2_closestDistance_22 (by decide) ?_
      refine V_subk (inner i c hc 0 (Nat.zero_le _) (clA o 1000000 i) ?_) ⟨rfl, rfl, rfl, rfl, rfl, trivial⟩
      rw [List.drop_zero]
      refine V_iinc dX2_closestDistance_68 rfl (by decide) ?_
      refine V_goto 10 dX2_closestDistance_71 (by decide) ?_
      refine V_subk ih ⟨rfl, rfl, ?_, ?_, trivial⟩
      · show some (Value.int (clI o c (clA o 1000000 i) (o.1.take i))) = some (Value.int (clI o (rwAt o.1 i) (clA o 1000000 i) (o.1.take i)))
        rw [rwAt_of hc]
      · rw [← nI_1 i]; rfl
  refine V_aload_n dX2_closestDistance_0 rfl (Or.inl ⟨_, rfl⟩) ?_
  refine V_callV (q := (RX2, TX2, 10)) kX2_metric q1248 q1249 q1250 (by first | assumption | (repeat (first | exact g_up_at | exact g_new_at rfl | assumption | refine g_up_of (by first | assumption | (simp only [g_new, g_up]; omega) | omega) ?_ | refine g_new_of (by first | assumption | (simp only [g_new, g_up]; omega) | omega) ?_))) rfl dX2_closestDistance_1 ?_ (d' := 1) (as := []) (hst := rfl)
  refine (off_metric h ?_)
  refine V_astore_n dX2_closestDistance_4 (Or.inl ⟨_, rfl⟩) (by decide) ?_
  refine V_ldc 1000000 q1725 dX2_closestDistance_5 ?_
  refine V_istore_n dX2_closestDistance_7 (by decide) ?_
  refine V_iconstv 0 dX2_closestDistance_8 (by decide) ?_
  refine V_istore_n dX2_closestDistance_9 (by decide) ?_
  exact V_subk (outer 0 (Nat.zero_le _)) ⟨rfl, rfl, rfl, rfl, trivial⟩
/-- tints at addresses -/
def TsAt (E : g_E) (A : Nat → Prop) (G : g_G) (as : List Nat) (L : List Tn) : Prop := as.length = L.length ∧ ∀ (k a : Nat) (t : Tn), as[k]? = some a → L[k]? = some t → TintAt E A G a t
theorem TsAt.ke2 {A B : Nat → Prop} {as : List Nat} {L : List Tn} {G' : g_G} (h : TsAt E A G as L) (hk : g_ke B G G') (hb : ∀ q x, G.1 q = some x → isT x = true → B q) : TsAt E A G' as L := ⟨h.1, fun k a t x y => (h.2 k a t x y).ke2 hk hb⟩
theorem TsAt.at {A : Nat → Prop} {k : Nat} {as : List Nat} {L : List Tn} {t : Tn} (h : TsAt E A G as L) (hk : L[k]? = some t) : ∃ a, as[k]? = some a ∧ TintAt E A G a t := by
  have hl : k < as.length := by rw [h.1]; exact lt_of_at hk
  exact ⟨as[k], List.getElem?_eq_getElem hl, h.2 _ _ _ (List.getElem?_eq_getElem hl) hk⟩
theorem TsAt.el {A : Nat → Prop} {rs : List Nat} {L : List Tn} {al : Nat} {vs : List Value} (h : TsAt E A G rs L) (hal : G.1 al = some (g_ob 19 vs)) : ∀ b ∈ rs, ∃ y, b ≠ al ∧ G.1 b = some y ∧ g_cast E y "java/lang/Object" := by
  intro b hb
  obtain ⟨k, hk⟩ := List.mem_iff_getElem?.mp hb
  have hkl := lt_of_at hk
  have hkl2 : k < L.length := by rw [← h.1]; exact hkl
  obtain ⟨pt, hc⟩ := (h.2 k b _ hk (List.getElem?_eq_getElem hkl2)).obj
  exact ⟨_, g_apart hc hal (by intro e; cases e), hc, g_cast_of (q := (RX11, TX11, 1)) rfl q3326⟩
theorem TsAt.ins {A : Nat → Prop} {as : List Nat} {L : List Tn} {a p : Nat} {t : Tn} (h : TsAt E A G as L) (ht : TintAt E A G a t) (hp : p ≤ L.length) : TsAt E A G (as.take p ++ a :: as.drop p) (L.take p ++ t :: L.drop p) := by
  obtain ⟨h1, h2⟩ := h
  have e1 : (as.take p).length = p := by rw [List.length_take]; omega
  have e2 : (L.take p).length = p := by rw [List.length_take]; omega
  refine ⟨by simp only [List.length_append, List.length_cons, List.length_take, List.length_drop]; omega, fun k b u hb hu => ?_⟩
  by_cases c : k < p
  · rw [List.getElem?_append_left (by omega), List.getElem?_take_of_lt c] at hb hu
    exact h2 k b u hb hu
  · rw [List.getElem?_append_right (by omega), e1] at hb
    rw [List.getElem?_append_right (by omega), e2] at hu
    cases hk : k - p with
    | zero =>
      rw [hk, List.getElem?_cons_zero] at hb hu
      cases hb
      cases hu
      exact ht
    | succ m =>
      rw [hk, List.getElem?_cons_succ, List.getElem?_drop] at hb hu
      exact h2 _ b u hb hu
theorem srt_insert {A : Nat → Prop} {n so tl ta : Nat} {v : Value} {ts : List Nat} {TL : List Tn} {t : Tn} (hs : G.1 so = some (g_ob 14 [.ref tl, v])) (hL : AlsAt E A n G tl ts) (hT : TsAt E A G ts TL) (ht : TintAt E A G ta t) (hB : g_B E ≤ n) (hn : n ≤ G.2.1) (hA : ∀ q, G.2.1 ≤ q → A q) (hlen : TL.length ≤ 9) (hf : g_fit E G 1 10) (kk : ∀ G', g_mod (fun q => q ≠ tl ∧ ¬ AlsAr E n G tl q) G G' 1 10 → AlsAt E A n G' tl (ts.take (insP t TL) ++ ta :: ts.drop (insP t TL)) → P (.returned none) G') : g_Spc l E mX16_insert 6 [.ref so, .ref ta] G P := by
  obtain ⟨mc, ar, hc⟩ := hL.cell
  obtain ⟨pt, hpt⟩ := ht.obj
  have hl := hT.1
  refine V_intro (plainFor_of_name plX16) (Nat.le_of_ble_eq_true rfl) ?_
  have fin : ∀ i, i ≤ TL.length → i = insP t TL → V l E mX16_insert 6 P 46 [(0, .ref so), (1, .ref ta), (2, .int (nI i))] [] G := by
    intro i hi he
    refine V_aload_n dX16_insert_46 rfl (Or.inl ⟨_, rfl⟩) ?_
    refine V_get ckX16 (by first | assumption | (repeat (first | exact g_up_at | exact g_new_at rfl | assumption | refine g_up_of (by first | assumption | (simp only [g_new, g_up]; omega) | omega) ?_ | refine g_new_of (by first | assumption | (simp only [g_new, g_up]; omega) | omega) ?_))) 0 (by decide) q1742 rfl (by rfl) dX16_insert_47 ?_
    refine V_iload_n dX16_insert_50 rfl ?_
    refine V_aload_n dX16_insert_51 rfl (Or.inl ⟨_, rfl⟩) ?_
    refine V_callF (q := (RJ2, TJ2, 3)) (x := ⟨"java/util/List", "add", "(ILjava/lang/Object;)V"⟩) kJ2_add_3 q1761 ⟨by decide +kernel, by decide +kernel⟩ q1763 q1762 q1767 q1765 q529 (by decide +kernel) q1766 q1764 hc rfl dX16_insert_52 ?_ (d' := 5) (as := [_, _]) (hst := rfl)
    refine (als_addAt (k := i) hL hB hn hA hpt (g_cast_of (q := (RX11, TX11, 1)) rfl q3326) (g_apart hpt hc (by intro e; cases e)) (hT.el hc) rfl (by omega) (by omega) hf (fun G' m hh => ?_))
    rw [he] at hh
    refine V_return dX16_insert_57 rfl ?_
    exact kk G' m hh
  have loop : ∀ i, i ≤ TL.length → i + insP t (TL.drop i) = insP t TL → V l E mX16_insert 6 P 2 [(0, .ref so), (1, .ref ta), (2, .int (nI i))] [] G := by
    refine down _ ?_ ?_
    · intro he
      rw [List.drop_eq_nil_of_le (Nat.le_refl _)] at he
      refine V_iload_n dX16_insert_2 rfl ?_
      refine V_aload_n dX16_insert_3 rfl (Or.inl ⟨_, rfl⟩) ?_
      refine V_get ckX16 (by first | assumption | (repeat (first | exact g_up_at | exact g_new_at rfl | assumption | refine g_up_of (by first | assumption | (simp only [g_new, g_up]; omega) | omega) ?_ | refine g_new_of (by first | assumption | (simp only [g_new, g_up]; omega) | omega) ?_))) 0 (by decide) q1742 rfl (by rfl) dX16_insert_4 ?_
      refine V_callF (q := (RJ2, TJ2, 3)) (x := ⟨"java/util/List", "size", "()I"⟩) kJ2_size q1755 ⟨by decide +kernel, by decide +kernel⟩ q528 q527 q533 q531 q529 (by decide +kernel) q532 q530 hc rfl dX16_insert_7 ?_ (d' := 0) (as := []) (hst := rfl)
      refine (hL.size ?_)
      refine V_icmp_ge 46 dX16_insert_12 (by decide) (fun _ => ?_) (fun c12 => absurd (by rw [hl]; exact Int32.le_refl _) c12)
      exact fin _ (Nat.le_refl _) he
    · intro i hi ih he
      obtain ⟨u, hu, ed⟩ := drop_at hi
      rw [ed, insP_c] at he
      obtain ⟨q, hq, hqt⟩ := hT.at hu
      obtain ⟨pq, hpq⟩ := hqt.obj
      refine V_iload_n dX16_insert_2 rfl ?_
      refine V_aload_n dX16_insert_3 rfl (Or.inl ⟨_, rfl⟩) ?_
      refine V_get ckX16 (by first | assumption | (repeat (first | exact g_up_at | exact g_new_at rfl | assumption | refine g_up_of (by first | assumption | (simp only [g_new, g_up]; omega) | omega) ?_ | refine g_new_of (by first | assumption | (simp only [g_new, g_up]; omega) | omega) ?_))) 0 (by decide) q1742 rfl (by rfl) dX16_insert_4 ?_
      refine V_callF (q := (RJ2, TJ2, 3)) (x := ⟨"java/util/List", "size", "()I"⟩) kJ2_size q1755 ⟨by decide +kernel, by decide +kernel⟩ q528 q527 q533 q531 q529 (by decide +kernel) q532 q530 hc rfl dX16_insert_7 ?_ (d' := 0) (as := []) (hst := rfl)
      refine (hL.size ?_)
      refine V_icmp_ge 46 dX16_insert_12 (by decide) (fun c12 => absurd c12 (nI_ge (by omega) (by omega))) (fun _ => ?_)
      refine V_aload_n dX16_insert_15 rfl (Or.inl ⟨_, rfl⟩) ?_
      refine V_get ckX16 (by first | assumption | (repeat (first | exact g_up_at | exact g_new_at rfl | assumption | refine g_up_of (by first | assumption | (simp only [g_new, g_up]; omega) | omega) ?_ | refine g_new_of (by first | assumption | (simp only [g_new, g_up]; omega) | omega) ?_))) 0 (by decide) q1742 rfl (by rfl) dX16_insert_16 ?_
      refine V_iload_n dX16_insert_19 rfl ?_
      refine V_callF (q := (RJ2, TJ2, 3)) (x := ⟨"java/util/List", "get", "(I)Ljava/lang/Object;"⟩) kJ2_get q1757 ⟨by decide +kernel, by decide +kernel⟩ q544 q543 q548 q546 q529 (by decide +kernel) q547 q545 hc rfl dX16_insert_20 ?_ (d' := 2) (as := [_]) (hst := rfl)
      refine (als_get (k := i) hL rfl hq ?_)
      refine V_castS (q := (RX11, TX11, 1)) (by first | assumption | (repeat (first | exact g_up_at | exact g_new_at rfl | assumption | refine g_up_of (by first | assumption | (simp only [g_new, g_up]; omega) | omega) ?_ | refine g_new_of (by first | assumption | (simp only [g_new, g_up]; omega) | omega) ?_))) rfl q1758 dX16_insert_25 ?_
      refine V_iconstv 0 dX16_insert_28 (by decide) ?_
      refine V_callV (q := (RX11, TX11, 1)) kX11_part q1759 q1103 q1104 (by first | assumption | (repeat (first | exact g_up_at | exact g_new_at rfl | assumption | refine g_up_of (by first | assumption | (simp only [g_new, g_up]; omega) | omega) ?_ | refine g_new_of (by first | assumption | (simp only [g_new, g_up]; omega) | omega) ?_))) rfl dX16_insert_29 ?_ (d' := 0) (as := [_]) (hst := rfl)
      refine (tint_part (k := 0) hqt rfl (by decide) ?_)
      refine V_aload_n dX16_insert_32 rfl (Or.inl ⟨_, rfl⟩) ?_
      refine V_iconstv 0 dX16_insert_33 (by decide) ?_
      refine V_callV (q := (RX11, TX11, 1)) kX11_part q1759 q1103 q1104 (by first | assumption | (repeat (first | exact g_up_at | exact g_new_at rfl | assumption | refine g_up_of (by first | assumption | (simp only [g_new, g_up]; omega) | omega) ?_ | refine g_new_of (by first | assumption | (simp only [g_new, g_up]; omega) | omega) ?_))) rfl dX16_insert_34 ?_ (d' := 0) (as := [_]) (hst := rfl)
      refine (tint_part (k := 0) ht rfl (by decide) ?_)
      refine V_icmp_gt 46 dX16_insert_37 (by decide) (fun c37 => ?_) (fun c37 => ?_)
      · have c37 : t.1 < u.1 := c37
        rw [if_neg (Int32.not_le.mpr c37)] at he
        exact V_subk (fin i (Nat.le_of_lt hi) he) ⟨rfl, rfl, rfl, trivial⟩
      · have c37 : ¬ t.1 < u.1 := c37
        rw [if_pos (Int32.not_lt.mp c37)] at he
        refine V_iinc dX16_insert_40 rfl (by decide) ?_
        refine V_goto 2 dX16_insert_43 (by decide) ?_
        refine V_subk (ih (by omega)) ⟨rfl, rfl, ?_, trivial⟩
        rw [← nI_1 i]; rfl
  refine V_iconstv 0 dX16_insert_0 (by decide) ?_
  refine V_istore_n dX16_insert_1 (by decide) ?_
  exact V_subk (loop 0 (Nat.zero_le _) (by rw [List.drop_zero, Nat.zero_add])) ⟨rfl, rfl, rfl, trivial⟩
theorem off_redBound {A : Nat → Prop} {ta tb k : Nat} {t u : Tn} (ht : TintAt E A G ta t) (hu : TintAt E A G tb u) (kk : P (.returned (some (.int (comb k (i_abs (t.1 - u.1)) 0 0)))) G) : g_Spc l E mX2_redBound 3 [.ref (mt_ad E k), .ref ta, .ref tb] G P := by
  obtain ⟨pt, hpt⟩ := ht.obj
  refine V_intro (plainFor_of_name plX2) (Nat.le_of_ble_eq_true rfl) ?_
  refine V_aload_n dX2_redBound_0 rfl (Or.inl ⟨_, rfl⟩) ?_
  refine V_aload_n dX2_redBound_1 rfl (Or.inl ⟨_, rfl⟩) ?_
  refine V_aload_n dX2_redBound_2 rfl (Or.inl ⟨_, rfl⟩) ?_
  refine V_iconstv 0 dX2_redBound_3 (by decide) ?_
  refine V_callV (q := (RX11, TX11, 1)) kX11_difference q1806 q1343 q1344 (by first | assumption | (repeat (first | exact g_up_at | exact g_new_at rfl | assumption | refine g_up_of (by first | assumption | (simp only [g_new, g_up]; omega) | omega) ?_ | refine g_new_of (by first | assumption | (simp only [g_new, g_up]; omega) | omega) ?_))) rfl dX2_redBound_4 ?_ (d' := 1) (as := [_, _]) (hst := rfl)
  refine (tint_difference (k := 0) ht hu rfl (by decide) ?_)
  refine V_iconstv 0 dX2_redBound_7 (by decide) ?_
  refine V_iconstv 0 dX2_redBound_8 (by decide) ?_
  refine V_combine q1808 dX2_redBound_9 (by decide) (Nat.le_of_ble_eq_true rfl) ?_
  refine V_ireturn dX2_redBound_14 rfl ?_
  exact kk
end CLOSE
