/-! String constants of the start (printed by wip gen/mk92.py from src/92.head) -/
set_option maxRecDepth 100000
abbrev scV (cls : String) (i : Nat) : Term := .field (.string cls i) "java/lang/String" "value" "[B"
def scB (cls : String) (i : Nat) (w : List Int32) (h z : Int32) : List Cond :=
  Cond.exactly (.string cls i) "java/lang/String" :: Cond.eq (.field (.string cls i) "java/lang/String" "coder" "B") (.int 0) :: Cond.arrayOf (scV cls i) .byte :: Cond.eq (.length (scV cls i)) (.int (Int32.ofNat w.length)) :: ((List.range' 0 w.length).map (fun j => Cond.eq (.elem (scV cls i) (.int (Int32.ofNat j))) (.int ((w[j]?).getD 0))) ++ [Cond.eq (.field (.string cls i) "java/lang/String" "hash" "I") (.int h), Cond.eq (.field (.string cls i) "java/lang/String" "hashIsZero" "Z") (.int z)])
theorem sc_in {L : List Cond} {a : Nat} (h : (nrw.drop a).take L.length = L) : ∀ c ∈ L, c ∈ nrw := fun c hc => by
  rw [← h] at hc
  exact List.mem_of_mem_drop (List.mem_of_mem_take hc)
def scA (E : g_E) (cls : String) (i : Nat) : Nat := match (Term.string cls i).eval #[Value.ref E.2.1] E.1 none [] E.1 with
  | some (.ref q) => q
  | _ => 0
/-- a text as a String -/
def StrR (E : g_E) (G : g_G) (a : Nat) (w : List Int32) (h z : Int32) : Prop := ∃ va, g_rd E G a (g_ob 22 [.ref va, .int 0, .int h, .int z]) ∧ ∃ f, g_rdA E G va .byte (w.length, .inl f) ∧ ∀ k c, w[k]? = some c → f k = c
theorem sc_ok {l : Launch} {E : g_E} (ok : g_ok l E) {cls : String} {i : Nat} {w : List Int32} {h z : Int32} (hl : w.length < 2 ^ 31) (hb : ∀ c ∈ scB cls i w h z, c ∈ nrw) :
    (Term.string cls i).eval #[Value.ref E.2.1] E.1 none [] E.1 = some (.ref (scA E cls i)) ∧ ∃ va, g_cst E (scA E cls i) (g_ob 22 [.ref va, .int 0, .int h, .int z]) ∧ g_cstA E va .byte (w.length, .inl (fun j => (w[j]?).getD 0)) := by
  have b1 : Cond.exactly (.string cls i) "java/lang/String" ∈ nrw := hb _ List.mem_cons_self
  have b2 : Cond.eq (.field (.string cls i) "java/lang/String" "coder" "B") (.int 0) ∈ nrw := hb _ (List.mem_cons_of_mem _ List.mem_cons_self)
  have b3 : Cond.arrayOf (scV cls i) .byte ∈ nrw := hb _ (List.mem_cons_of_mem _ (List.mem_cons_of_mem _ List.mem_cons_self))
  have b4 : Cond.eq (.length (scV cls i)) (.int (Int32.ofNat w.length)) ∈ nrw := hb _ (List.mem_cons_of_mem _ (List.mem_cons_of_mem _ (List.mem_cons_of_mem _ List.mem_cons_self)))
  have b5 : ∀ j, j < w.length → Cond.eq (.elem (scV cls i) (.int (Int32.ofNat j))) (.int ((w[j]?).getD 0)) ∈ nrw := fun j hj => hb _ (List.mem_cons_of_mem _ (List.mem_cons_of_mem _ (List.mem_cons_of_mem _ (List.mem_cons_of_mem _ (List.mem_append_left _ (List.mem_map.mpr ⟨j, List.mem_range'_1.mpr ⟨Nat.zero_le _, by omega⟩, rfl⟩))))))
  have b6 : Cond.eq (.field (.string cls i) "java/lang/String" "hash" "I") (.int h) ∈ nrw := hb _ (List.mem_cons_of_mem _ (List.mem_cons_of_mem _ (List.mem_cons_of_mem _ (List.mem_cons_of_mem _ (List.mem_append_right _ List.mem_cons_self)))))
  have b7 : Cond.eq (.field (.string cls i) "java/lang/String" "hashIsZero" "Z") (.int z) ∈ nrw := hb _ (List.mem_cons_of_mem _ (List.mem_cons_of_mem _ (List.mem_cons_of_mem _ (List.mem_cons_of_mem _ (List.mem_append_right _ (List.mem_cons_of_mem _ List.mem_cons_self))))))
  obtain ⟨va, hva, hA⟩ := cst_arr ok (f := fun j => (w[j]?).getD 0) hl b3 b4 b5
  obtain ⟨a, c, cell, k, h1, hfc, h2, -, h3, h4, -⟩ := Cond.exactly_spec (g_cond ok b1)
  have ea : scA E cls i = a := by
    unfold scA
    rw [h1]
  refine ⟨by rw [ea]; exact h1, va, ?_, hA⟩
  rw [ea]
  have o0 := vk_OFof (A := fun _ => False) h1 hva (fun _ _ h => h)
  have o1 := vk_OFof (A := fun _ => False) h1 (va_eqt (g_cond ok b2)) (fun _ _ h => h)
  have o2 := vk_OFof (A := fun _ => False) h1 (va_eqt (g_cond ok b6)) (fun _ _ h => h)
  have o3 := vk_OFof (A := fun _ => False) h1 (va_eqt (g_cond ok b7)) (fun _ _ h => h)
  obtain ⟨hS, hfc2, -⟩ := ok.2.2.1 22 _ ckJ7.1
  have hvm : cell.vm ≠ .unknown := by
    obtain ⟨cf, kf, fi, f, cell2, g1, -, g3, g4, -⟩ := id o0
    cases h2.symm.trans g3
    exact g4
  have e9 : c = E.2.2.1 22 := Option.some.inj (hfc.symm.trans hfc2)
  have get : ∀ (j : Nat) (nm d : String) (v : Value), va_OF "java/lang/String" nm d v a (fun _ => False) E.1 E.1.heap → SlotIs E.1 "java/lang/String" nm d (E.2.2.2 22 j) → cell.slots[E.2.2.2 22 j]? = some v := by
    intro j nm d v ho hs
    obtain ⟨cf, kf, fi, f, cell2, g1, -, g3, -, g5, -⟩ := ho
    cases h2.symm.trans g3
    obtain ⟨cf', kf', fi', f', g1', g2'⟩ := hs
    cases g1.symm.trans g1'
    rw [← g2']
    exact g5
  refine ⟨cell, h2, hvm, h3, _, ckJ7.1, by rw [h4, e9], fun k hk => ?_⟩
  have hk : k < 4 := hk
  match k, hk with
  | 0, _ => exact get 0 _ _ _ o0 (hS 0 (by decide))
  | 1, _ => exact get 1 _ _ _ o1 (hS 1 (by decide))
  | 2, _ => exact get 2 _ _ _ o2 (hS 2 (by decide))
  | 3, _ => exact get 3 _ _ _ o3 (hS 3 (by decide))
section STRC
variable {l : Launch} {E : g_E} {M : g_M} {d : Nat} {P : Outcome → g_G → Prop} {pc : Nat} {L : List (Nat × Value)} {st : List Value} {G : g_G}
/-- a String constant is loaded -/
theorem V_sc {cls tx : String} {i : Nat} {w : List Int32} {h z : Int32} (hb : ∀ c ∈ scB cls i w h z, c ∈ nrw) (hw : Cond.stringRef M.1.cls i tx ∈ lw_tbl) (hd : decode M.2.1 pc = .ok (.ldc i, 2)) (hl : w.length < 2 ^ 31) (hc : M.1.cls = cls) (k : StrR E G (scA E cls i) w h z → V l E M d P (pc + 2) L (.ref (scA E cls i) :: st) G) : V l E M d P pc L st G := by
  subst hc
  refine V_okk fun ok => ?_
  obtain ⟨h1, va, h2, h3⟩ := sc_ok ok hl hb
  exact V_ldcS hw h1 hd (k ⟨va, Or.inr h2, _, Or.inr h3, fun k c hk => by rw [hk]; rfl⟩)
theorem g_rd.ke {a : Nat} {x : va_E} {B : Nat → Prop} {G' : g_G} (h : g_rd E G a x) (hk : g_ke B G G') (hb : G.1 a = some x → B a) : g_rd E G' a x := h.imp (fun q => hk _ _ (hb q) q) id
/-- cells that a String is made of -/
def isS (x : va_E) : Bool := isT x || (match x with
  | .inr o => decide (o.1 = 22)
  | .inl _ => false)
theorem StrR.ke2 {a : Nat} {w : List Int32} {h z : Int32} {B : Nat → Prop} {G' : g_G} (H : StrR E G a w h z) (hk : g_ke B G G') (hb : ∀ q x, G.1 q = some x → isS x = true → B q) : StrR E G' a w h z := by
  obtain ⟨va, h1, f, h2, h3⟩ := H
  exact ⟨va, g_rd.ke h1 hk (fun q => hb _ _ q rfl), f, h2.imp (fun q => hk _ _ (hb _ _ q rfl) q) id, h3⟩
theorem StrR.keep {a : Nat} {w : List Int32} {h z : Int32} {G' : g_G} (H : StrR E G a w h z) (hk : g_ke g_all G G') : StrR E G' a w h z := H.ke2 hk fun _ _ _ _ => trivial
theorem StrR.low {a : Nat} {w : List Int32} {h z : Int32} {G' : g_G} {n : Nat} (wf : g_wf G) (H : StrR E G a w h z) (hk : g_ke (fun q => q < n) G G') (hn : G.2.1 ≤ n) : StrR E G' a w h z := H.ke2 hk fun q x hx _ => Nat.lt_of_lt_of_le (wf q x hx) hn
end STRC
theorem scX1_63 : ∀ c ∈ scB "ColourOffice" 63 [] 0 1, c ∈ nrw := sc_in (a := 1771) (by decide +kernel)
theorem scX1_94 : ∀ c ∈ scB "ColourOffice" 94 [102, 105, 110, 100] 3143097 0, c ∈ nrw := sc_in (a := 2007) (by decide +kernel)
theorem scX1_100 : ∀ c ∈ scB "ColourOffice" 100 [114, 101, 112, 111, 114, 116] (-934521548) 0, c ∈ nrw := sc_in (a := 2018) (by decide +kernel)
theorem scX1_102 : ∀ c ∈ scB "ColourOffice" 102 [100, 114, 111, 112] 3092207 0, c ∈ nrw := sc_in (a := 2031) (by decide +kernel)
theorem scX1_104 : ∀ c ∈ scB "ColourOffice" 104 [100, 105, 115, 99, 97, 114, 100] 1671366814 0, c ∈ nrw := sc_in (a := 2042) (by decide +kernel)
theorem scX1_106 : ∀ c ∈ scB "ColourOffice" 106 [109, 101, 116, 114, 105, 99] (-1077545552) 0, c ∈ nrw := sc_in (a := 2056) (by decide +kernel)
theorem scX1_108 : ∀ c ∈ scB "ColourOffice" 108 [114, 101, 116, 117, 114, 110] (-934396624) 0, c ∈ nrw := sc_in (a := 2069) (by decide +kernel)
theorem scX1_110 : ∀ c ∈ scB "ColourOffice" 110 [115, 101, 116, 116, 108, 101] (-905768629) 0, c ∈ nrw := sc_in (a := 1777) (by decide +kernel)
theorem scX1_112 : ∀ c ∈ scB "ColourOffice" 112 [109, 105, 120] 108124 0, c ∈ nrw := sc_in (a := 2082) (by decide +kernel)
theorem scX1_114 : ∀ c ∈ scB "ColourOffice" 114 [100, 97, 121] 99228 0, c ∈ nrw := sc_in (a := 2092) (by decide +kernel)
theorem scX8_23 : ∀ c ∈ scB "ColourOffice$Command" 23 [102, 105, 110, 100] 3143097 0, c ∈ nrw := sc_in (a := 1856) (by decide +kernel)
theorem scX8_29 : ∀ c ∈ scB "ColourOffice$Command" 29 [114, 101, 112, 111, 114, 116] (-934521548) 0, c ∈ nrw := sc_in (a := 1866) (by decide +kernel)
theorem scX8_31 : ∀ c ∈ scB "ColourOffice$Command" 31 [100, 114, 111, 112] 3092207 0, c ∈ nrw := sc_in (a := 1878) (by decide +kernel)
theorem scX8_33 : ∀ c ∈ scB "ColourOffice$Command" 33 [100, 105, 115, 99, 97, 114, 100] 1671366814 0, c ∈ nrw := sc_in (a := 1888) (by decide +kernel)
theorem scX8_35 : ∀ c ∈ scB "ColourOffice$Command" 35 [109, 101, 116, 114, 105, 99] (-1077545552) 0, c ∈ nrw := sc_in (a := 1901) (by decide +kernel)
theorem scX8_37 : ∀ c ∈ scB "ColourOffice$Command" 37 [114, 101, 116, 117, 114, 110] (-934396624) 0, c ∈ nrw := sc_in (a := 1913) (by decide +kernel)
theorem scX8_39 : ∀ c ∈ scB "ColourOffice$Command" 39 [115, 101, 116, 116, 108, 101] (-905768629) 0, c ∈ nrw := sc_in (a := 1925) (by decide +kernel)
theorem scX8_41 : ∀ c ∈ scB "ColourOffice$Command" 41 [109, 105, 120] 108124 0, c ∈ nrw := sc_in (a := 1938) (by decide +kernel)
theorem scX7_47 : ∀ c ∈ scB "ColourOffice$Found" 47 [35] 35 0, c ∈ nrw := sc_in (a := 2101) (by decide +kernel)
theorem scX7_56 : ∀ c ∈ scB "ColourOffice$Found" 56 [102] 102 0, c ∈ nrw := sc_in (a := 2115) (by decide +kernel)
theorem scX7_58 : ∀ c ∈ scB "ColourOffice$Found" 58 [100] 100 0, c ∈ nrw := sc_in (a := 2122) (by decide +kernel)
theorem scX7_60 : ∀ c ∈ scB "ColourOffice$Found" 60 [103] 103 0, c ∈ nrw := sc_in (a := 2129) (by decide +kernel)
theorem scX7_62 : ∀ c ∈ scB "ColourOffice$Found" 62 [] 0 1, c ∈ nrw := sc_in (a := 2136) (by decide +kernel)
theorem scX2_171 : ∀ c ∈ scB "ColourOffice$Office" 171 [109, 115, 103] 108417 0, c ∈ nrw := sc_in (a := 1947) (by decide +kernel)
theorem scX18_50 : ∀ c ∈ scB "ColourOffice$Parser" 50 [109, 115, 103] 108417 0, c ∈ nrw := sc_in (a := 2339) (by decide +kernel)
theorem scX18_59 : ∀ c ∈ scB "ColourOffice$Parser" 59 [32, 102, 105, 110, 100, 32, 114, 101, 112, 111, 114, 116, 32, 100, 114, 111, 112, 32, 100, 105, 115, 99, 97, 114, 100, 32, 109, 101, 116, 114, 105, 99, 32, 114, 101, 116, 117, 114, 110, 32, 115, 101, 116, 116, 108, 101, 32, 109, 105, 120, 32, 100, 97, 121, 32] 1122689903 0, c ∈ nrw := sc_in (a := 2164) (by decide +kernel)
theorem scX18_61 : ∀ c ∈ scB "ColourOffice$Parser" 61 [32] 32 0, c ∈ nrw := sc_in (a := 2225) (by decide +kernel)
theorem scX18_88 : ∀ c ∈ scB "ColourOffice$Parser" 88 [102, 105, 110, 100] 3143097 0, c ∈ nrw := sc_in (a := 2250) (by decide +kernel)
theorem scX18_94 : ∀ c ∈ scB "ColourOffice$Parser" 94 [114, 101, 112, 111, 114, 116] (-934521548) 0, c ∈ nrw := sc_in (a := 2262) (by decide +kernel)
theorem scX18_96 : ∀ c ∈ scB "ColourOffice$Parser" 96 [109, 101, 116, 114, 105, 99] (-1077545552) 0, c ∈ nrw := sc_in (a := 2276) (by decide +kernel)
theorem scX18_98 : ∀ c ∈ scB "ColourOffice$Parser" 98 [114, 101, 116, 117, 114, 110] (-934396624) 0, c ∈ nrw := sc_in (a := 2290) (by decide +kernel)
theorem scX18_100 : ∀ c ∈ scB "ColourOffice$Parser" 100 [109, 105, 120] 108124 0, c ∈ nrw := sc_in (a := 2304) (by decide +kernel)
theorem scX18_102 : ∀ c ∈ scB "ColourOffice$Parser" 102 [115, 101, 116, 116, 108, 101] (-905768629) 0, c ∈ nrw := sc_in (a := 2315) (by decide +kernel)
theorem scX18_104 : ∀ c ∈ scB "ColourOffice$Parser" 104 [100, 97, 121] 99228 0, c ∈ nrw := sc_in (a := 2329) (by decide +kernel)
theorem scX12_30 : ∀ c ∈ scB "ColourOffice$Report" 30 [63] 63 0, c ∈ nrw := sc_in (a := 2143) (by decide +kernel)
theorem scX12_41 : ∀ c ∈ scB "ColourOffice$Report" 41 [126] 126 0, c ∈ nrw := sc_in (a := 2150) (by decide +kernel)
theorem scX12_43 : ∀ c ∈ scB "ColourOffice$Report" 43 [43] 43 0, c ∈ nrw := sc_in (a := 2157) (by decide +kernel)
theorem scX11_43 : ∀ c ∈ scB "ColourOffice$Tint" 43 [47] 47 0, c ∈ nrw := sc_in (a := 2108) (by decide +kernel)
