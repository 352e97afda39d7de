/-! MODULE ColourOffice: its state -/
set_option maxRecDepth 100000
/-- shapes of an office's cells -/
def isO (y : va_E) : Bool := match y with
  | .inr o => decide (o.1 = 1) || decide (o.1 = 2) || decide (o.1 = 6) || decide (o.1 = 9) || decide (o.1 = 10) || decide (o.1 = 19)
  | .inl _ => true
/-- shapes of cells that the component doesn't write -/
def isR (y : va_E) : Bool := match y with
  | .inr o => decide (o.1 = 4)
  | .inl _ => true
/-- where an office's cells lie -/
def Oc (K : Nat → Prop) (G : g_G) (sb q : Nat) : Prop := K q ∧ (∃ y, G.1 q = some y ∧ isO y = true) ∧ ¬ SbAr G sb q
theorem OffAt.tr {E : g_E} {A B : Nat → Prop} {n n' a : Nat} {G G' : g_G} {o : Of} (h : OffAt E A n G a o) (hn : n' ≤ n) (hk : ∀ q y, A q → G.1 q = some y → isO y = true → G'.1 q = some y ∧ B q) : OffAt E B n' G' a o := by
  obtain ⟨s, pa, fs, al, rs, h1, h2, h3, h4, ⟨s1, s2, s3, s4, s5, s6, f, s7, s8⟩, ⟨f1, f2, f3⟩, ⟨l1, l2, mc, ar, l3, l4⟩, ⟨r1, r2⟩, h9, h10⟩ := h
  have T : ∀ c t, TintAt E A G c t → TintAt E B G' c t := fun c t ⟨t1, pa, f, t2, t3, t4, t5⟩ => ⟨(hk _ _ t1 t3 rfl).2, pa, f, (hk _ _ t2 t4 rfl).2, (hk _ _ t1 t3 rfl).1, (hk _ _ t2 t4 rfl).1, t5⟩
  refine ⟨s, pa, fs, al, rs, Nat.le_trans hn h1, (hk _ _ h2 h4 rfl).2, h3, (hk _ _ h2 h4 rfl).1, ⟨Nat.le_trans hn s1, Nat.le_trans hn s2, (hk _ _ s3 s5 rfl).2, (hk _ _ s4 s7 rfl).2, (hk _ _ s3 s5 rfl).1, s6, f, (hk _ _ s4 s7 rfl).1, s8⟩, ⟨f1, f2, fun k a r x y => ?_⟩, ⟨Nat.le_trans hn l1, (hk _ _ l2 l3 rfl).2, mc, ar, (hk _ _ l2 l3 rfl).1, ?_⟩, ⟨r1, fun k a r x y => ?_⟩, h9, ?_⟩
  · obtain ⟨g1, g2, ta, g3, g4⟩ := f3 k a r x y
    exact ⟨Nat.le_trans hn g1, (hk _ _ g2 g3 rfl).2, ta, (hk _ _ g2 g3 rfl).1, T _ _ g4⟩
  · rcases l4 with ⟨e1, e2⟩ | ⟨m1, m2, cap, f', m3, m4, m5, m6, m7⟩
    · exact Or.inl ⟨e1, e2⟩
    · exact Or.inr ⟨Nat.le_trans hn m1, (hk _ _ m2 m6 rfl).2, cap, f', m3, m4, m5, (hk _ _ m2 m6 rfl).1, m7⟩
  · obtain ⟨g2, ta, g3, g4⟩ := r2 k a r x y
    exact ⟨(hk _ _ g2 g3 rfl).2, ta, (hk _ _ g2 g3 rfl).1, T _ _ g4⟩
  · intro mc' sz' e
    rw [(hk _ _ l2 l3 rfl).1] at e
    exact h10 mc' sz' (l3.trans e)
/-- what the state's office cells and strings need to be kept -/
def Kp (K : Nat → Prop) (G G' : g_G) (sb : Nat) : Prop := (∀ q y, K q → G.1 q = some y → isO y = true → ¬ SbAr G sb q → G'.1 q = some y) ∧ (∀ q vs, G.1 q = some (g_ob 22 vs) → G'.1 q = some (g_ob 22 vs)) ∧ ∀ q, q < G.2.1 → SbAr G' sb q → SbAr G sb q
def OfK (E : g_E) (K : Nat → Prop) (G : g_G) (sb a : Nat) (o : Of) : Prop := OffAt E (Oc K G sb) (g_B E) G a o
def SnAt (E : g_E) (K : Nat → Prop) (G : g_G) (sb : Nat) (sn : Value) (sv : Option Of) : Prop := match sv with
  | none => sn = .null
  | some o => ∃ b, sn = .ref b ∧ OfK E K G sb b o
def PoAt (E : g_E) (K : Nat → Prop) (G : g_G) (sb : Nat) (as : List Nat) (H : List Of) : Prop := as.length = H.length ∧ H.length ≤ 8 ∧ ∀ k b o, as[k]? = some b → H[k]? = some o → OfK E K G sb b o
def OutAt (E : g_E) (K : Nat → Prop) (G : g_G) (sb out : Nat) (L : List Int32) : Prop := ∃ (h z : Int32) (va : Nat) (f : Nat → Int32), g_rd E G out (g_ob 22 [.ref va, .int 0, .int h, .int z]) ∧ ((G.1 va = some (.inl (g_A E .byte, (L.length, .inl f))) ∧ K va ∧ ¬ SbAr G sb va) ∨ g_cstA E va .byte (L.length, .inl f)) ∧ (∀ k c, L[k]? = some c → f k = c) ∧ ∀ c ∈ L, isC c
/-- cells outside K are arrays or the reference -/
def KOk (K : Nat → Prop) (G : g_G) : Prop := ∀ z, ¬ K z → ∃ y, G.1 z = some y ∧ isR y = true
abbrev clO (a : Nat) (sn : Value) (ps sb : Nat) (f : Nat → Int32) (out : Nat) : va_E := g_ob 0 [.ref a, sn, .ref ps, .ref sb, .int (f 7), .int (f 8), .int (f 9), .ref out]
def CXc (E : g_E) (K : Nat → Prop) (G : g_G) (x : Nat) (S : St) (a : Nat) (sn : Value) (ps sb out : Nat) (as : List Nat) : Prop :=
  g_B E ≤ x ∧ KOk K G ∧ G.1 x = some (clO a sn ps sb S.2.2.2.1 out) ∧ OfK E K G sb a S.1 ∧ SnAt E K G sb sn S.2.2.1 ∧ PsAt (g_B E) G ps as ∧ PoAt E K G sb as S.2.1 ∧ SbAt E (g_B E) G sb S.2.2.2.2.2 ∧ (∀ ar, SbAr G sb ar → K ar) ∧ OutAt E K G sb out S.2.2.2.2.1
/-- the component at x shows S -/
def CX (E : g_E) (K : Nat → Prop) (G : g_G) (x : Nat) (S : St) : Prop := ∃ a sn ps sb out as, CXc E K G x S a sn ps sb out as
section CSTATE
variable {E : g_E} {G G' : g_G} {K : Nat → Prop} {sb : Nat}
theorem OfK.kp {a : Nat} {o : Of} (h : OfK E K G sb a o) (wf : g_wf G) (k : Kp K G G' sb) : OfK E K G' sb a o := OffAt.tr h (Nat.le_refl _) fun q y hq hy hi => by
  obtain ⟨h1, -, h3⟩ := hq
  have h4 := k.1 q y h1 hy hi h3
  exact ⟨h4, h1, ⟨y, h4, hi⟩, fun e => h3 (k.2.2 q (wf _ _ hy) e)⟩
theorem SnAt.kp {sn : Value} {sv : Option Of} (h : SnAt E K G sb sn sv) (wf : g_wf G) (k : Kp K G G' sb) : SnAt E K G' sb sn sv := by
  cases sv with
  | none => exact h
  | some o =>
    obtain ⟨b, h1, h2⟩ := h
    exact ⟨b, h1, h2.kp wf k⟩
theorem PoAt.kp {as : List Nat} {H : List Of} (h : PoAt E K G sb as H) (wf : g_wf G) (k : Kp K G G' sb) : PoAt E K G' sb as H := ⟨h.1, h.2.1, fun i b o x y => (h.2.2 i b o x y).kp wf k⟩
theorem OutAt.kp {out : Nat} {L : List Int32} (h : OutAt E K G sb out L) (wf : g_wf G) (k : Kp K G G' sb) : OutAt E K G' sb out L := by
  obtain ⟨h1, z, va, f, h2, h3, h4, h5⟩ := h
  refine ⟨h1, z, va, f, h2.imp (fun q => k.2.1 _ _ q) id, h3.imp (fun ⟨a, b, c⟩ => ⟨k.1 _ _ b a rfl c, b, fun e => c (k.2.2 va (wf _ _ a) e)⟩) id, h4, h5⟩
theorem OutAt.R {out : Nat} {L : List Int32} (h : OutAt E K G sb out L) : ∃ h z, StrR E G out L h z := by
  obtain ⟨h1, z, va, f, h2, h3, h4, h5⟩ := h
  exact ⟨h1, z, va, h2, f, h3.imp (fun q => q.1) id, h4⟩
theorem KOk.kp (h : KOk K G) (k : g_ke (fun z => ¬ K z) G G') : KOk K G' := fun z hz => by
  obtain ⟨y, h1, h2⟩ := h z hz
  exact ⟨y, k _ _ hz h1, h2⟩
theorem KOk.new (h : KOk K G) (wf : g_wf G) : ∀ q, G.2.1 ≤ q → K q := fun q hq => Classical.byContradiction fun hn => by
  obtain ⟨y, h1, -⟩ := h q hn
  have := wf _ _ h1
  omega
theorem KOk.ob (h : KOk K G) {z ci : Nat} {vs : List Value} (hz : G.1 z = some (g_ob ci vs)) (hc : ci ≠ 4) : K z := Classical.byContradiction fun hn => by
  obtain ⟨y, h1, h2⟩ := h z hn
  rw [hz] at h1
  cases h1
  exact hc (of_decide_eq_true h2)
theorem SbAt.back {z : Nat} {w : List Int32} {n : Nat} (hs : SbAt E n G sb w) (hk : ∀ y, G.1 sb = some y → G'.1 sb = some y) (h : SbAr G' sb z) : SbAr G sb z := by
  obtain ⟨c, ml, cnt, e⟩ := h
  obtain ⟨ar, ml', hc⟩ := hs.cell
  rw [hk _ hc] at e
  exact ⟨c, ml, cnt, hc.trans e⟩
theorem Kp.all {n : Nat} {w : List Int32} (hs : SbAt E n G sb w) (k : g_ke g_all G G') : Kp K G G' sb := ⟨fun q y _ hy _ _ => k q y trivial hy, fun q vs hy => k q _ trivial hy, fun q _ e => hs.back (fun y hy => k _ _ trivial hy) e⟩
/-- a query keeps the state -/
theorem CXc.all {x a ps out : Nat} {S : St} {sn : Value} {as : List Nat} (h : CXc E K G x S a sn ps sb out as) (wf : g_wf G) (k : g_ke g_all G G') : CXc E K G' x S a sn ps sb out as := by
  obtain ⟨h1, h2, h3, h4, h5, h6, h7, h8, h9, h10⟩ := h
  have kp : Kp K G G' sb := Kp.all h8 k
  exact ⟨h1, h2.kp (k.mono fun _ _ => trivial), k _ _ trivial h3, h4.kp wf kp, h5.kp wf kp, h6.keep k, h7.kp wf kp, h8.keep k, fun ar e => h9 ar (SbAt.back h8 (fun y hy => k _ _ trivial hy) e), h10.kp wf kp⟩
theorem CX.all {x : Nat} {S : St} (h : CX E K G x S) (wf : g_wf G) (k : g_ke g_all G G') : CX E K G' x S := by
  obtain ⟨a, sn, ps, sb, out, as, h⟩ := h
  exact ⟨a, sn, ps, sb, out, as, h.all wf k⟩
/-- what others do outside K keeps the state -/
theorem CX.ref {x : Nat} {S : St} (h : CX E K G x S) (wf : g_wf G) (k : g_ke K G G') (hK : KOk K G') : CX E K G' x S := by
  obtain ⟨a, sn, ps, sb, out, as, h1, h2, h3, h4, h5, h6, h7, h8, h9, h10⟩ := h
  obtain ⟨ar, ml, hsc⟩ := h8.cell
  have hsb : ∀ y, G.1 sb = some y → G'.1 sb = some y := fun y hy => k _ _ (h2.ob hsc (by decide)) hy
  have kp : Kp K G G' sb := ⟨fun q y hq hy _ _ => k q y hq hy, fun q vs hy => k _ _ (h2.ob hy (by decide)) hy, fun q _ e => h8.back hsb e⟩
  have hps : ∃ ll, G.1 ps = some (g_ob 3 [.ref ll]) := by
    obtain ⟨-, ll, e, -⟩ := h6
    exact ⟨ll, e⟩
  obtain ⟨ll, hpc⟩ := hps
  refine ⟨a, sn, ps, sb, out, as, h1, hK, k _ _ (h2.ob h3 (by decide)) h3, h4.kp wf kp, h5.kp wf kp, h6.ke2 k (h2.ob hpc (by decide)) (fun q vs e => ?_), h7.kp wf kp, h8.ke2 k (h2.ob hsc (by decide)) h9, fun ar e => h9 ar (h8.back hsb e), h10.kp wf kp⟩
  rcases e with e | e
  · exact h2.ob e (by decide)
  · exact h2.ob e (by decide)
end CSTATE
