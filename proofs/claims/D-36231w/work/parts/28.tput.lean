/-! JDK: TreeMap's insertion -/
set_option maxRecDepth 100000
/-- new node x with nothing below it -/
abbrev tAdd (Θ : gT) (x : Nat) (k : Int32) (bx : Nat) (w par : Option Nat) : gT := (fun q => q = x ∨ tS Θ q, fun q => if q = x then k else tK Θ q, fun q => if q = x then bx else tX Θ q, fun q => if q = x then w else tV Θ q, fun q => if q = x then none else tL Θ q, fun q => if q = x then none else tR Θ q, fun q => if q = x then par else tP Θ q, fun q => if q = x then 1 else tC Θ q)
abbrev tOne (x : Nat) (k : Int32) (bx : Nat) (w : Option Nat) : gT := (fun q => q = x, fun _ => k, fun _ => bx, fun _ => w, fun _ => none, fun _ => none, fun _ => none, fun _ => 1)
/-- what is under which key -/
def Ct (Θ : gT) (k : Int32) (w : Option Nat) : Prop := ∃ q, tS Θ q ∧ tK Θ q = k ∧ tV Θ q = w
/-- a map at a: a search tree over its cells -/
def TT (h : gH) (t a : Nat) (Θ : gT) (sz md : Int32) : Prop := ∃ (root : Option Nat) (gk : Nat → Int) (lq hq : Nat → Option Nat) (lo hi : Nat → Int), TH h t a Θ root sz md ∧ TI (tS Θ) gk (tL Θ) (tR Θ) (tP Θ) root lq hq lo hi ∧ tG Θ gk
theorem tG.B {Θ : gT} {gk : Nat → Int} (g : tG Θ gk) : ∀ q, tS Θ q → gk q < tB ∧ -tB < gk q := fun q hq => by rw [g q hq]; exact ⟨(tB_big _).2, (tB_big _).1⟩
theorem TT.fr {h u : gH} {t t' a : Nat} {Θ : gT} {sz md : Int32} (T : TT h t a Θ sz md) (ht : t ≠ 0) (ht' : t' ≠ 0) (k : gfr t' h u) (n : t ≠ t') : TT u t a Θ sz md := by
  obtain ⟨r, gk, lq, hq, lo, hi, T, I, g⟩ := T
  exact ⟨r, gk, lq, hq, lo, hi, T.fr ht ht' k n, I, g⟩
theorem TT.mono {h u : gH} {t a : Nat} {Θ : gT} {sz md : Int32} (T : TT h t a Θ sz md) (k : gle h u) : TT u t a Θ sz md := by
  obtain ⟨r, gk, lq, hq, lo, hi, T, I, g⟩ := T
  exact ⟨r, gk, lq, hq, lo, hi, T.mono k, I, g⟩
theorem TT.rv {h : gH} {t a : Nat} {Θ : gT} {sz md : Int32} (T : TT h t a Θ sz md) : gRv h a RJ19 := by
  obtain ⟨r, gk, lq, hq, lo, hi, T, I, g⟩ := T
  exact T.rv
theorem gle.fr {t : Nat} {h u : gH} (k : gle h u) : gfr t h u := fun _ _ e _ => k _ _ e
theorem TH.add {h : gH} {t a : Nat} {Θ : gT} {root : Option Nat} {sz md : Int32} (T : TH h t a Θ root sz md) {x bx : Nat} {k : Int32} {w par : Option Nat} (hx : h x = some (t, .inr (8, [.ref bx, va_rf w, .null, .null, va_rf par, .int 1]))) (hb : h bx = some (gbox k)) : TH h t a (tAdd Θ x k bx w par) root sz md := by
  obtain ⟨T1, T2, T3⟩ := T
  refine ⟨T1, fun q hq => ?_, fun q hq => ?_⟩
  · by_cases e : q = x
    · subst e
      simp only [ent, tX, tV, tL, tR, tP, tC, tK, tAdd, if_true]
      exact ⟨hx, hb⟩
    · have := T2 q (hq.resolve_left e)
      simp only [ent, tX, tV, tL, tR, tP, tC, tK, tAdd, if_neg e]
      exact this
  · by_cases e : q = x
    · subst e; exact Or.inr (if_pos rfl)
    · have := T3 q (hq.resolve_left e)
      simp only [tC, tAdd, if_neg e]
      exact this
theorem TH.one {h : gH} {t a : Nat} {Θ : gT} {root : Option Nat} {sz md : Int32} (T : TH h t a Θ root sz md) {x bx : Nat} {k : Int32} {w : Option Nat} (hx : h x = some (t, .inr (8, [.ref bx, va_rf w, .null, .null, .null, .int 1]))) (hb : h bx = some (gbox k)) : TH h t a (tOne x k bx w) root sz md := by
  obtain ⟨T1, T2, T3⟩ := T
  exact ⟨T1, fun q hq => by cases hq; exact ⟨hx, hb⟩, fun q hq => Or.inr rfl⟩
section TPUT
variable {G : gG} {h : gH} {t a : Nat} {Θ : gT} {root : Option Nat} {sz md : Int32} {gk : Nat → Int} {lq hq : Nat → Option Nat} {lo hi : Nat → Int}
theorem m_entInit (ht : t ≠ 0) {x : Nat} {w : Nat} (par : Option Nat) {bx : Nat} (hx : h x = some (t, .inr (8, [.null, .null, .null, .null, .null, .int 0]))) : gMet 1 yJ32_init cJ32_init 4 none G h [.ref x, .ref bx, .ref w, va_rf par] (fun v u => v = none ∧ u = gu h x (t, .inr (8, [.ref bx, .ref w, .null, .null, va_rf par, .int 1]))) gNo 0 := by
  cases par with
  | none =>
    show gMet 1 yJ32_init cJ32_init 4 none G h [.ref x, .ref bx, .ref w, .null] _ gNo 0
    refine gMet.of (by decide) (Nat.le_of_ble_eq_true rfl) (fun K C N hG hn hin => ?_)
    subst hG
    have kn_ : ∀ j : Nat, j < 4 → j < kn K := fun j hj => by rw [hn]; exact hj
    refine E.aload_n C dJ32_init_0 rfl ?_
    refine E.objInit C q1122 q108 q109 dJ32_init_1 (by decide) (Nat.le_of_ble_eq_true rfl) ?_
    refine E.aload_n C dJ32_init_4 rfl ?_
    refine E.iconst C dJ32_init_5 (v := 1) (by decide) ?_
    refine E.put C dJ32_init_6 hx (by first | decide | assumption) rfl 5 q1132 (by decide) rfl rfl (by first | rfl | exact nar_rf _ _ | assumption) (by first | rfl | exact fit_rf _ _ | assumption) (Nat.le_of_ble_eq_true rfl) ?_
    refine E.aload_n C dJ32_init_9 rfl ?_
    refine E.aload_n C dJ32_init_10 rfl ?_
    refine E.put C dJ32_init_11 gu_s (by first | decide | assumption) rfl 0 q1123 (by decide) rfl rfl (by first | rfl | exact nar_rf _ _ | assumption) (by first | rfl | exact fit_rf _ _ | assumption) (Nat.le_of_ble_eq_true rfl) ?_
    refine E.aload_n C dJ32_init_14 rfl ?_
    refine E.aload_n C dJ32_init_15 rfl ?_
    refine E.put C dJ32_init_16 gu_s (by first | decide | assumption) rfl 1 q1126 (by decide) rfl rfl (by first | rfl | exact nar_rf _ _ | assumption) (by first | rfl | exact fit_rf _ _ | assumption) (Nat.le_of_ble_eq_true rfl) ?_
    refine E.aload_n C dJ32_init_19 rfl ?_
    refine E.aload_n C dJ32_init_20 rfl ?_
    refine E.put C dJ32_init_21 gu_s (by first | decide | assumption) rfl 4 q1130 (by decide) rfl rfl (by first | rfl | exact nar_rf _ _ | assumption) (by first | rfl | exact fit_rf _ _ | assumption) (Nat.le_of_ble_eq_true rfl) ?_
    refine E.endV C N dJ32_init_24 (by omega) ?_
    exact ⟨rfl, by simp only [gu_uu]; rfl⟩
  | some p =>
    show gMet 1 yJ32_init cJ32_init 4 none G h [.ref x, .ref bx, .ref w, .ref p] _ gNo 0
    refine gMet.of (by decide) (Nat.le_of_ble_eq_true rfl) (fun K C N hG hn hin => ?_)
    subst hG
    have kn_ : ∀ j : Nat, j < 4 → j < kn K := fun j hj => by rw [hn]; exact hj
    refine E.aload_n C dJ32_init_0 rfl ?_
    refine E.objInit C q1122 q108 q109 dJ32_init_1 (by decide) (Nat.le_of_ble_eq_true rfl) ?_
    refine E.aload_n C dJ32_init_4 rfl ?_
    refine E.iconst C dJ32_init_5 (v := 1) (by decide) ?_
    refine E.put C dJ32_init_6 hx (by first | decide | assumption) rfl 5 q1132 (by decide) rfl rfl (by first | rfl | exact nar_rf _ _ | assumption) (by first | rfl | exact fit_rf _ _ | assumption) (Nat.le_of_ble_eq_true rfl) ?_
    refine E.aload_n C dJ32_init_9 rfl ?_
    refine E.aload_n C dJ32_init_10 rfl ?_
    refine E.put C dJ32_init_11 gu_s (by first | decide | assumption) rfl 0 q1123 (by decide) rfl rfl (by first | rfl | exact nar_rf _ _ | assumption) (by first | rfl | exact fit_rf _ _ | assumption) (Nat.le_of_ble_eq_true rfl) ?_
    refine E.aload_n C dJ32_init_14 rfl ?_
    refine E.aload_n C dJ32_init_15 rfl ?_
    refine E.put C dJ32_init_16 gu_s (by first | decide | assumption) rfl 1 q1126 (by decide) rfl rfl (by first | rfl | exact nar_rf _ _ | assumption) (by first | rfl | exact fit_rf _ _ | assumption) (Nat.le_of_ble_eq_true rfl) ?_
    refine E.aload_n C dJ32_init_19 rfl ?_
    refine E.aload_n C dJ32_init_20 rfl ?_
    refine E.put C dJ32_init_21 gu_s (by first | decide | assumption) rfl 4 q1130 (by decide) rfl rfl (by first | rfl | exact nar_rf _ _ | assumption) (by first | rfl | exact fit_rf _ _ | assumption) (Nat.le_of_ble_eq_true rfl) ?_
    refine E.endV C N dJ32_init_24 (by omega) ?_
    exact ⟨rfl, by simp only [gu_uu]; rfl⟩
/-- what addEntry leaves -/
def tPost (h : gH) (t a : Nat) (Θ : gT) (sz md : Int32) (k : Int32) (w : Nat) (u : gH) : Prop := gfr t h u ∧ ∃ Θ', TT u t a Θ' (sz + 1) (md + 1) ∧ ∀ k' w', Ct Θ' k' w' ↔ (Ct Θ k' w' ∨ (k' = k ∧ w' = some w))
theorem tPost.of {t a x : Nat} {Θ Θ1 Θ2 : gT} {u : gH} {sz md : Int32} {root2 : Option Nat} {k : Int32} {w : Nat} {lq2 hq2 : Nat → Option Nat} {lo2 hi2 : Nat → Int} (f : gfr t h u) (hS1 : tS Θ1 = fun q => q = x ∨ tS Θ q) (hK1 : tK Θ1 = fun q => if q = x then k else tK Θ q) (hV1 : tV Θ1 = fun q => if q = x then some w else tV Θ q) (hn : ¬ tS Θ x) (e : tEq Θ1 Θ2) (T2 : TH u t a Θ2 root2 (sz + 1) (md + 1)) (I2 : TI (tS Θ2) (fun q => if q = x then 2 * k.toInt else gk q) (tL Θ2) (tR Θ2) (tP Θ2) root2 lq2 hq2 lo2 hi2) (g : tG Θ gk) : tPost h t a Θ sz md k w u := by
  obtain ⟨e1, e2, e3, e4⟩ := e
  refine ⟨f, Θ2, ⟨root2, _, lq2, hq2, lo2, hi2, T2, I2, fun q hq => ?_⟩, fun k' w' => ?_⟩
  · rw [e1, hS1] at hq
    rw [e2, hK1]
    show (if q = x then 2 * k.toInt else gk q) = 2 * (if q = x then k else tK Θ q).toInt
    by_cases c : q = x
    · rw [if_pos c, if_pos c]
    · rw [if_neg c, if_neg c]; exact g q (hq.resolve_left c)
  · unfold Ct
    rw [e1, e2, e4, hS1, hK1, hV1]
    constructor
    · rintro ⟨q, rfl | h1, h2, h3⟩
      · have h2 := (if_pos rfl).symm.trans h2; have h3 := (if_pos rfl).symm.trans h3; exact Or.inr ⟨h2.symm, h3.symm⟩
      · have c : q ≠ x := fun c => hn (c ▸ h1)
        have h2 := (if_neg c).symm.trans h2; have h3 := (if_neg c).symm.trans h3
        exact Or.inl ⟨q, h1, h2, h3⟩
    · rintro (⟨q, h1, h2, h3⟩ | ⟨rfl, rfl⟩)
      · have c : q ≠ x := fun c => hn (c ▸ h1)
        exact ⟨q, Or.inr h1, (if_neg c).trans h2, (if_neg c).trans h3⟩
      · exact ⟨x, Or.inl rfl, if_pos rfl, if_pos rfl⟩
set_option maxHeartbeats 2000000 in
theorem m_addEntry (T : TH h t a Θ root sz md) (ht : t ≠ 0) (I : TI (tS Θ) gk (tL Θ) (tR Θ) (tP Θ) root lq hq lo hi) (g : tG Θ gk) {p bx w : Nat} {k c : Int32} (hp : tS Θ p) (hb : h bx = some (gbox k)) (hc : (c = 1 ∧ tL Θ p = none ∧ lo p < 2 * k.toInt ∧ 2 * k.toInt < gk p) ∨ (c = 0 ∧ tR Θ p = none ∧ gk p < 2 * k.toInt ∧ 2 * k.toInt < hi p)) :
    gMet 3 yJ19_addEntry cJ19_addEntry 6 none G h [.ref a, .ref bx, .ref w, .ref p, .int c] (fun v u => v = none ∧ tPost h t a Θ sz md k w u) gNo 1 := by
  refine gMet.of (by decide) (Nat.le_of_ble_eq_true rfl) (fun K C N hG hn hin => ?_)
  subst hG
  have kn_ : ∀ j : Nat, j < 6 → j < kn K := fun j hj => by rw [hn]; exact hj
  refine E.new C (w := 1) t dJ19_addEntry_0 (ci := 8) rfl q1117 q1118 q93 rfl (by decide) (by decide) (by omega) ?_
  intro x hx hz
  have hnx : ¬ tS Θ x := fun e => by rw [T.en e] at hx; cases hx
  have hpx : p ≠ x := fun e => hnx (e ▸ hp)
  refine E.dup C dJ19_addEntry_3 (by first | rfl | assumption) ?_
  refine E.aload_n C dJ19_addEntry_4 rfl ?_
  refine E.aload_n C dJ19_addEntry_5 rfl ?_
  refine E.aload_n C dJ19_addEntry_6 rfl ?_
  refine E.callI C (m_entInit ht (some p) gu_s) dJ19_addEntry_7 q1119 q1120 q93 q1121 mh_J32_init rfl (by decide) (by decide) rfl (Nat.le_of_ble_eq_true rfl) (by omega) (fun _ _ hx => hx.elim) ?_
  rintro v u ⟨rfl, rfl⟩
  rw [gu_uu]
  have hbx : bx ≠ x := fun e => by rw [e, hx] at hb; cases hb
  have T1 := (T.mono (gle.up hx (x := (t, .inr (8, [.ref bx, .ref w, .null, .null, .ref p, .int 1]))))).add (w := some w) (par := some p) gu_s (by rw [gu_n hbx]; exact hb)
  have f1 : gfr t h (gu h x (t, .inr (8, [.ref bx, .ref w, .null, .null, .ref p, .int 1]))) := gle.fr (gle.up hx)
  have B1 : ∀ q, (q = x ∨ tS Θ q) → (if q = x then 2 * k.toInt else gk q) < tB ∧ -tB < (if q = x then 2 * k.toInt else gk q) := by
    intro q hq
    by_cases e : q = x
    · rw [if_pos e]; exact ⟨(tB_big _).2, (tB_big _).1⟩
    · rw [if_neg e]; exact g.B q (hq.resolve_left e)
  have k38 : ∀ (u2 : gH) (Θ2 : gT) (root2 : Option Nat) (lq2 hq2 : Nat → Option Nat) (lo2 hi2 : Nat → Int), gfr t h u2 → tEq (tAdd Θ x k bx (some w) (some p)) Θ2 → TH u2 t a Θ2 root2 sz md → TI (tS Θ2) (fun q => if q = x then 2 * k.toInt else gk q) (tL Θ2) (tR Θ2) (tP Θ2) root2 lq2 hq2 lo2 hi2 → E K 38 [(0, .ref a), (1, .ref bx), (2, .ref w), (3, .ref p), (4, .int c), (5, .ref x)] [] u2 1 := by
    intro u2 Θ2 root2 lq2 hq2 lo2 hi2 f2 e2 T2 I2
    refine E.aload_n C dJ19_addEntry_38 rfl ?_
    refine E.dup C dJ19_addEntry_39 (by first | rfl | assumption) ?_
    refine E.tgetSize C T2 dJ19_addEntry_40 q470 ?_
    refine E.iconst C dJ19_addEntry_43 (v := 1) (by decide) ?_
    refine E.iadd C dJ19_addEntry_44 ?_
    refine E.tputSize C T2 (ht := ht) (d := dJ19_addEntry_45) (w := q470)  ?_
    intro u3 T3 f3
    refine E.aload_n C dJ19_addEntry_48 rfl ?_
    refine E.dup C dJ19_addEntry_49 (by first | rfl | assumption) ?_
    refine E.tgetMod C T3 dJ19_addEntry_50 q471 ?_
    refine E.iconst C dJ19_addEntry_53 (v := 1) (by decide) ?_
    refine E.iadd C dJ19_addEntry_54 ?_
    refine E.tputMod C T3 (ht := ht) (d := dJ19_addEntry_55) (w := q471)  ?_
    intro u4 T4 f4
    refine E.endV C N dJ19_addEntry_58 (by omega) ?_
    exact ⟨rfl, tPost.of (f2.tr (f3.tr f4)) rfl rfl rfl hnx e2 T4 I2 g⟩
  refine E.astore C dJ19_addEntry_10 (kn_ _ (by decide)) ?_
  refine E.iload C dJ19_addEntry_12 rfl ?_
  rcases hc with ⟨rfl, h1, h2⟩ | ⟨rfl, h1, h2⟩
  · refine E.if_eq C dJ19_addEntry_14 (tgt := 26) (by decide) (fun c9 => ?_) (fun c9 => ?_)
    · exact absurd c9 (by decide)
    · refine E.aload_n C dJ19_addEntry_17 rfl ?_
      refine E.aload C dJ19_addEntry_18 rfl ?_
      refine E.tputL C T1 (ht := ht) (d := dJ19_addEntry_20) (w := q1128) (hq := Or.inr hp) (v := some x) ?_
      intro u2 T2 f2
      refine E.goto C dJ19_addEntry_23 (tgt := 32) (by decide) ?_
      refine E.aload_n C dJ19_addEntry_32 rfl ?_
      refine E.aload C dJ19_addEntry_33 rfl ?_
      have I2 := TI.insL I hp h1 hnx h2
      refine E.callV C (m_fixAfterInsertion T2 ht I2 B1 (x0 := x) (Or.inl rfl)) dJ19_addEntry_35 q1151 q1153 qs5 q75 q1154 mh_J19_fixAfterInsertion (by decide) (by decide) (TH.rv T2) rfl (Nat.le_of_ble_eq_true rfl) (by omega) (fun _ _ hx => hx.elim) ?_
      rintro v u3 ⟨rfl, f3, Θ3, r3, lq3, hq3, lo3, hi3, T3, e3, I3⟩
      exact k38 u3 Θ3 r3 lq3 hq3 lo3 hi3 (f1.tr (f2.tr f3)) e3 T3 I3
  · refine E.if_eq C dJ19_addEntry_14 (tgt := 26) (by decide) (fun c9 => ?_) (fun c9 => ?_)
    · refine E.aload_n C dJ19_addEntry_26 rfl ?_
      refine E.aload C dJ19_addEntry_27 rfl ?_
      refine E.tputR C T1 (ht := ht) (d := dJ19_addEntry_29) (w := q1129) (hq := Or.inr hp) (v := some x) ?_
      intro u2 T2 f2
      refine E.aload_n C dJ19_addEntry_32 rfl ?_
      refine E.aload C dJ19_addEntry_33 rfl ?_
      have I2 := TI.insR I hp h1 hnx h2
      refine E.callV C (m_fixAfterInsertion T2 ht I2 B1 (x0 := x) (Or.inl rfl)) dJ19_addEntry_35 q1151 q1153 qs5 q75 q1154 mh_J19_fixAfterInsertion (by decide) (by decide) (TH.rv T2) rfl (Nat.le_of_ble_eq_true rfl) (by omega) (fun _ _ hx => hx.elim) ?_
      rintro v u3 ⟨rfl, f3, Θ3, r3, lq3, hq3, lo3, hi3, T3, e3, I3⟩
      exact k38 u3 Θ3 r3 lq3 hq3 lo3 hi3 (f1.tr (f2.tr f3)) e3 T3 I3
    · exact absurd rfl c9
set_option maxHeartbeats 2000000 in
theorem m_addEntryToEmptyMap (T : TH h t a Θ none 0 md) (ht : t ≠ 0) (hS : ∀ q, ¬ tS Θ q) {bx w : Nat} {k : Int32} (hb : h bx = some (gbox k)) :
    gMet 5 yJ19_addEntryToEmptyMap cJ19_addEntryToEmptyMap 3 none G h [.ref a, .ref bx, .ref w] (fun v u => v = none ∧ tPost h t a Θ 0 md k w u) gNo 1 := by
  refine gMet.of (by decide) (Nat.le_of_ble_eq_true rfl) (fun K C N hG hn hin => ?_)
  subst hG
  have kn_ : ∀ j : Nat, j < 3 → j < kn K := fun j hj => by rw [hn]; exact hj
  refine E.aload_n C dJ19_addEntryToEmptyMap_0 rfl ?_
  refine E.aload_n C dJ19_addEntryToEmptyMap_1 rfl ?_
  refine E.aload_n C dJ19_addEntryToEmptyMap_2 rfl ?_
  refine E.callV C (m_tcompare T hb hb) dJ19_addEntryToEmptyMap_3 q1113 q1114 q1115 q75 q1116 mh_J19_compare (by decide) (by decide) (TH.rv T) rfl (Nat.le_of_ble_eq_true rfl) (by omega) (fun _ _ hx => hx.elim) ?_
  rintro v u ⟨rfl, rfl⟩
  refine E.pop C dJ19_addEntryToEmptyMap_6 (by first | rfl | assumption) ?_
  refine E.aload_n C dJ19_addEntryToEmptyMap_7 rfl ?_
  refine E.new C (w := 1) t dJ19_addEntryToEmptyMap_8 (ci := 8) rfl q1117 q1118 q93 rfl (by decide) (by decide) (by omega) ?_
  intro x hx hz
  refine E.dup C dJ19_addEntryToEmptyMap_11 (by first | rfl | assumption) ?_
  refine E.aload_n C dJ19_addEntryToEmptyMap_12 rfl ?_
  refine E.aload_n C dJ19_addEntryToEmptyMap_13 rfl ?_
  refine E.null C dJ19_addEntryToEmptyMap_14 ?_
  refine E.callI C (m_entInit ht none gu_s) dJ19_addEntryToEmptyMap_15 q1119 q1120 q93 q1121 mh_J32_init rfl (by decide) (by decide) rfl (Nat.le_of_ble_eq_true rfl) (by omega) (fun _ _ hx => hx.elim) ?_
  rintro v u1 ⟨rfl, rfl⟩
  rw [gu_uu]
  have hbx : bx ≠ x := fun e => by rw [e, hx] at hb; cases hb
  have T1 := (T.mono (gle.up hx (x := (t, .inr (8, [.ref bx, .ref w, .null, .null, .null, .int 1]))))).one (w := some w) gu_s (by rw [gu_n hbx]; exact hb)
  have f1 : gfr t _ (gu _ x (t, .inr (8, [.ref bx, .ref w, .null, .null, .null, .int 1]))) := gle.fr (gle.up hx)
  refine E.tputRoot C T1 (ht := ht) (d := dJ19_addEntryToEmptyMap_18) (w := q469) (v := some x) ?_
  intro u2 T2 f2
  refine E.aload_n C dJ19_addEntryToEmptyMap_21 rfl ?_
  refine E.iconst C dJ19_addEntryToEmptyMap_22 (v := 1) (by decide) ?_
  refine E.tputSize C T2 (ht := ht) (d := dJ19_addEntryToEmptyMap_23) (w := q470)  ?_
  intro u3 T3 f3
  refine E.aload_n C dJ19_addEntryToEmptyMap_26 rfl ?_
  refine E.dup C dJ19_addEntryToEmptyMap_27 (by first | rfl | assumption) ?_
  refine E.tgetMod C T3 dJ19_addEntryToEmptyMap_28 q471 ?_
  refine E.iconst C dJ19_addEntryToEmptyMap_31 (v := 1) (by decide) ?_
  refine E.iadd C dJ19_addEntryToEmptyMap_32 ?_
  refine E.tputMod C T3 (ht := ht) (d := dJ19_addEntryToEmptyMap_33) (w := q471)  ?_
  intro u4 T4 f4
  refine E.endV C N dJ19_addEntryToEmptyMap_36 (by omega) ?_
  refine ⟨rfl, f1.tr (f2.tr (f3.tr f4)), _, ⟨_, fun _ => 2 * k.toInt, _, _, _, _, T4, TI.one (tB_big k), fun q hq => rfl⟩, fun k' w' => ?_⟩
  constructor
  · rintro ⟨q, h1, h2, h3⟩
    exact Or.inr ⟨h2.symm, h3.symm⟩
  · rintro (⟨q, h1, -⟩ | ⟨rfl, rfl⟩)
    · exact absurd h1 (hS q)
    · exact ⟨x, rfl, rfl, rfl⟩
end TPUT
