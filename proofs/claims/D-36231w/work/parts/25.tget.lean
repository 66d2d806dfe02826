/-! JDK: TreeMap's search, successor -/
set_option maxRecDepth 100000
def cmpI (x y : Int32) : Int32 := if x < y then -1 else if x = y then 0 else 1
theorem cmpI_lt {x y : Int32} (h : ¬ (0 : Int32) ≤ cmpI x y) : x.toInt < y.toInt := by
  unfold cmpI at h
  split at h
  · rename_i c; exact Int32.lt_iff_toInt_lt.mp c
  · split at h <;> exact absurd (by decide) h
theorem cmpI_gt {x y : Int32} (h1 : (0 : Int32) ≤ cmpI x y) (h2 : ¬ cmpI x y ≤ 0) : y.toInt < x.toInt := by
  unfold cmpI at h1 h2
  split at h1
  · exact absurd h1 (by decide)
  · rename_i c
    rw [if_neg c] at h2
    split at h2
    · exact absurd (by decide) h2
    · rename_i d
      have : ¬ x.toInt < y.toInt := fun z => c (Int32.lt_iff_toInt_lt.mpr z)
      have : ¬ x.toInt = y.toInt := fun z => d (Int32.toInt_inj.mp z)
      omega
theorem cmpI_eq {x y : Int32} (h1 : (0 : Int32) ≤ cmpI x y) (h2 : cmpI x y ≤ 0) : x = y := by
  unfold cmpI at h1 h2
  split at h1
  · exact absurd h1 (by decide)
  · rename_i c
    rw [if_neg c] at h2
    split at h2
    · rename_i d; exact d
    · exact absurd h2 (by decide)
theorem tB_big (x : Int32) : -tB < 2 * x.toInt ∧ 2 * x.toInt < tB := by
  have h1 := x.le_toInt
  have h2 := x.toInt_lt
  unfold tB
  omega
/-- the map's order is its keys' -/
def tG (Θ : gT) (gk : Nat → Int) : Prop := ∀ q, tS Θ q → gk q = 2 * (tK Θ q).toInt
theorem TH.rv {h : gH} {t a : Nat} {Θ : gT} {root : Option Nat} {sz md : Int32} (T : TH h t a Θ root sz md) : gRv h a RJ19 := by
  obtain ⟨⟨nks, h1, h2⟩, -⟩ := T
  exact gRv.of h1 (by decide)
section TGET
variable {G : gG} {h : gH} {t a : Nat} {Θ : gT} {root : Option Nat} {sz md : Int32} {gk : Nat → Int} {lq hq : Nat → Option Nat} {lo hi : Nat → Int}
theorem m_requireNonNull (b : Nat) : gMet 1 yJ23_requireNonNull cJ23_requireNonNull 1 (some (.object "java/lang/Object")) G h [.ref b] (fun v u => v = some (.ref b) ∧ u = h) gNo 0 := by
  refine gMet.of (by decide) (Nat.le_of_ble_eq_true rfl) (fun K C N hG hn hin => ?_)
  subst hG
  have kn_ : ∀ j : Nat, j < 1 → j < kn K := fun j hj => by rw [hn]; exact hj
  refine E.aload_n C dJ23_requireNonNull_0 rfl ?_
  refine E.ifnonnull1 C dJ23_requireNonNull_1 (tgt := 12) (by decide) ?_
  refine E.aload_n C dJ23_requireNonNull_12 rfl ?_
  refine E.endA C N dJ23_requireNonNull_13 (by omega) ?_
  exact ⟨rfl, rfl⟩
theorem m_compareTo {b c : Nat} {x y : Int32} (hb : h b = some (gbox x)) (hc : h c = some (gbox y)) : gMet 3 yJ17_compareTo cJ17_compareTo 2 (some .int) G h [.ref b, .ref c] (fun r u => r = some (.int (cmpI x y)) ∧ u = h) gNo 0 := m_J17_compareTo G h b c x y hb hc
theorem m_tcompare (T : TH h t a Θ root sz md) {b c : Nat} {x y : Int32} (hb : h b = some (gbox x)) (hc : h c = some (gbox y)) : gMet 4 yJ19_compare cJ19_compare 3 (some .int) G h [.ref a, .ref b, .ref c] (fun r u => r = some (.int (cmpI x y)) ∧ u = h) gNo 0 := by
  refine gMet.of (by decide) (Nat.le_of_ble_eq_true rfl) (fun K C N hG hn hin => ?_)
  subst hG
  have kn_ : ∀ j : Nat, j < 3 → j < kn K := fun j hj => by rw [hn]; exact hj
  refine E.aload_n C dJ19_compare_0 rfl ?_
  refine E.tgetCmp C T dJ19_compare_1 q468 ?_
  refine E.ifnonnull0 C dJ19_compare_4 ?_
  refine E.aload_n C dJ19_compare_7 rfl ?_
  refine E.castY C q716 nq732 (gRv.box hb) dJ19_compare_8 ?_
  refine E.aload_n C dJ19_compare_11 rfl ?_
  refine E.callF C (Cn := RJ17) (m_compareTo hb hc) dJ19_compare_12 nf_J17_Comparable_compareTo q718 q733 q735 q73 q737 mhf_Comparable_compareTo (by decide) (by decide) (gRv.box hb) rfl (Nat.le_of_ble_eq_true rfl) (by omega) (C.cat (ci := 14) rfl) (fun _ _ hx => hx.elim) ?_
  rintro v u ⟨rfl, rfl⟩
  refine E.goto C dJ19_compare_17 (tgt := 31) (by decide) ?_
  refine E.endI C N dJ19_compare_31 (by omega) ?_
  exact ⟨rfl, rfl⟩
theorem m_getEntry (T : TH h t a Θ root sz md) (I : TI (tS Θ) gk (tL Θ) (tR Θ) (tP Θ) root lq hq lo hi) (hG : tG Θ gk) {kb : Nat} {k : Int32} (hk : h kb = some (gbox k)) :
    gMet 4 yJ19_getEntry cJ19_getEntry 5 (some (.object "java/util/TreeMap$Entry")) G h [.ref a, .ref kb] (fun v u => u = h ∧ ∃ r, v = some (va_rf r) ∧ (∀ q, r = some q → tS Θ q ∧ tK Θ q = k) ∧ (r = none → ∀ q, tS Θ q → tK Θ q ≠ k)) gNo 0 := by
  have I9 := I
  obtain ⟨h1, h2, h3, h4, h5, h6, h7, h8, h9, h10, h11, h12, h13⟩ := I
  have hbig := tB_big k
  refine gMet.of (by decide) (Nat.le_of_ble_eq_true rfl) (fun K C N hG hn hin => ?_)
  subst hG
  have kn_ : ∀ j : Nat, j < 5 → j < kn K := fun j hj => by rw [hn]; exact hj
  have lp : ∀ (n : Nat) (cur : Option Nat) (x4 : List (Nat × Value)), (∀ q, cur = some q → tS Θ q ∧ lo q < 2 * k.toInt ∧ 2 * k.toInt < hi q ∧ (hi q - lo q).toNat < n) → (cur = none → ∀ q, tS Θ q → tK Θ q ≠ k) → E K 28 [(0, .ref a), (1, .ref kb), (2, .ref kb), (3, va_rf cur)] [] h 0 := by
    intro n
    induction n with
    | zero =>
      intro cur x4 c1 c2
      refine E.aload_n C dJ19_getEntry_28 rfl ?_
      refine E.ifnull C dJ19_getEntry_29 (tgt := 75) (by decide) (fun e => ?_) (fun q e => ?_)
      · refine E.null C dJ19_getEntry_75 ?_
        refine E.endA C N dJ19_getEntry_76 (by omega) ?_
        exact ⟨rfl, none, rfl, (fun q z => by cases z), fun _ => c2 e⟩
      · exact absurd (c1 q e).2.2.2 (Nat.not_lt_zero _)
    | succ n ih =>
      intro cur x4 c1 c2
      refine E.aload_n C dJ19_getEntry_28 rfl ?_
      refine E.ifnull C dJ19_getEntry_29 (tgt := 75) (by decide) (fun e => ?_) (fun q e => ?_)
      · refine E.null C dJ19_getEntry_75 ?_
        refine E.endA C N dJ19_getEntry_76 (by omega) ?_
        exact ⟨rfl, none, rfl, (fun q z => by cases z), fun _ => c2 e⟩
      · obtain ⟨d1, d2, d3, d4⟩ := c1 q e
        subst e
        have b1 := h1 q d1
        have b2 := hG q d1
        refine E.aload_n C dJ19_getEntry_32 rfl ?_
        refine E.aload_n C dJ19_getEntry_33 rfl ?_
        refine E.getf C dJ19_getEntry_34 ((T.en d1)) rfl 0 q1125 (by decide) rfl rfl ?_
        refine E.callF C (Cn := RJ17) (m_compareTo hk (T.bx d1)) dJ19_getEntry_37 nf_J17_Comparable_compareTo q718 q733 q735 q73 q737 mhf_Comparable_compareTo (by decide) (by decide) (gRv.box hk) rfl (Nat.le_of_ble_eq_true rfl) (by omega) (C.cat (ci := 14) rfl) (fun _ _ hx => hx.elim) ?_
        rintro v u ⟨rfl, rfl⟩
        refine E.istore C dJ19_getEntry_42 (kn_ _ (by decide)) ?_
        refine E.iload C dJ19_getEntry_44 rfl ?_
        refine E.if_ge C dJ19_getEntry_46 (tgt := 57) (by decide) (fun e1 => ?_) (fun e1 => ?_)
        · refine E.iload C dJ19_getEntry_57 rfl ?_
          refine E.if_le C dJ19_getEntry_59 (tgt := 70) (by decide) (fun e2 => ?_) (fun e2 => ?_)
          · refine E.aload_n C dJ19_getEntry_70 rfl ?_
            refine E.endA C N dJ19_getEntry_71 (by omega) ?_
            exact ⟨rfl, some q, rfl, fun z hz => by cases hz; exact ⟨d1, (cmpI_eq e1 e2).symm⟩, fun z => by cases z⟩
          · have e3 := cmpI_gt e1 e2
            refine E.aload_n C dJ19_getEntry_62 rfl ?_
            refine E.getf C dJ19_getEntry_63 ((T.en d1)) rfl 3 q1129 (by decide) rfl rfl ?_
            refine E.astore_n C dJ19_getEntry_66 (kn_ _ (by decide)) ?_
            refine E.goto C dJ19_getEntry_67 (tgt := 72) (by decide) ?_
            refine E.goto C dJ19_getEntry_72 (tgt := 28) (by decide) ?_
            refine E.sub (l' := [(0, .ref a), (1, .ref kb), (2, .ref kb), (3, va_rf (tR Θ q))]) [0, 1, 2, 3] rfl ?_
            refine ih (tR Θ q) [] (fun z hz => ?_) (fun hz z hz2 hz3 => ?_)
            · have r1 := h3 q z d1 hz
              have r2 := h1 z r1.1
              exact ⟨r1.1, by rw [r1.2.2.1]; omega, by rw [r1.2.2.2.1]; exact d3, by rw [r1.2.2.1, r1.2.2.2.1]; omega⟩
            · have := h7 q z d1 hz hz2
              rw [hG z hz2, hz3] at this
              omega
        · have e3 := cmpI_lt e1
          refine E.aload_n C dJ19_getEntry_49 rfl ?_
          refine E.getf C dJ19_getEntry_50 ((T.en d1)) rfl 2 q1128 (by decide) rfl rfl ?_
          refine E.astore_n C dJ19_getEntry_53 (kn_ _ (by decide)) ?_
          refine E.goto C dJ19_getEntry_54 (tgt := 72) (by decide) ?_
          refine E.goto C dJ19_getEntry_72 (tgt := 28) (by decide) ?_
          refine E.sub (l' := [(0, .ref a), (1, .ref kb), (2, .ref kb), (3, va_rf (tL Θ q))]) [0, 1, 2, 3] rfl ?_
          refine ih (tL Θ q) [] (fun z hz => ?_) (fun hz z hz2 hz3 => ?_)
          · have r1 := h2 q z d1 hz
            have r2 := h1 z r1.1
            exact ⟨r1.1, by rw [r1.2.2.1]; exact d2, by rw [r1.2.2.2.1]; omega, by rw [r1.2.2.1, r1.2.2.2.1]; omega⟩
          · have := h6 q z d1 hz hz2
            rw [hG z hz2, hz3] at this
            omega
  refine E.aload_n C dJ19_getEntry_0 rfl ?_
  refine E.tgetCmp C T dJ19_getEntry_1 q468 ?_
  refine E.ifnull0 C dJ19_getEntry_4 (tgt := 13) (by decide) ?_
  refine E.aload_n C dJ19_getEntry_13 rfl ?_
  refine E.callS C (m_requireNonNull kb) dJ19_getEntry_14 q713 q714 q82 q715 mh_J23_requireNonNull (by decide) (by decide) rfl (Nat.le_of_ble_eq_true rfl) (by omega) (fun _ _ hx => hx.elim) ?_
  rintro v u ⟨rfl, rfl⟩
  refine E.pop C dJ19_getEntry_17 (by first | rfl | assumption) ?_
  refine E.aload_n C dJ19_getEntry_18 rfl ?_
  refine E.castY C q716 nq732 (gRv.box hk) dJ19_getEntry_19 ?_
  refine E.astore_n C dJ19_getEntry_22 (kn_ _ (by decide)) ?_
  refine E.aload_n C dJ19_getEntry_23 rfl ?_
  refine E.tgetRoot C T dJ19_getEntry_24 q469 ?_
  refine E.astore_n C dJ19_getEntry_27 (kn_ _ (by decide)) ?_
  refine lp ((2 * tB).toNat + 1) root [] (fun q e => ?_) (fun e q hq9 => absurd hq9 (h9 e q))
  obtain ⟨r1, r2⟩ := h8 q e
  obtain ⟨r3, r4, r5⟩ := h4 q r1 r2
  rw [r4, r5]
  refine ⟨r1, hbig.1, hbig.2, ?_⟩
  omega
/-- the next node by key: q, or none -/
def tNx (Θ : gT) (gk : Nat → Int) (p : Nat) (r : Option Nat) : Prop := (∀ q, r = some q → tS Θ q ∧ gk p < gk q ∧ ∀ c, tS Θ c → ¬ (gk p < gk c ∧ gk c < gk q)) ∧ (r = none → ∀ c, tS Θ c → ¬ gk p < gk c)
theorem m_successor (T : TH h t a Θ root sz md) (I : TI (tS Θ) gk (tL Θ) (tR Θ) (tP Θ) root lq hq lo hi) (hB : ∀ q, tS Θ q → gk q < tB ∧ -tB < gk q) {p : Nat} (hp : tS Θ p) :
    gMet 1 yJ19_successor cJ19_successor 3 (some (.object "java/util/TreeMap$Entry")) G h [.ref p] (fun v u => u = h ∧ ∃ r, v = some (va_rf r) ∧ tNx Θ gk p r ∧ (∀ b, tR Θ p = some b → ∃ q, r = some q ∧ tL Θ q = none ∧ gk q < hi p)) gNo 0 := by
  obtain ⟨h1, h2, h3, h4, h5, h6, h7, h8, h9, h10, h11, h12, h13⟩ := I
  refine gMet.of (by decide) (Nat.le_of_ble_eq_true rfl) (fun K C N hG hn hin => ?_)
  subst hG
  have kn_ : ∀ j : Nat, j < 3 → j < kn K := fun j hj => by rw [hn]; exact hj
  have lp1 : ∀ (n q : Nat), tS Θ q → lo q = gk p → (hi q - lo q).toNat < n → gk p < gk q → hi q ≤ hi p → E K 18 [(0, .ref p), (1, .ref q)] [] h 0 := by
    intro n
    induction n with
    | zero => intro q _ _ c; exact absurd c (Nat.not_lt_zero _)
    | succ n ih =>
      intro q c1 c2 c3 c4 c5
      refine E.aload_n C dJ19_successor_18 rfl ?_
      refine E.getf C dJ19_successor_19 ((T.en c1)) rfl 2 q1128 (by decide) rfl rfl ?_
      refine E.ifnull (r := tL Θ q) C dJ19_successor_22 (tgt := 33) (by decide) (fun e => ?_) (fun b e => ?_)
      · refine E.aload_n C dJ19_successor_33 rfl ?_
        refine E.endA C N dJ19_successor_34 (by omega) ?_
        refine ⟨rfl, some q, rfl, ⟨fun z hz => ?_, fun z => by cases z⟩, fun b _ => ⟨q, rfl, e, ?_⟩⟩
        · cases hz
          exact ⟨c1, c4, fun c hc hx => h6 q c c1 e hc (by rw [c2]; exact hx)⟩
        · have := h1 q c1; omega
      · refine E.aload_n C dJ19_successor_25 rfl ?_
        refine E.getf C dJ19_successor_26 ((T.en c1)) rfl 2 q1128 (by decide) rfl rfl ?_
        refine E.rv (congrArg va_rf e) ?_
        refine E.astore_n C dJ19_successor_29 (kn_ _ (by decide)) ?_
        refine E.goto C dJ19_successor_30 (tgt := 18) (by decide) ?_
        have r1 := h2 q b c1 e
        have r2 := h1 b r1.1
        have r3 := h1 q c1
        exact ih b r1.1 (by rw [r1.2.2.1]; exact c2) (by rw [r1.2.2.1, r1.2.2.2.1]; omega) (by omega) (by rw [r1.2.2.2.1]; omega)
  have lp2 : ∀ (n ch : Nat) (cur : Option Nat), tS Θ ch → tP Θ ch = cur → hi ch = hi p → lo ch ≤ gk p → (2 * tB - (hi ch - lo ch)).toNat < n → tR Θ p = none → (∀ q, tS Θ q → -tB ≤ lo q ∧ hi q ≤ tB) → E K 42 [(0, .ref p), (1, va_rf cur), (2, .ref ch)] [] h 0 := by
    intro n
    induction n with
    | zero => intro ch cur _ _ _ _ c; exact absurd c (Nat.not_lt_zero _)
    | succ n ih =>
      intro ch cur c1 c2 c3 c4 c5 c6 c7
      have fin : (∀ q, cur = some q → ¬ some ch = tR Θ q) → E K 64 [(0, .ref p), (1, va_rf cur), (2, .ref ch)] [] h 0 := by
        intro hx
        refine E.aload_n C dJ19_successor_64 rfl ?_
        refine E.endA C N dJ19_successor_65 (by omega) ?_ (hv := by cases cur with | none => exact Or.inl rfl | some z => exact Or.inr ⟨z, rfl⟩)
        refine ⟨rfl, cur, rfl, ⟨fun q hq9 => ?_, fun e c hc hx2 => ?_⟩, fun b hb => by rw [c6] at hb; cases hb⟩
        · have r1 := h5 ch q c1 (by rw [c2]; exact hq9)
          have r2 : tL Θ q = some ch := r1.2.resolve_right (fun z => hx q hq9 z.symm)
          have r3 := h2 q ch r1.1 r2
          have r4 := h1 p hp
          refine ⟨r1.1, by omega, fun c hc hx2 => h7 p c hp c6 hc ⟨hx2.1, by omega⟩⟩
        · have r1 := h4 ch c1 (by rw [c2]; exact e)
          exact h7 p c hp c6 hc ⟨hx2, by have := (hB c hc).1; omega⟩
      refine E.aload_n C dJ19_successor_42 rfl ?_
      refine E.ifnull C dJ19_successor_43 (tgt := 64) (by decide) (fun e => ?_) (fun q e => ?_)
      · exact fin (fun z hz => by rw [e] at hz; cases hz)
      · subst e
        have r1 := h5 ch q c1 c2
        refine E.aload_n C dJ19_successor_46 rfl ?_
        refine E.aload_n C dJ19_successor_47 rfl ?_
        refine E.getf C dJ19_successor_48 ((T.en r1.1)) rfl 3 q1129 (by decide) rfl rfl ?_
        refine E.acmp_ne (x := some ch) (y := tR Θ q) C dJ19_successor_51 (tgt := 64) (by decide) (fun c => ?_) (fun c => ?_)
        · exact fin (fun z hz => by cases hz; exact c)
        · have r3 := h3 q ch r1.1 c.symm
          have r4 := h1 q r1.1
          have r5 := h1 ch c1
          have r6 := c7 q r1.1
          refine E.aload_n C dJ19_successor_54 rfl ?_
          refine E.astore_n C dJ19_successor_55 (kn_ _ (by decide)) ?_
          refine E.aload_n C dJ19_successor_56 rfl ?_
          refine E.getf C dJ19_successor_57 ((T.en r1.1)) rfl 4 q1131 (by decide) rfl rfl ?_
          refine E.astore_n C dJ19_successor_60 (kn_ _ (by decide)) ?_
          refine E.goto C dJ19_successor_61 (tgt := 42) (by decide) ?_
          refine E.sub (l' := [(0, .ref p), (1, va_rf (tP Θ q)), (2, .ref q)]) [0, 1, 2] rfl ?_
          exact ih q (tP Θ q) r1.1 rfl (by omega) (by omega) (by omega) c6 c7
  have hbd : ∀ q, tS Θ q → -tB ≤ lo q ∧ hi q ≤ tB := by
    intro q hq9
    constructor
    · cases e : lq q with
      | none => rw [(h12 q hq9).1 e]; omega
      | some c => have := (h13 q c hq9).1 e; have := (hB c this.1).2; omega
    · cases e : hq q with
      | none => rw [(h12 q hq9).2 e]; omega
      | some c => have := (h13 q c hq9).2 e; have := (hB c this.1).1; omega
  refine E.aload_n C dJ19_successor_0 rfl ?_
  refine E.ifnonnull1 C dJ19_successor_1 (tgt := 6) (by decide) ?_
  refine E.aload_n C dJ19_successor_6 rfl ?_
  refine E.getf C dJ19_successor_7 ((T.en hp)) rfl 3 q1129 (by decide) rfl rfl ?_
  refine E.ifnull (r := tR Θ p) C dJ19_successor_10 (tgt := 35) (by decide) (fun e => ?_) (fun b e => ?_)
  · refine E.aload_n C dJ19_successor_35 rfl ?_
    refine E.getf C dJ19_successor_36 ((T.en hp)) rfl 4 q1131 (by decide) rfl rfl ?_
    refine E.astore_n C dJ19_successor_39 (kn_ _ (by decide)) ?_
    refine E.aload_n C dJ19_successor_40 rfl ?_
    refine E.astore_n C dJ19_successor_41 (kn_ _ (by decide)) ?_
    refine E.loc (l' := [(0, .ref p), (1, va_rf (tP Θ p)), (2, .ref p)]) (by cases tP Θ p <;> rfl) ?_
    refine lp2 _ p (tP Θ p) hp rfl rfl ?_ (Nat.lt_succ_self _) e hbd
    have := h1 p hp; omega
  · refine E.aload_n C dJ19_successor_13 rfl ?_
    refine E.getf C dJ19_successor_14 ((T.en hp)) rfl 3 q1129 (by decide) rfl rfl ?_
    refine E.rv (congrArg va_rf e) ?_
    refine E.astore_n C dJ19_successor_17 (kn_ _ (by decide)) ?_
    have r1 := h3 p b hp e
    have r2 := h1 b r1.1
    exact lp1 _ b r1.1 r1.2.2.1 (Nat.lt_succ_self _) (by omega) (by omega)
end TGET
