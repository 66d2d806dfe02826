/-! JDK: TreeMap's put, get, containsKey, size, constructor -/
set_option maxRecDepth 100000
section TOPS
variable {G : gG} {h : gH} {t a : Nat} {Θ : gT} {sz md : Int32}
/-- under one key lies one value -/
theorem TT.fn (T : TT h t a Θ sz md) {k : Int32} {w w' : Option Nat} (p : Ct Θ k w) (q : Ct Θ k w') : w = w' := by
  obtain ⟨r, gk, lq, hq, lo, hi, T, I, g⟩ := T
  obtain ⟨x, x1, x2, x3⟩ := p
  obtain ⟨y, y1, y2, y3⟩ := q
  have e := I.2.2.2.2.2.2.2.2.2.1 x y x1 y1 (by rw [g x x1, g y y1, x2, y2])
  rw [← x3, ← y3, e]
/-- what put leaves -/
def pPost (h : gH) (t a : Nat) (Θ : gT) (sz md : Int32) (k : Int32) (w : Nat) (v : Option Value) (u : gH) : Prop := gfr t h u ∧ ∃ Θ' sz' md', TT u t a Θ' sz' md' ∧ (∀ k' w', Ct Θ' k' w' ↔ ((k' ≠ k ∧ Ct Θ k' w') ∨ (k' = k ∧ w' = some w))) ∧ (((∃ w0, Ct Θ k w0 ∧ v = some (va_rf w0)) ∧ sz' = sz ∧ md' = md) ∨ ((∀ w0, ¬ Ct Θ k w0) ∧ v = some .null ∧ sz' = sz + 1 ∧ md' = md + 1))
theorem pPost.new {k : Int32} {w : Nat} {u : gH} (p : tPost h t a Θ sz md k w u) (hn : ∀ w0, ¬ Ct Θ k w0) : pPost h t a Θ sz md k w (some .null) u := by
  obtain ⟨f, Θ', T, c⟩ := p
  refine ⟨f, Θ', _, _, T, fun k' w' => ?_, Or.inr ⟨hn, rfl, rfl, rfl⟩⟩
  rw [c]
  constructor
  · rintro (z | z)
    · exact Or.inl ⟨fun e => hn w' (e ▸ z), z⟩
    · exact Or.inr z
  · rintro (z | z)
    · exact Or.inl z.2
    · exact Or.inr z
set_option maxHeartbeats 4000000 in
theorem m_put2 (T : TT h t a Θ sz md) (ht : t ≠ 0) (hz0 : (∀ q, ¬ tS Θ q) → sz = 0) (hV : ∀ q, tS Θ q → ∃ z, tV Θ q = some z) {bx w : Nat} {k : Int32} (hb : h bx = some (gbox k)) :
    gMet 6 yJ19_put_2 cJ19_put_2 10 (some (.object "java/lang/Object")) G h [.ref a, .ref bx, .ref w, .int 1] (pPost h t a Θ sz md k w) gNo 1 := by
  obtain ⟨root, gk, lq, hq, lo, hi, T, I, g⟩ := T
  have I9 := I
  obtain ⟨h1, h2, h3, h4, h5, h6, h7, h8, h9, h10, h11, h12, h13⟩ := I
  have hbig := tB_big k
  refine gMet.of (by decide) (Nat.le_of_ble_eq_true rfl) (fun K C N hG hn hin => ?_)
  subst hG
  have kn_ : ∀ j : Nat, j < 10 → j < kn K := fun j hj => by rw [hn]; exact hj
  have k201 : ∀ (c : Int32) (q : Nat), tS Θ q → (((0 : Int32) ≤ c ∧ tR Θ q = none ∧ gk q < 2 * k.toInt ∧ 2 * k.toInt < hi q) ∨ (¬ (0 : Int32) ≤ c ∧ tL Θ q = none ∧ lo q < 2 * k.toInt ∧ 2 * k.toInt < gk q)) → E K 201 [(0, .ref a), (1, .ref bx), (2, .ref w), (3, .int 1), (4, .null), (5, .int c), (6, .ref q), (7, .null), (8, .ref bx)] [] h 0 := by
    intro c q sq hc
    have hno : ∀ w0, ¬ Ct Θ k w0 := by
      rintro w0 ⟨z, z1, z2, z3⟩
      have gz := g z z1
      rw [z2] at gz
      rcases hc with ⟨-, c1, c2, c3⟩ | ⟨-, c1, c2, c3⟩
      · exact h7 q z sq c1 z1 (by omega)
      · exact h6 q z sq c1 z1 (by omega)
    refine E.aload_n C dJ19_put_2_201 rfl ?_
    refine E.aload_n C dJ19_put_2_202 rfl ?_
    refine E.aload_n C dJ19_put_2_203 rfl ?_
    refine E.aload C dJ19_put_2_204 rfl ?_
    refine E.iload C dJ19_put_2_206 rfl ?_
    refine E.if_ge C dJ19_put_2_208 (tgt := 215) (by decide) (fun d => ?_) (fun d => ?_)
    · refine E.iconst C dJ19_put_2_215 (v := 0) (by decide) ?_
      refine E.callV C (m_addEntry T ht I9 g sq hb (c := 0) (Or.inr ⟨rfl, by rcases hc with c9 | c9; exact c9.2; exact absurd d c9.1⟩)) dJ19_put_2_216 q1147 q1149 qs4 q75 q1150 mh_J19_addEntry (by decide) (by decide) (TH.rv T) rfl (Nat.le_of_ble_eq_true rfl) (by omega) (fun _ _ hx => hx.elim) ?_
      rintro v u ⟨rfl, P⟩
      refine E.null C dJ19_put_2_219 ?_
      refine E.endA C N dJ19_put_2_220 (by omega) ?_
      exact pPost.new P hno
    · refine E.iconst C dJ19_put_2_211 (v := 1) (by decide) ?_
      refine E.goto C dJ19_put_2_212 (tgt := 216) (by decide) ?_
      refine E.callV C (m_addEntry T ht I9 g sq hb (c := 1) (Or.inl ⟨rfl, by rcases hc with c9 | c9; exact absurd c9.1 d; exact c9.2⟩)) dJ19_put_2_216 q1147 q1149 qs4 q75 q1150 mh_J19_addEntry (by decide) (by decide) (TH.rv T) rfl (Nat.le_of_ble_eq_true rfl) (by omega) (fun _ _ hx => hx.elim) ?_
      rintro v u ⟨rfl, P⟩
      refine E.null C dJ19_put_2_219 ?_
      refine E.endA C N dJ19_put_2_220 (by omega) ?_
      exact pPost.new P hno
  have lp : ∀ (n q : Nat), tS Θ q → lo q < 2 * k.toInt → 2 * k.toInt < hi q → (hi q - lo q).toNat < n → E K 123 [(0, .ref a), (1, .ref bx), (2, .ref w), (3, .int 1), (4, .ref q), (7, .null), (8, .ref bx)] [] h 0 := by
    intro n
    induction n with
    | zero => intro q _ _ _ c; exact absurd c (Nat.not_lt_zero _)
    | succ n ih =>
      intro q d1 d2 d3 d4
      have b1 := h1 q d1
      have b2 := g q d1
      refine E.aload C dJ19_put_2_123 rfl ?_
      refine E.astore C dJ19_put_2_125 (kn_ _ (by decide)) ?_
      refine E.aload C dJ19_put_2_127 rfl ?_
      refine E.aload C dJ19_put_2_129 rfl ?_
      refine E.getf C dJ19_put_2_131 ((T.en d1)) rfl 0 q1125 (by decide) rfl rfl ?_
      refine E.callF C (Cn := RJ17) (m_compareTo hb (T.bx d1)) dJ19_put_2_134 nf_J17_Comparable_compareTo q718 q733 q735 q73 q737 mhf_Comparable_compareTo (by decide) (by decide) (gRv.box hb) rfl (Nat.le_of_ble_eq_true rfl) (by omega) (C.cat (ci := 14) rfl) (fun _ _ hx => hx.elim) ?_
      rintro v u ⟨rfl, rfl⟩
      refine E.istore C dJ19_put_2_139 (kn_ _ (by decide)) ?_
      refine E.iload C dJ19_put_2_141 rfl ?_
      refine E.if_ge C dJ19_put_2_143 (tgt := 156) (by decide) (fun e1 => ?_) (fun e1 => ?_)
      · refine E.iload C dJ19_put_2_156 rfl ?_
        refine E.if_le C dJ19_put_2_158 (tgt := 171) (by decide) (fun e2 => ?_) (fun e2 => ?_)
        · have ek := cmpI_eq e1 e2
          obtain ⟨z, hz⟩ := hV q d1
          refine E.aload C dJ19_put_2_171 rfl ?_
          refine E.getf C dJ19_put_2_173 ((T.en d1)) rfl 1 q1127 (by decide) rfl rfl ?_
          refine E.rv (congrArg va_rf hz) ?_
          refine E.astore C dJ19_put_2_176 (kn_ _ (by decide)) ?_
          refine E.iload_n C dJ19_put_2_178 rfl ?_
          refine E.if_ne C dJ19_put_2_179 (tgt := 187) (by decide) (fun e3 => ?_) (fun e3 => ?_)
          · refine E.aload C dJ19_put_2_187 rfl ?_
            refine E.aload_n C dJ19_put_2_189 rfl ?_
            refine E.tputV C T (ht := ht) (d := dJ19_put_2_190) (w := q1127) (hq := d1) (v := some w) ?_
            intro u2 T2 f2
            refine E.aload C dJ19_put_2_193 rfl ?_
            refine E.endA C N dJ19_put_2_195 (by omega) ?_
            refine ⟨f2, _, _, _, ⟨_, gk, _, _, _, _, T2, I9, g⟩, fun k' w' => ?_, Or.inl ⟨⟨some z, ⟨q, d1, ek.symm, hz⟩, rfl⟩, rfl, rfl⟩⟩
            have inj : ∀ y, tS Θ y → tK Θ y = tK Θ q → y = q := fun y hy hk => h10 y q hy d1 (by rw [g y hy, g q d1, hk])
            constructor
            · rintro ⟨y, y1, y2, y3⟩
              by_cases ey : y = q
              · subst ey
                exact Or.inr ⟨y2.symm.trans ek.symm, y3.symm.trans up_s⟩
              · exact Or.inl ⟨fun e => ey (inj y y1 (y2.trans (e.trans ek))), y, y1, y2, (up_n ey).symm.trans y3⟩
            · rintro (⟨y0, y, y1, y2, y3⟩ | ⟨rfl, rfl⟩)
              · have ey : y ≠ q := fun e => y0 (by rw [← y2, e]; exact ek.symm)
                exact ⟨y, y1, y2, (up_n ey).trans y3⟩
              · exact ⟨q, d1, ek.symm, up_s⟩
          · exact absurd e3 (by decide)
        · have e3 := cmpI_gt e1 e2
          refine E.aload C dJ19_put_2_161 rfl ?_
          refine E.getf C dJ19_put_2_163 ((T.en d1)) rfl 3 q1129 (by decide) rfl rfl ?_
          cases er : tR Θ q with
          | none =>
            refine E.astore C dJ19_put_2_166 (kn_ _ (by decide)) ?_
            refine E.goto C dJ19_put_2_168 (tgt := 196) (by decide) ?_
            refine E.aload C dJ19_put_2_196 rfl ?_
            refine E.ifnonnull0 C dJ19_put_2_198 ?_
            exact k201 _ q d1 (Or.inl ⟨e1, er, by omega, d3⟩)
          | some b =>
            have r1 := h3 q b d1 er
            have r2 := h1 b r1.1
            refine E.astore C dJ19_put_2_166 (kn_ _ (by decide)) ?_
            refine E.goto C dJ19_put_2_168 (tgt := 196) (by decide) ?_
            refine E.aload C dJ19_put_2_196 rfl ?_
            refine E.ifnonnull1 C dJ19_put_2_198 (tgt := 123) (by decide) ?_
            refine E.sub (l' := [(0, .ref a), (1, .ref bx), (2, .ref w), (3, .int 1), (4, .ref b), (7, .null), (8, .ref bx)]) [0, 1, 2, 3, 4, 7, 8] rfl ?_
            exact ih b r1.1 (by rw [r1.2.2.1]; omega) (by rw [r1.2.2.2.1]; exact d3) (by rw [r1.2.2.1, r1.2.2.2.1]; omega)
      · have e3 := cmpI_lt e1
        refine E.aload C dJ19_put_2_146 rfl ?_
        refine E.getf C dJ19_put_2_148 ((T.en d1)) rfl 2 q1128 (by decide) rfl rfl ?_
        cases er : tL Θ q with
        | none =>
          refine E.astore C dJ19_put_2_151 (kn_ _ (by decide)) ?_
          refine E.goto C dJ19_put_2_153 (tgt := 196) (by decide) ?_
          refine E.aload C dJ19_put_2_196 rfl ?_
          refine E.ifnonnull0 C dJ19_put_2_198 ?_
          exact k201 _ q d1 (Or.inr ⟨e1, er, d2, by omega⟩)
        | some b =>
          have r1 := h2 q b d1 er
          have r2 := h1 b r1.1
          refine E.astore C dJ19_put_2_151 (kn_ _ (by decide)) ?_
          refine E.goto C dJ19_put_2_153 (tgt := 196) (by decide) ?_
          refine E.aload C dJ19_put_2_196 rfl ?_
          refine E.ifnonnull1 C dJ19_put_2_198 (tgt := 123) (by decide) ?_
          refine E.sub (l' := [(0, .ref a), (1, .ref bx), (2, .ref w), (3, .int 1), (4, .ref b), (7, .null), (8, .ref bx)]) [0, 1, 2, 3, 4, 7, 8] rfl ?_
          exact ih b r1.1 (by rw [r1.2.2.1]; exact d2) (by rw [r1.2.2.2.1]; omega) (by rw [r1.2.2.1, r1.2.2.2.1]; omega)
  refine E.aload_n C dJ19_put_2_0 rfl ?_
  refine E.tgetRoot C T dJ19_put_2_1 q469 ?_
  cases root with
  | none =>
    have hS := h9 rfl
    have hs := hz0 hS
    subst hs
    refine E.astore C dJ19_put_2_4 (kn_ _ (by decide)) ?_
    refine E.aload C dJ19_put_2_6 rfl ?_
    refine E.ifnonnull0 C dJ19_put_2_8 ?_
    refine E.aload_n C dJ19_put_2_11 rfl ?_
    refine E.aload_n C dJ19_put_2_12 rfl ?_
    refine E.aload_n C dJ19_put_2_13 rfl ?_
    refine E.callV C (m_addEntryToEmptyMap T ht hS hb) dJ19_put_2_14 q1109 q1111 qs3 q75 q1112 mh_J19_addEntryToEmptyMap (by decide) (by decide) (TH.rv T) rfl (Nat.le_of_ble_eq_true rfl) (by omega) (fun _ _ hx => hx.elim) ?_
    rintro v u ⟨rfl, P⟩
    refine E.null C dJ19_put_2_17 ?_
    refine E.endA C N dJ19_put_2_18 (by omega) ?_
    exact pPost.new P (fun w0 z => by obtain ⟨q, q1, -⟩ := z; exact hS q q1)
  | some r =>
    obtain ⟨r1, r2⟩ := h8 r rfl
    obtain ⟨r3, r4, r5⟩ := h4 r r1 r2
    refine E.astore C dJ19_put_2_4 (kn_ _ (by decide)) ?_
    refine E.aload C dJ19_put_2_6 rfl ?_
    refine E.ifnonnull1 C dJ19_put_2_8 (tgt := 19) (by decide) ?_
    refine E.aload_n C dJ19_put_2_19 rfl ?_
    refine E.tgetCmp C T dJ19_put_2_20 q468 ?_
    refine E.astore C dJ19_put_2_23 (kn_ _ (by decide)) ?_
    refine E.aload C dJ19_put_2_25 rfl ?_
    refine E.ifnull0 C dJ19_put_2_27 (tgt := 112) (by decide) ?_
    refine E.aload_n C dJ19_put_2_112 rfl ?_
    refine E.callS C (m_requireNonNull bx) dJ19_put_2_113 q713 q714 q82 q715 mh_J23_requireNonNull (by decide) (by decide) rfl (Nat.le_of_ble_eq_true rfl) (by omega) (fun _ _ hx => hx.elim) ?_
    rintro v u ⟨rfl, rfl⟩
    refine E.pop C dJ19_put_2_116 (by first | rfl | assumption) ?_
    refine E.aload_n C dJ19_put_2_117 rfl ?_
    refine E.castY C q716 nq732 (gRv.box hb) dJ19_put_2_118 ?_
    refine E.astore C dJ19_put_2_121 (kn_ _ (by decide)) ?_
    refine E.loc (l' := [(0, .ref a), (1, .ref bx), (2, .ref w), (3, .int 1), (4, .ref r), (7, .null), (8, .ref bx)]) rfl ?_
    exact lp _ r r1 (by rw [r4]; exact hbig.1) (by rw [r5]; exact hbig.2) (Nat.lt_succ_self _)
theorem m_put (T : TT h t a Θ sz md) (ht : t ≠ 0) (hz0 : (∀ q, ¬ tS Θ q) → sz = 0) (hV : ∀ q, tS Θ q → ∃ z, tV Θ q = some z) {bx w : Nat} {k : Int32} (hb : h bx = some (gbox k)) :
    gMet 7 yJ19_put cJ19_put 3 (some (.object "java/lang/Object")) G h [.ref a, .ref bx, .ref w] (pPost h t a Θ sz md k w) gNo 1 := by
  refine gMet.of (by decide) (Nat.le_of_ble_eq_true rfl) (fun K C N hG hn hin => ?_)
  subst hG
  have kn_ : ∀ j : Nat, j < 3 → j < kn K := fun j hj => by rw [hn]; exact hj
  refine E.aload_n C dJ19_put_0 rfl ?_
  refine E.aload_n C dJ19_put_1 rfl ?_
  refine E.aload_n C dJ19_put_2 rfl ?_
  refine E.iconst C dJ19_put_3 (v := 1) (by decide) ?_
  refine E.callV C (m_put2 T ht hz0 hV hb) dJ19_put_4 q1105 q1107 qs2 q75 q1108 mh_J19_put_2 (by decide) (by decide) (TT.rv T) rfl (Nat.le_of_ble_eq_true rfl) (by omega) (fun _ _ hx => hx.elim) ?_
  rintro v u P
  obtain ⟨r, hr⟩ : ∃ r, v = some (va_rf r) := by
    rcases P.2 with ⟨-, -, -, -, -, ⟨⟨w0, -, e⟩, -⟩ | ⟨-, e, -⟩⟩
    · exact ⟨w0, e⟩
    · exact ⟨none, e⟩
  subst hr
  refine E.endA C N dJ19_put_7 (by omega) P (hv := by cases r with | none => exact Or.inl rfl | some z => exact Or.inr ⟨z, rfl⟩)
theorem m_tget (T : TT h t a Θ sz md) {bx : Nat} {k : Int32} (hb : h bx = some (gbox k)) :
    gMet 5 yJ19_get cJ19_get 3 (some (.object "java/lang/Object")) G h [.ref a, .ref bx] (fun v u => u = h ∧ ((∃ w, Ct Θ k w ∧ v = some (va_rf w)) ∨ ((∀ w, ¬ Ct Θ k w) ∧ v = some .null))) gNo 0 := by
  obtain ⟨root, gk, lq, hq, lo, hi, T, I, g⟩ := T
  refine gMet.of (by decide) (Nat.le_of_ble_eq_true rfl) (fun K C N hG hn hin => ?_)
  subst hG
  have kn_ : ∀ j : Nat, j < 3 → j < kn K := fun j hj => by rw [hn]; exact hj
  refine E.aload_n C dJ19_get_0 rfl ?_
  refine E.aload_n C dJ19_get_1 rfl ?_
  refine E.callV C (m_getEntry T I g hb) dJ19_get_2 q701 q702 q703 q75 q704 mh_J19_getEntry (by decide) (by decide) (TH.rv T) rfl (Nat.le_of_ble_eq_true rfl) (by omega) (fun _ _ hx => hx.elim) ?_
  rintro v u ⟨rfl, r, rfl, r1, r2⟩
  cases r with
  | none =>
    refine E.astore_n C dJ19_get_5 (kn_ _ (by decide)) ?_
    refine E.aload_n C dJ19_get_6 rfl ?_
    refine E.ifnonnull0 C dJ19_get_7 ?_
    refine E.null C dJ19_get_10 ?_
    refine E.goto C dJ19_get_11 (tgt := 18) (by decide) ?_
    refine E.endA C N dJ19_get_18 (by omega) ?_
    exact ⟨rfl, Or.inr ⟨fun w z => by obtain ⟨q, q1, q2, -⟩ := z; exact r2 rfl q q1 q2, rfl⟩⟩
  | some q =>
    obtain ⟨q1, q2⟩ := r1 q rfl
    refine E.astore_n C dJ19_get_5 (kn_ _ (by decide)) ?_
    refine E.aload_n C dJ19_get_6 rfl ?_
    refine E.ifnonnull1 C dJ19_get_7 (tgt := 14) (by decide) ?_
    refine E.aload_n C dJ19_get_14 rfl ?_
    refine E.getf C dJ19_get_15 ((T.en q1)) rfl 1 q1127 (by decide) rfl rfl ?_
    refine E.endA C N dJ19_get_18 (by omega) ?_ (hv := by show va_rf (tV Θ q) = .null ∨ ∃ z, va_rf (tV Θ q) = .ref z; cases tV Θ q with | none => exact Or.inl rfl | some z => exact Or.inr ⟨z, rfl⟩)
    exact ⟨rfl, Or.inl ⟨tV Θ q, ⟨q, q1, q2, rfl⟩, rfl⟩⟩
theorem m_containsKey (T : TT h t a Θ sz md) {bx : Nat} {k : Int32} (hb : h bx = some (gbox k)) :
    gMet 5 yJ19_containsKey cJ19_containsKey 2 (some .boolean) G h [.ref a, .ref bx] (fun v u => u = h ∧ (((∃ w, Ct Θ k w) ∧ v = some (.int 1)) ∨ ((∀ w, ¬ Ct Θ k w) ∧ v = some (.int 0)))) gNo 0 := by
  obtain ⟨root, gk, lq, hq, lo, hi, T, I, g⟩ := T
  refine gMet.of (by decide) (Nat.le_of_ble_eq_true rfl) (fun K C N hG hn hin => ?_)
  subst hG
  have kn_ : ∀ j : Nat, j < 2 → j < kn K := fun j hj => by rw [hn]; exact hj
  refine E.aload_n C dJ19_containsKey_0 rfl ?_
  refine E.aload_n C dJ19_containsKey_1 rfl ?_
  refine E.callV C (m_getEntry T I g hb) dJ19_containsKey_2 q701 q702 q703 q75 q704 mh_J19_getEntry (by decide) (by decide) (TH.rv T) rfl (Nat.le_of_ble_eq_true rfl) (by omega) (fun _ _ hx => hx.elim) ?_
  rintro v u ⟨rfl, r, rfl, r1, r2⟩
  cases r with
  | none =>
    refine E.ifnull0 C dJ19_containsKey_5 (tgt := 12) (by decide) ?_
    refine E.iconst C dJ19_containsKey_12 (v := 0) (by decide) ?_
    refine E.endZ C N dJ19_containsKey_13 (by first | rfl | assumption) (by omega) ?_
    exact ⟨rfl, Or.inr ⟨fun w z => by obtain ⟨q, q1, q2, -⟩ := z; exact r2 rfl q q1 q2, rfl⟩⟩
  | some q =>
    obtain ⟨q1, q2⟩ := r1 q rfl
    refine E.ifnull1 C dJ19_containsKey_5 ?_
    refine E.iconst C dJ19_containsKey_8 (v := 1) (by decide) ?_
    refine E.goto C dJ19_containsKey_9 (tgt := 13) (by decide) ?_
    refine E.endZ C N dJ19_containsKey_13 (by first | rfl | assumption) (by omega) ?_
    exact ⟨rfl, Or.inl ⟨⟨tV Θ q, q, q1, q2, rfl⟩, rfl⟩⟩
theorem m_tsize (T : TT h t a Θ sz md) : gMet 1 yJ19_size cJ19_size 1 (some .int) G h [.ref a] (fun v u => u = h ∧ v = some (.int sz)) gNo 0 := by
  obtain ⟨root, gk, lq, hq, lo, hi, T, I, g⟩ := T
  refine gMet.of (by decide) (Nat.le_of_ble_eq_true rfl) (fun K C N hG hn hin => ?_)
  subst hG
  have kn_ : ∀ j : Nat, j < 1 → j < kn K := fun j hj => by rw [hn]; exact hj
  refine E.aload_n C dJ19_size_0 rfl ?_
  refine E.tgetSize C T dJ19_size_1 q470 ?_
  refine E.endI C N dJ19_size_4 (by omega) ?_
  exact ⟨rfl, rfl⟩
end TOPS
