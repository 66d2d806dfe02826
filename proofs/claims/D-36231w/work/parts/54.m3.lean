/-! the reference's private methods that read -/
set_option maxRecDepth 100000
section M3
variable {G : gG} {h : gH} {m : Nat} {ad : Nat → Nat} {σ : Sg}
theorem m_X2_chars (hM : MP G h m ad σ) (b4 : σ.1 4 0 ≤ 40) : gMet 2 yX2_chars cX2_chars 3 (some .int) G h [.ref m] (fun w u => w = some (.int (nI (mchars σ))) ∧ u = h) gNo 0 := by
  refine gMet.of (by decide) (Nat.le_of_ble_eq_true rfl) (fun K C N hG hn hin => ?_)
  subst hG
  have kn_ : ∀ j : Nat, j < 3 → j < kn K := fun j hj => by rw [hn]; exact hj
  have lp : ∀ (d k : Nat) (c : Nat), k + d = σ.1 4 0 → c = sumN (fun k => mcs (σ.2 7 k)) k → E K 4 [(0, .ref m), (1, .int (nI c)), (2, .int (nI k))] [] h (0) := by
    intro d
    induction d with
    | zero =>
      intro k c hk hc
      refine E.iload_n C dX2_chars_4 rfl ?_
      refine E.aload_n C dX2_chars_5 rfl ?_
      refine E.getf C dX2_chars_6 hM.cell rfl 5 q2037 (by decide) rfl rfl ?_
      refine E.icmpN_ge C dX2_chars_9 (tgt := 30) (by decide) (by omega) (by omega) (fun c9 => ?_) (fun c9 => absurd c9 (by omega))
      refine E.iload_n C dX2_chars_30 rfl ?_
      refine E.endI C N dX2_chars_31 (by omega) ?_
      exact ⟨by rw [hc, mchars, ← hk]; rfl, rfl⟩
    | succ d ih =>
      intro k c hk hc
      refine E.iload_n C dX2_chars_4 rfl ?_
      refine E.aload_n C dX2_chars_5 rfl ?_
      refine E.getf C dX2_chars_6 hM.cell rfl 5 q2037 (by decide) rfl rfl ?_
      refine E.icmpN_ge C dX2_chars_9 (tgt := 30) (by decide) (by omega) (by omega) (fun c9 => absurd c9 (by omega)) (fun c9 => ?_)
      refine E.iload_n C dX2_chars_12 rfl ?_
      refine E.aload_n C dX2_chars_13 rfl ?_
      refine E.getf C dX2_chars_14 hM.cell rfl 17 q2049 (by decide) rfl rfl ?_
      refine E.iload_n C dX2_chars_17 rfl ?_
      refine E.iald C dX2_chars_18 hM.a17 (nI_in (by omega) (by omega)) (congrArg (σ.2 7) (nI_clamp (by omega))) ?_
      refine E.callS C (m_X2_charsOf) dX2_chars_19 q2196 q2197 q76 q2198 mh_X2_charsOf (by decide) (by decide) rfl (Nat.le_of_ble_eq_true rfl) (by omega) (fun _ _ hx => hx.elim) ?_
      rintro v u ⟨rfl, rfl⟩
      refine E.iaddN C dX2_chars_22 ?_
      refine E.istore_n C dX2_chars_23 (kn_ _ (by decide)) ?_
      refine E.iincN C dX2_chars_24 rfl (kn_ _ (by decide)) ?_
      refine E.goto C dX2_chars_27 (tgt := 4) (by decide) ?_
      exact ih (k + 1) _ (by omega) (by rw [hc]; rfl)
  refine E.iconst C dX2_chars_0 (v := nI 0) (by decide) ?_
  refine E.istore_n C dX2_chars_1 (kn_ _ (by decide)) ?_
  refine E.iconst C dX2_chars_2 (v := nI 0) (by decide) ?_
  refine E.istore_n C dX2_chars_3 (kn_ _ (by decide)) ?_
  exact lp (σ.1 4 0) 0 0 (by omega) rfl
theorem m_X2_charsOfVersion (hM : MP G h m ad σ) (hW : Wb σ) {v : Nat} (hv : v < σ.1 3 0) : gMet 2 yX2_charsOfVersion cX2_charsOfVersion 4 (some .int) G h [.ref m, .int (nI v)] (fun w u => w = some (.int (nI (chV σ v))) ∧ u = h) gNo 0 := by
  refine gMet.of (by decide) (Nat.le_of_ble_eq_true rfl) (fun K C N hG hn hin => ?_)
  subst hG
  have kn_ : ∀ j : Nat, j < 4 → j < kn K := fun j hj => by rw [hn]; exact hj
  have hW0 := hW
  obtain ⟨b0, b1, b2, b3, b4, b5, b6, b7, b8, b9, b10, b11⟩ := hW
  have z9 := b9 v hv
  have lp : ∀ (d k : Nat) (c : Nat), k + d = σ.1 12 v → c = sumN (fun k => mcs (σ.2 11 (40 * v + k))) k → E K 4 [(0, .ref m), (1, .int (nI v)), (2, .int (nI c)), (3, .int (nI k))] [] h (0) := by
    intro d
    induction d with
    | zero =>
      intro k c hk hc
      refine E.iload_n C dX2_charsOfVersion_4 rfl ?_
      refine E.aload_n C dX2_charsOfVersion_5 rfl ?_
      refine E.getf C dX2_charsOfVersion_6 hM.cell rfl 22 q2054 (by decide) rfl rfl ?_
      refine E.iload_n C dX2_charsOfVersion_9 rfl ?_
      refine E.iald C dX2_charsOfVersion_10 hM.a22 (nI_in (by omega) (by omega)) (congrArg (fun k => nI (σ.1 12 k)) (nI_clamp (by omega))) ?_
      refine E.icmpN_ge C dX2_charsOfVersion_11 (tgt := 37) (by decide) (by omega) (by omega) (fun c11 => ?_) (fun c11 => absurd c11 (by omega))
      refine E.iload_n C dX2_charsOfVersion_37 rfl ?_
      refine E.endI C N dX2_charsOfVersion_38 (by omega) ?_
      exact ⟨by rw [hc, chV, ← hk]; rfl, rfl⟩
    | succ d ih =>
      intro k c hk hc
      refine E.iload_n C dX2_charsOfVersion_4 rfl ?_
      refine E.aload_n C dX2_charsOfVersion_5 rfl ?_
      refine E.getf C dX2_charsOfVersion_6 hM.cell rfl 22 q2054 (by decide) rfl rfl ?_
      refine E.iload_n C dX2_charsOfVersion_9 rfl ?_
      refine E.iald C dX2_charsOfVersion_10 hM.a22 (nI_in (by omega) (by omega)) (congrArg (fun k => nI (σ.1 12 k)) (nI_clamp (by omega))) ?_
      refine E.icmpN_ge C dX2_charsOfVersion_11 (tgt := 37) (by decide) (by omega) (by omega) (fun c11 => absurd c11 (by omega)) (fun c11 => ?_)
      refine E.iload_n C dX2_charsOfVersion_14 rfl ?_
      refine E.aload_n C dX2_charsOfVersion_15 rfl ?_
      refine E.getf C dX2_charsOfVersion_16 hM.cell rfl 27 q2059 (by decide) rfl rfl ?_
      refine E.bipush C dX2_charsOfVersion_19 (v := nI 40) (by decide) ?_
      refine E.iload_n C dX2_charsOfVersion_21 rfl ?_
      refine E.imulN C dX2_charsOfVersion_22 ?_
      refine E.iload_n C dX2_charsOfVersion_23 rfl ?_
      refine E.iaddN C dX2_charsOfVersion_24 ?_
      refine E.iald C dX2_charsOfVersion_25 hM.a27 (nI_in (by omega) (by omega)) (congrArg (σ.2 11) (nI_clamp (by omega))) ?_
      refine E.callS C (m_X2_charsOf) dX2_charsOfVersion_26 q2196 q2197 q76 q2198 mh_X2_charsOf (by decide) (by decide) rfl (Nat.le_of_ble_eq_true rfl) (by omega) (fun _ _ hx => hx.elim) ?_
      rintro v u ⟨rfl, rfl⟩
      refine E.iaddN C dX2_charsOfVersion_29 ?_
      refine E.istore_n C dX2_charsOfVersion_30 (kn_ _ (by decide)) ?_
      refine E.iincN C dX2_charsOfVersion_31 rfl (kn_ _ (by decide)) ?_
      refine E.goto C dX2_charsOfVersion_34 (tgt := 4) (by decide) ?_
      exact ih (k + 1) _ (by omega) (by rw [hc]; rfl)
  refine E.iconst C dX2_charsOfVersion_0 (v := nI 0) (by decide) ?_
  refine E.istore_n C dX2_charsOfVersion_1 (kn_ _ (by decide)) ?_
  refine E.iconst C dX2_charsOfVersion_2 (v := nI 0) (by decide) ?_
  refine E.istore_n C dX2_charsOfVersion_3 (kn_ _ (by decide)) ?_
  exact lp (σ.1 12 v) 0 0 (by omega) rfl
theorem m_X2_clockOf (hM : MP G h m ad σ) (hW : Wb σ) {t : Nat} (ht : t < σ.1 2 0) : gMet 1 yX2_clockOf cX2_clockOf 2 (some .int) G h [.ref m, .int (nI t)] (fun w u => w = some (.int (clk σ t)) ∧ u = h) gNo 0 := by
  refine gMet.of (by decide) (Nat.le_of_ble_eq_true rfl) (fun K C N hG hn hin => ?_)
  subst hG
  have kn_ : ∀ j : Nat, j < 2 → j < kn K := fun j hj => by rw [hn]; exact hj
  have hW0 := hW
  obtain ⟨b0, b1, b2, b3, b4, b5, b6, b7, b8, b9, b10, b11⟩ := hW
  have z8 := b8 t ht
  refine E.aload_n C dX2_clockOf_0 rfl ?_
  refine E.getf C dX2_clockOf_1 hM.cell rfl 0 q2032 (by decide) rfl rfl ?_
  refine E.aload_n C dX2_clockOf_4 rfl ?_
  refine E.getf C dX2_clockOf_5 hM.cell rfl 10 q2042 (by decide) rfl rfl ?_
  refine E.aload_n C dX2_clockOf_8 rfl ?_
  refine E.getf C dX2_clockOf_9 hM.cell rfl 12 q2044 (by decide) rfl rfl ?_
  refine E.iload_n C dX2_clockOf_12 rfl ?_
  refine E.iald C dX2_clockOf_13 hM.a12 (nI_in (by omega) (by omega)) (congrArg (fun k => nI (σ.1 8 k)) (nI_clamp (by omega))) ?_
  refine E.iald C dX2_clockOf_14 hM.a10 (nI_in (by omega) (by omega)) (congrArg (σ.2 2) (nI_clamp (by omega))) ?_
  refine E.iadd C dX2_clockOf_15 ?_
  refine E.endI C N dX2_clockOf_16 (by omega) ?_
  exact ⟨rfl, rfl⟩
theorem m_X2_ownLate (hM : MP G h m ad σ) (hW : Wb σ) {v : Nat} (hv : v < σ.1 3 0) : gMet 2 yX2_ownLate cX2_ownLate 2 (some .int) G h [.ref m, .int (nI v)] (fun w u => w = some (.int (olt σ v)) ∧ u = h) gNo 0 := by
  refine gMet.of (by decide) (Nat.le_of_ble_eq_true rfl) (fun K C N hG hn hin => ?_)
  subst hG
  have kn_ : ∀ j : Nat, j < 2 → j < kn K := fun j hj => by rw [hn]; exact hj
  have hW0 := hW
  obtain ⟨b0, b1, b2, b3, b4, b5, b6, b7, b8, b9, b10, b11⟩ := hW
  have z9 := b9 v hv
  have z8 := b8 _ z9.2.1
  refine E.iconst C dX2_ownLate_0 (v := nI 0) (by decide) ?_
  refine E.aload_n C dX2_ownLate_1 rfl ?_
  refine E.getf C dX2_ownLate_2 hM.cell rfl 24 q2056 (by decide) rfl rfl ?_
  refine E.iload_n C dX2_ownLate_5 rfl ?_
  refine E.iald C dX2_ownLate_6 hM.a24 (nI_in (by omega) (by omega)) (congrArg (σ.2 9) (nI_clamp (by omega))) ?_
  refine E.aload_n C dX2_ownLate_7 rfl ?_
  refine E.getf C dX2_ownLate_8 hM.cell rfl 10 q2042 (by decide) rfl rfl ?_
  refine E.aload_n C dX2_ownLate_11 rfl ?_
  refine E.getf C dX2_ownLate_12 hM.cell rfl 12 q2044 (by decide) rfl rfl ?_
  refine E.aload_n C dX2_ownLate_15 rfl ?_
  refine E.getf C dX2_ownLate_16 hM.cell rfl 19 q2051 (by decide) rfl rfl ?_
  refine E.iload_n C dX2_ownLate_19 rfl ?_
  refine E.iald C dX2_ownLate_20 hM.a19 (nI_in (by omega) (by omega)) (congrArg (fun k => nI (σ.1 10 k)) (nI_clamp (by omega))) ?_
  refine E.iald C dX2_ownLate_21 hM.a12 (nI_in (by omega) (by omega)) (congrArg (fun k => nI (σ.1 8 k)) (nI_clamp (by omega))) ?_
  refine E.iald C dX2_ownLate_22 hM.a10 (nI_in (by omega) (by omega)) (congrArg (σ.2 2) (nI_clamp (by omega))) ?_
  refine E.iadd C dX2_ownLate_23 ?_
  refine E.aload_n C dX2_ownLate_24 rfl ?_
  refine E.getf C dX2_ownLate_25 hM.cell rfl 13 q2045 (by decide) rfl rfl ?_
  refine E.aload_n C dX2_ownLate_28 rfl ?_
  refine E.getf C dX2_ownLate_29 hM.cell rfl 19 q2051 (by decide) rfl rfl ?_
  refine E.iload_n C dX2_ownLate_32 rfl ?_
  refine E.iald C dX2_ownLate_33 hM.a19 (nI_in (by omega) (by omega)) (congrArg (fun k => nI (σ.1 10 k)) (nI_clamp (by omega))) ?_
  refine E.iald C dX2_ownLate_34 hM.a13 (nI_in (by omega) (by omega)) (congrArg (σ.2 3) (nI_clamp (by omega))) ?_
  refine E.isub C dX2_ownLate_35 ?_
  refine E.callS C (m_X2_greater) dX2_ownLate_36 q2298 q2299 q76 q2300 mh_X2_greater (by decide) (by decide) rfl (Nat.le_of_ble_eq_true rfl) (by omega) (fun _ _ hx => hx.elim) ?_
  rintro v u ⟨rfl, rfl⟩
  refine E.endI C N dX2_ownLate_39 (by omega) ?_
  exact ⟨rfl, rfl⟩
theorem m_X2_common (hM : MP G h m ad σ) {a b : Nat} (ha : a < 60) (hb : b < 60) (za : σ.1 15 a ≤ 37) (zb : σ.1 15 b ≤ 37) : gMet 1 yX2_common cX2_common 6 (some .int) G h [.ref m, .int (nI a), .int (nI b)] (fun w u => w = some (.int (nI (cm σ a b))) ∧ u = h) gNo 0 := by
  refine gMet.of (by decide) (Nat.le_of_ble_eq_true rfl) (fun K C N hG hn hin => ?_)
  subst hG
  have kn_ : ∀ j : Nat, j < 6 → j < kn K := fun j hj => by rw [hn]; exact hj
  have inn : ∀ (i c0 : Nat), i < σ.1 15 a → ∀ (d k c : Nat), k + d = σ.1 15 b → c = c0 + sumN (fun j => bN (decide (σ.2 12 (40 * a + i) = σ.2 12 (40 * b + j)))) k → (∀ c9, c9 = c0 + cmA σ (σ.2 12 (40 * a + i)) b → E K 5 [(0, .ref m), (1, .int (nI a)), (2, .int (nI b)), (3, .int (nI c9)), (4, .int (nI (i + 1)))] [] h 0) → E K 19 [(0, .ref m), (1, .int (nI a)), (2, .int (nI b)), (3, .int (nI c)), (4, .int (nI i)), (5, .int (nI k))] [] h 0 := by
    intro i c0 hi d
    induction d with
    | zero =>
      intro k c hk hc cont
      refine E.iload C dX2_common_19 rfl ?_
      refine E.aload_n C dX2_common_21 rfl ?_
      refine E.getf C dX2_common_22 hM.cell rfl 29 q2061 (by decide) rfl rfl ?_
      refine E.iload_n C dX2_common_25 rfl ?_
      refine E.iald C dX2_common_26 hM.a29 (nI_in (by omega) (by omega)) (congrArg (fun k => nI (σ.1 15 k)) (nI_clamp (by omega))) ?_
      refine E.icmpN_ge C dX2_common_27 (tgt := 71) (by decide) (by omega) (by omega) (fun c27 => ?_) (fun c27 => absurd c27 (by omega))
      refine E.iincN C dX2_common_71 rfl (kn_ _ (by decide)) ?_
      refine E.goto C dX2_common_74 (tgt := 5) (by decide) ?_
      refine E.sub [0, 1, 2, 3, 4] rfl (cont _ ?_)
      rw [hc, cmA, ← hk]; rfl
    | succ d ih =>
      intro k c hk hc cont
      refine E.iload C dX2_common_19 rfl ?_
      refine E.aload_n C dX2_common_21 rfl ?_
      refine E.getf C dX2_common_22 hM.cell rfl 29 q2061 (by decide) rfl rfl ?_
      refine E.iload_n C dX2_common_25 rfl ?_
      refine E.iald C dX2_common_26 hM.a29 (nI_in (by omega) (by omega)) (congrArg (fun k => nI (σ.1 15 k)) (nI_clamp (by omega))) ?_
      refine E.icmpN_ge C dX2_common_27 (tgt := 71) (by decide) (by omega) (by omega) (fun c27 => absurd c27 (by omega)) (fun c27 => ?_)
      refine E.iload_n C dX2_common_30 rfl ?_
      refine E.aload_n C dX2_common_31 rfl ?_
      refine E.getf C dX2_common_32 hM.cell rfl 28 q2060 (by decide) rfl rfl ?_
      refine E.bipush C dX2_common_35 (v := nI 40) (by decide) ?_
      refine E.iload_n C dX2_common_37 rfl ?_
      refine E.imulN C dX2_common_38 ?_
      refine E.iload C dX2_common_39 rfl ?_
      refine E.iaddN C dX2_common_41 ?_
      refine E.iald C dX2_common_42 hM.a28 (nI_in (by omega) (by omega)) (congrArg (σ.2 12) (nI_clamp (by omega))) ?_
      refine E.aload_n C dX2_common_43 rfl ?_
      refine E.getf C dX2_common_44 hM.cell rfl 28 q2060 (by decide) rfl rfl ?_
      refine E.bipush C dX2_common_47 (v := nI 40) (by decide) ?_
      refine E.iload_n C dX2_common_49 rfl ?_
      refine E.imulN C dX2_common_50 ?_
      refine E.iload C dX2_common_51 rfl ?_
      refine E.iaddN C dX2_common_53 ?_
      refine E.iald C dX2_common_54 hM.a28 (nI_in (by omega) (by omega)) (congrArg (σ.2 12) (nI_clamp (by omega))) ?_
      refine E.icmp_ne C dX2_common_55 (tgt := 62) (by decide) (fun c55 => ?_) (fun c55 => ?_)
      · refine E.iconst C dX2_common_62 (v := nI 0) (by decide) ?_
        refine E.iaddN C dX2_common_63 ?_
        refine E.istore_n C dX2_common_64 (kn_ _ (by decide)) ?_
        refine E.iincN C dX2_common_65 rfl (kn_ _ (by decide)) ?_
        refine E.goto C dX2_common_68 (tgt := 19) (by decide) ?_
        refine ih (k + 1) _ (by omega) ?_ cont
        first | (rw [hc, sumN, show bN (decide (σ.2 12 (40 * a + i) = σ.2 12 (40 * b + k))) = 1 from by simp [bN, c55]]; omega) | (rw [hc, sumN, show bN (decide (σ.2 12 (40 * a + i) = σ.2 12 (40 * b + k))) = 0 from by simp [bN, c55]]; rfl)
      · refine E.iconst C dX2_common_58 (v := nI 1) (by decide) ?_
        refine E.goto C dX2_common_59 (tgt := 63) (by decide) ?_
        refine E.iaddN C dX2_common_63 ?_
        refine E.istore_n C dX2_common_64 (kn_ _ (by decide)) ?_
        refine E.iincN C dX2_common_65 rfl (kn_ _ (by decide)) ?_
        refine E.goto C dX2_common_68 (tgt := 19) (by decide) ?_
        refine ih (k + 1) _ (by omega) ?_ cont
        first | (rw [hc, sumN, show bN (decide (σ.2 12 (40 * a + i) = σ.2 12 (40 * b + k))) = 1 from by simp [bN, c55]]; omega) | (rw [hc, sumN, show bN (decide (σ.2 12 (40 * a + i) = σ.2 12 (40 * b + k))) = 0 from by simp [bN, c55]]; rfl)
  have lp : ∀ (d k : Nat) (c : Nat), k + d = σ.1 15 a → c = sumN (fun i => cmA σ (σ.2 12 (40 * a + i)) b) k → E K 5 [(0, .ref m), (1, .int (nI a)), (2, .int (nI b)), (3, .int (nI c)), (4, .int (nI k))] [] h (0) := by
    intro d
    induction d with
    | zero =>
      intro k c hk hc
      refine E.iload C dX2_common_5 rfl ?_
      refine E.aload_n C dX2_common_7 rfl ?_
      refine E.getf C dX2_common_8 hM.cell rfl 29 q2061 (by decide) rfl rfl ?_
      refine E.iload_n C dX2_common_11 rfl ?_
      refine E.iald C dX2_common_12 hM.a29 (nI_in (by omega) (by omega)) (congrArg (fun k => nI (σ.1 15 k)) (nI_clamp (by omega))) ?_
      refine E.icmpN_ge C dX2_common_13 (tgt := 77) (by decide) (by omega) (by omega) (fun c13 => ?_) (fun c13 => absurd c13 (by omega))
      refine E.iload_n C dX2_common_77 rfl ?_
      refine E.endI C N dX2_common_78 (by omega) ?_
      exact ⟨by rw [hc, cm, ← hk]; rfl, rfl⟩
    | succ d ih =>
      intro k c hk hc
      refine E.iload C dX2_common_5 rfl ?_
      refine E.aload_n C dX2_common_7 rfl ?_
      refine E.getf C dX2_common_8 hM.cell rfl 29 q2061 (by decide) rfl rfl ?_
      refine E.iload_n C dX2_common_11 rfl ?_
      refine E.iald C dX2_common_12 hM.a29 (nI_in (by omega) (by omega)) (congrArg (fun k => nI (σ.1 15 k)) (nI_clamp (by omega))) ?_
      refine E.icmpN_ge C dX2_common_13 (tgt := 77) (by decide) (by omega) (by omega) (fun c13 => absurd c13 (by omega)) (fun c13 => ?_)
      refine E.iconst C dX2_common_16 (v := nI 0) (by decide) ?_
      refine E.istore C dX2_common_17 (kn_ _ (by decide)) ?_
      refine inn k c (by omega) (σ.1 15 b) 0 c (by omega) rfl (fun c9 h9 => ih (k + 1) c9 (by omega) ?_)
      rw [h9, hc]; rfl
  refine E.iconst C dX2_common_0 (v := nI 0) (by decide) ?_
  refine E.istore_n C dX2_common_1 (kn_ _ (by decide)) ?_
  refine E.iconst C dX2_common_2 (v := nI 0) (by decide) ?_
  refine E.istore C dX2_common_3 (kn_ _ (by decide)) ?_
  exact lp (σ.1 15 a) 0 0 (by omega) rfl
theorem cmA_le {σ : Sg} {x : Int32} {b : Nat} : cmA σ x b ≤ σ.1 15 b := by
  have := sumN_le (f := fun j => bN (decide (x = σ.2 12 (40 * b + j)))) (b := 1) (fun i => bN_le _) (σ.1 15 b)
  rw [Nat.mul_one] at this
  exact this
theorem cm_le {σ : Sg} {a b : Nat} (h1 : σ.1 15 a ≤ 37) (h2 : σ.1 15 b ≤ 37) : cm σ a b ≤ 1369 := by
  have h3 := sumN_le (f := fun i => cmA σ (σ.2 12 (40 * a + i)) b) (b := 37) (fun i => Nat.le_trans cmA_le h2) (σ.1 15 a)
  have h4 : σ.1 15 a * 37 ≤ 37 * 37 := Nat.mul_le_mul_right 37 h1
  exact Nat.le_trans h3 h4
theorem m_X2_isHit (hM : MP G h m ad σ) {v k : Nat} (hv : v < 60) (hk : k < 60) (zv : σ.1 15 v ≤ 37) (zk : σ.1 15 k ≤ 37) (pv : σ.1 9 v < 60) (pk : σ.1 9 k < 60) (sk : σ.1 13 k ≤ 2) : gMet 2 yX2_isHit cX2_isHit 3 (some .boolean) G h [.ref m, .int (nI v), .int (nI k)] (fun w u => (w = some (.int (nI 1)) ∧ hit σ v k = true ∧ u = h) ∨ (w = some (.int (nI 0)) ∧ hit σ v k = false ∧ u = h)) gNo 0 := by
  refine gMet.of (by decide) (Nat.le_of_ble_eq_true rfl) (fun K C N hG hn hin => ?_)
  subst hG
  have kn_ : ∀ j : Nat, j < 3 → j < kn K := fun j hj => by rw [hn]; exact hj
  refine E.aload_n C dX2_isHit_0 rfl ?_
  refine E.getf C dX2_isHit_1 hM.cell rfl 23 q2055 (by decide) rfl rfl ?_
  refine E.iload_n C dX2_isHit_4 rfl ?_
  refine E.iald C dX2_isHit_5 hM.a23 (nI_in (by omega) (by omega)) (congrArg (fun k => nI (σ.1 13 k)) (nI_clamp (by omega))) ?_
  refine E.iconst C dX2_isHit_6 (v := nI 1) (by decide) ?_
  refine E.icmpN_ne C dX2_isHit_7 (tgt := 42) (by decide) (by omega) (by omega) (fun c7 => ?_) (fun c7 => ?_)
  · refine E.iconst C dX2_isHit_42 (v := nI 0) (by decide) ?_
    refine E.endZ C N dX2_isHit_43 (by first | rfl | assumption) (by omega) ?_
    first | exact Or.inl ⟨rfl, (by first | (simp [hit, *]; done) | (simp [hit, *]; exact Int32.not_lt.mp (by assumption))), rfl⟩ | exact Or.inr ⟨rfl, (by first | (simp [hit, *]; done) | (simp [hit, *]; exact Int32.not_le.mpr (by assumption)) | (simp [hit, *]; assumption)), rfl⟩
  · refine E.aload_n C dX2_isHit_10 rfl ?_
    refine E.getf C dX2_isHit_11 hM.cell rfl 18 q2050 (by decide) rfl rfl ?_
    refine E.iload_n C dX2_isHit_14 rfl ?_
    refine E.iald C dX2_isHit_15 hM.a18 (nI_in (by omega) (by omega)) (congrArg (fun k => nI (σ.1 9 k)) (nI_clamp (by omega))) ?_
    refine E.aload_n C dX2_isHit_16 rfl ?_
    refine E.getf C dX2_isHit_17 hM.cell rfl 18 q2050 (by decide) rfl rfl ?_
    refine E.iload_n C dX2_isHit_20 rfl ?_
    refine E.iald C dX2_isHit_21 hM.a18 (nI_in (by omega) (by omega)) (congrArg (fun k => nI (σ.1 9 k)) (nI_clamp (by omega))) ?_
    refine E.icmpN_eq C dX2_isHit_22 (tgt := 42) (by decide) (by omega) (by omega) (fun c22 => ?_) (fun c22 => ?_)
    · refine E.iconst C dX2_isHit_42 (v := nI 0) (by decide) ?_
      refine E.endZ C N dX2_isHit_43 (by first | rfl | assumption) (by omega) ?_
      first | exact Or.inl ⟨rfl, (by first | (simp [hit, *]; done) | (simp [hit, *]; exact Int32.not_lt.mp (by assumption))), rfl⟩ | exact Or.inr ⟨rfl, (by first | (simp [hit, *]; done) | (simp [hit, *]; exact Int32.not_le.mpr (by assumption)) | (simp [hit, *]; assumption)), rfl⟩
    · refine E.aload_n C dX2_isHit_25 rfl ?_
      refine E.iload_n C dX2_isHit_26 rfl ?_
      refine E.iload_n C dX2_isHit_27 rfl ?_
      refine E.callV C (m_X2_common hM (by omega) (by omega) (by omega) (by omega)) dX2_isHit_28 q2266 q2268 qs42 q76 q2269 mh_X2_common (by decide) (by decide) hM.rv rfl (Nat.le_of_ble_eq_true rfl) (by omega) (fun _ _ hx => hx.elim) ?_
      rintro v u ⟨rfl, rfl⟩
      refine E.aload_n C dX2_isHit_31 rfl ?_
      refine E.getf C dX2_isHit_32 hM.cell rfl 8 q2040 (by decide) rfl rfl ?_
      refine E.icmp_lt C dX2_isHit_35 (tgt := 42) (by decide) (fun c35 => ?_) (fun c35 => ?_)
      · refine E.iconst C dX2_isHit_42 (v := nI 0) (by decide) ?_
        refine E.endZ C N dX2_isHit_43 (by first | rfl | assumption) (by omega) ?_
        first | exact Or.inl ⟨rfl, (by first | (simp [hit, *]; done) | (simp [hit, *]; exact Int32.not_lt.mp (by assumption))), rfl⟩ | exact Or.inr ⟨rfl, (by first | (simp [hit, *]; done) | (simp [hit, *]; exact Int32.not_le.mpr (by assumption)) | (simp [hit, *]; assumption)), rfl⟩
      · refine E.iconst C dX2_isHit_38 (v := nI 1) (by decide) ?_
        refine E.goto C dX2_isHit_39 (tgt := 43) (by decide) ?_
        refine E.endZ C N dX2_isHit_43 (by first | rfl | assumption) (by omega) ?_
        first | exact Or.inl ⟨rfl, (by first | (simp [hit, *]; done) | (simp [hit, *]; exact Int32.not_lt.mp (by assumption))), rfl⟩ | exact Or.inr ⟨rfl, (by first | (simp [hit, *]; done) | (simp [hit, *]; exact Int32.not_le.mpr (by assumption)) | (simp [hit, *]; assumption)), rfl⟩
theorem cgt_lt {σ : Sg} {p t : Nat} : ∀ {n b : Nat}, cgt σ p t n = some b → b < n ∧ isC σ p t b = true
  | 0, b, h => by cases h
  | n + 1, b, h => by
    rw [cgt] at h
    cases e : cgt σ p t n with
    | none =>
      rw [e] at h
      dsimp only at h
      split at h
      · cases h; exact ⟨Nat.lt_succ_self _, by assumption⟩
      · cases h
    | some b0 =>
      rw [e] at h
      dsimp only at h
      have := cgt_lt e
      split at h
      · rename_i q; cases h; exact ⟨Nat.lt_succ_self _, by simp at q; exact q.1⟩
      · cases h; exact ⟨by omega, this.2⟩
theorem m_X2_countingOf (hM : MP G h m ad σ) (hW : Wb σ) {p t : Nat} (hp : p < 12) (ht : t < 10) : gMet 1 yX2_countingOf cX2_countingOf 6 (some .int) G h [.ref m, .int (nI p), .int (nI t)] (fun w u => w = some (.int (rpr (cnt σ p t))) ∧ u = h) gNo 0 := by
  refine gMet.of (by decide) (Nat.le_of_ble_eq_true rfl) (fun K C N hG hn hin => ?_)
  subst hG
  have kn_ : ∀ j : Nat, j < 6 → j < kn K := fun j hj => by rw [hn]; exact hj
  have hW0 := hW
  obtain ⟨b0, b1, b2, b3, b4, b5, b6, b7, b8, b9, b10, b11⟩ := hW
  have lp : ∀ (d k : Nat) (c : Option Nat) (l9 : List (Nat × Value)), k + d = σ.1 3 0 → c = cgt σ p t k → l9 = [(0, .ref m), (1, .int (nI p)), (2, .int (nI t)), (3, .int (rpr c)), (4, .int (nI k))] → E K 5 l9 [] h 0 := by
    intro d
    induction d with
    | zero =>
      intro k c l9 hk hc hl
      subst hl
      refine E.iload C dX2_countingOf_5 rfl ?_
      refine E.aload_n C dX2_countingOf_7 rfl ?_
      refine E.getf C dX2_countingOf_8 hM.cell rfl 4 q2036 (by decide) rfl rfl ?_
      refine E.icmpN_ge C dX2_countingOf_11 (tgt := 93) (by decide) (by omega) (by omega) (fun c11 => ?_) (fun c11 => absurd c11 (by omega))
      refine E.iload_n C dX2_countingOf_93 rfl ?_
      refine E.endI C N dX2_countingOf_94 (by omega) ?_
      exact ⟨by rw [hc, cnt, ← hk]; rfl, rfl⟩
    | succ d ih =>
      intro k c l9 hk hc hl
      subst hl
      have zk := b9 k (by omega)
      have sk := b11 k
      have fin : ∀ x : Option Nat, x = cgt σ p t (k + 1) → ∀ l8, lv_pick l8 [0, 1, 2, 3, 4] = [(0, .ref m), (1, .int (nI p)), (2, .int (nI t)), (3, .int (rpr x)), (4, .int (nI (k + 1)))] → E K 5 l8 [] h 0 := fun x hx l8 h8 => E.sub [0, 1, 2, 3, 4] h8 (ih (k + 1) x _ (by omega) hx rfl)
      cases c with
      | none =>
        refine E.eq rfl (show [(0, .ref m), (1, .int (nI p)), (2, .int (nI t)), (3, .int (-1)), (4, .int (nI k))] = _ from rfl) rfl rfl rfl ?_
        refine E.iload C dX2_countingOf_5 rfl ?_
        refine E.aload_n C dX2_countingOf_7 rfl ?_
        refine E.getf C dX2_countingOf_8 hM.cell rfl 4 q2036 (by decide) rfl rfl ?_
        refine E.icmpN_ge C dX2_countingOf_11 (tgt := 93) (by decide) (by omega) (by omega) (fun c11 => absurd c11 (by omega)) (fun c11 => ?_)
        refine E.aload_n C dX2_countingOf_14 rfl ?_
        refine E.getf C dX2_countingOf_15 hM.cell rfl 23 q2055 (by decide) rfl rfl ?_
        refine E.iload C dX2_countingOf_18 rfl ?_
        refine E.iald C dX2_countingOf_20 hM.a23 (nI_in (by omega) (by omega)) (congrArg (fun k => nI (σ.1 13 k)) (nI_clamp (by omega))) ?_
        refine E.iconst C dX2_countingOf_21 (v := nI 1) (by decide) ?_
        refine E.icmpN_ne C dX2_countingOf_22 (tgt := 51) (by decide) (by omega) (by omega) (fun c22 => ?_) (fun c22 => ?_)
        · refine E.iconst C dX2_countingOf_51 (v := nI 0) (by decide) ?_
          refine E.istore C dX2_countingOf_52 (kn_ _ (by decide)) ?_
          refine E.iload C dX2_countingOf_54 rfl ?_
          refine E.if_eq C dX2_countingOf_56 (tgt := 85) (by decide) (fun cz => ?_) (fun c => absurd c (by decide))
          clear cz
          refine E.iload_n C dX2_countingOf_85 rfl ?_
          refine E.istore_n C dX2_countingOf_86 (kn_ _ (by decide)) ?_
          refine E.iincN C dX2_countingOf_87 rfl (kn_ _ (by decide)) ?_
          refine E.goto C dX2_countingOf_90 (tgt := 5) (by decide) ?_
          first | exact fin (some k) (by rw [cgt, ← hc]; simp [isC, *]) _ rfl | exact fin none (by rw [cgt, ← hc]; simp [isC, *]) _ rfl
        · refine E.aload_n C dX2_countingOf_25 rfl ?_
          refine E.getf C dX2_countingOf_26 hM.cell rfl 18 q2050 (by decide) rfl rfl ?_
          refine E.iload C dX2_countingOf_29 rfl ?_
          refine E.iald C dX2_countingOf_31 hM.a18 (nI_in (by omega) (by omega)) (congrArg (fun k => nI (σ.1 9 k)) (nI_clamp (by omega))) ?_
          refine E.iload_n C dX2_countingOf_32 rfl ?_
          refine E.icmpN_ne C dX2_countingOf_33 (tgt := 51) (by decide) (by omega) (by omega) (fun c33 => ?_) (fun c33 => ?_)
          · refine E.iconst C dX2_countingOf_51 (v := nI 0) (by decide) ?_
            refine E.istore C dX2_countingOf_52 (kn_ _ (by decide)) ?_
            refine E.iload C dX2_countingOf_54 rfl ?_
            refine E.if_eq C dX2_countingOf_56 (tgt := 85) (by decide) (fun cz => ?_) (fun c => absurd c (by decide))
            clear cz
            refine E.iload_n C dX2_countingOf_85 rfl ?_
            refine E.istore_n C dX2_countingOf_86 (kn_ _ (by decide)) ?_
            refine E.iincN C dX2_countingOf_87 rfl (kn_ _ (by decide)) ?_
            refine E.goto C dX2_countingOf_90 (tgt := 5) (by decide) ?_
            first | exact fin (some k) (by rw [cgt, ← hc]; simp [isC, *]) _ rfl | exact fin none (by rw [cgt, ← hc]; simp [isC, *]) _ rfl
          · refine E.aload_n C dX2_countingOf_36 rfl ?_
            refine E.getf C dX2_countingOf_37 hM.cell rfl 19 q2051 (by decide) rfl rfl ?_
            refine E.iload C dX2_countingOf_40 rfl ?_
            refine E.iald C dX2_countingOf_42 hM.a19 (nI_in (by omega) (by omega)) (congrArg (fun k => nI (σ.1 10 k)) (nI_clamp (by omega))) ?_
            refine E.iload_n C dX2_countingOf_43 rfl ?_
            refine E.icmpN_ne C dX2_countingOf_44 (tgt := 51) (by decide) (by omega) (by omega) (fun c44 => ?_) (fun c44 => ?_)
            · refine E.iconst C dX2_countingOf_51 (v := nI 0) (by decide) ?_
              refine E.istore C dX2_countingOf_52 (kn_ _ (by decide)) ?_
              refine E.iload C dX2_countingOf_54 rfl ?_
              refine E.if_eq C dX2_countingOf_56 (tgt := 85) (by decide) (fun cz => ?_) (fun c => absurd c (by decide))
              clear cz
              refine E.iload_n C dX2_countingOf_85 rfl ?_
              refine E.istore_n C dX2_countingOf_86 (kn_ _ (by decide)) ?_
              refine E.iincN C dX2_countingOf_87 rfl (kn_ _ (by decide)) ?_
              refine E.goto C dX2_countingOf_90 (tgt := 5) (by decide) ?_
              first | exact fin (some k) (by rw [cgt, ← hc]; simp [isC, *]) _ rfl | exact fin none (by rw [cgt, ← hc]; simp [isC, *]) _ rfl
            · refine E.iconst C dX2_countingOf_47 (v := nI 1) (by decide) ?_
              refine E.goto C dX2_countingOf_48 (tgt := 52) (by decide) ?_
              refine E.istore C dX2_countingOf_52 (kn_ _ (by decide)) ?_
              refine E.iload C dX2_countingOf_54 rfl ?_
              refine E.if_eq C dX2_countingOf_56 (tgt := 85) (by decide) (fun c => absurd c (by decide)) (fun cz => ?_)
              clear cz
              refine E.iload_n C dX2_countingOf_59 rfl ?_
              refine E.iconst C dX2_countingOf_60 (v := (-1)) (by decide) ?_
              refine E.icmp_eq C dX2_countingOf_61 (tgt := 80) (by decide) (fun cz => ?_) (fun c => absurd c (by decide))
              clear cz
              refine E.iload C dX2_countingOf_80 rfl ?_
              refine E.goto C dX2_countingOf_82 (tgt := 86) (by decide) ?_
              refine E.istore_n C dX2_countingOf_86 (kn_ _ (by decide)) ?_
              refine E.iincN C dX2_countingOf_87 rfl (kn_ _ (by decide)) ?_
              refine E.goto C dX2_countingOf_90 (tgt := 5) (by decide) ?_
              first | exact fin (some k) (by rw [cgt, ← hc]; simp [isC, *]) _ rfl | exact fin none (by rw [cgt, ← hc]; simp [isC, *]) _ rfl
      | some b =>
        have hb := cgt_lt hc.symm
        have sb := b11 b
        refine E.eq rfl (show [(0, .ref m), (1, .int (nI p)), (2, .int (nI t)), (3, .int (nI b)), (4, .int (nI k))] = _ from rfl) rfl rfl rfl ?_
        refine E.iload C dX2_countingOf_5 rfl ?_
        refine E.aload_n C dX2_countingOf_7 rfl ?_
        refine E.getf C dX2_countingOf_8 hM.cell rfl 4 q2036 (by decide) rfl rfl ?_
        refine E.icmpN_ge C dX2_countingOf_11 (tgt := 93) (by decide) (by omega) (by omega) (fun c11 => absurd c11 (by omega)) (fun c11 => ?_)
        refine E.aload_n C dX2_countingOf_14 rfl ?_
        refine E.getf C dX2_countingOf_15 hM.cell rfl 23 q2055 (by decide) rfl rfl ?_
        refine E.iload C dX2_countingOf_18 rfl ?_
        refine E.iald C dX2_countingOf_20 hM.a23 (nI_in (by omega) (by omega)) (congrArg (fun k => nI (σ.1 13 k)) (nI_clamp (by omega))) ?_
        refine E.iconst C dX2_countingOf_21 (v := nI 1) (by decide) ?_
        refine E.icmpN_ne C dX2_countingOf_22 (tgt := 51) (by decide) (by omega) (by omega) (fun c22 => ?_) (fun c22 => ?_)
        · refine E.iconst C dX2_countingOf_51 (v := nI 0) (by decide) ?_
          refine E.istore C dX2_countingOf_52 (kn_ _ (by decide)) ?_
          refine E.iload C dX2_countingOf_54 rfl ?_
          refine E.if_eq C dX2_countingOf_56 (tgt := 85) (by decide) (fun cz => ?_) (fun c => absurd c (by decide))
          clear cz
          refine E.iload_n C dX2_countingOf_85 rfl ?_
          refine E.istore_n C dX2_countingOf_86 (kn_ _ (by decide)) ?_
          refine E.iincN C dX2_countingOf_87 rfl (kn_ _ (by decide)) ?_
          refine E.goto C dX2_countingOf_90 (tgt := 5) (by decide) ?_
          first | exact fin (some k) (by rw [cgt, ← hc]; first | (simp [isC, *]; done) | (simp [isC, *]; intros; omega)) _ rfl | exact fin (some b) (by rw [cgt, ← hc]; first | (simp [isC, *]; done) | (simp [isC, *]; intros; omega)) _ rfl
        · refine E.aload_n C dX2_countingOf_25 rfl ?_
          refine E.getf C dX2_countingOf_26 hM.cell rfl 18 q2050 (by decide) rfl rfl ?_
          refine E.iload C dX2_countingOf_29 rfl ?_
          refine E.iald C dX2_countingOf_31 hM.a18 (nI_in (by omega) (by omega)) (congrArg (fun k => nI (σ.1 9 k)) (nI_clamp (by omega))) ?_
          refine E.iload_n C dX2_countingOf_32 rfl ?_
          refine E.icmpN_ne C dX2_countingOf_33 (tgt := 51) (by decide) (by omega) (by omega) (fun c33 => ?_) (fun c33 => ?_)
          · refine E.iconst C dX2_countingOf_51 (v := nI 0) (by decide) ?_
            refine E.istore C dX2_countingOf_52 (kn_ _ (by decide)) ?_
            refine E.iload C dX2_countingOf_54 rfl ?_
            refine E.if_eq C dX2_countingOf_56 (tgt := 85) (by decide) (fun cz => ?_) (fun c => absurd c (by decide))
            clear cz
            refine E.iload_n C dX2_countingOf_85 rfl ?_
            refine E.istore_n C dX2_countingOf_86 (kn_ _ (by decide)) ?_
            refine E.iincN C dX2_countingOf_87 rfl (kn_ _ (by decide)) ?_
            refine E.goto C dX2_countingOf_90 (tgt := 5) (by decide) ?_
            first | exact fin (some k) (by rw [cgt, ← hc]; first | (simp [isC, *]; done) | (simp [isC, *]; intros; omega)) _ rfl | exact fin (some b) (by rw [cgt, ← hc]; first | (simp [isC, *]; done) | (simp [isC, *]; intros; omega)) _ rfl
          · refine E.aload_n C dX2_countingOf_36 rfl ?_
            refine E.getf C dX2_countingOf_37 hM.cell rfl 19 q2051 (by decide) rfl rfl ?_
            refine E.iload C dX2_countingOf_40 rfl ?_
            refine E.iald C dX2_countingOf_42 hM.a19 (nI_in (by omega) (by omega)) (congrArg (fun k => nI (σ.1 10 k)) (nI_clamp (by omega))) ?_
            refine E.iload_n C dX2_countingOf_43 rfl ?_
            refine E.icmpN_ne C dX2_countingOf_44 (tgt := 51) (by decide) (by omega) (by omega) (fun c44 => ?_) (fun c44 => ?_)
            · refine E.iconst C dX2_countingOf_51 (v := nI 0) (by decide) ?_
              refine E.istore C dX2_countingOf_52 (kn_ _ (by decide)) ?_
              refine E.iload C dX2_countingOf_54 rfl ?_
              refine E.if_eq C dX2_countingOf_56 (tgt := 85) (by decide) (fun cz => ?_) (fun c => absurd c (by decide))
              clear cz
              refine E.iload_n C dX2_countingOf_85 rfl ?_
              refine E.istore_n C dX2_countingOf_86 (kn_ _ (by decide)) ?_
              refine E.iincN C dX2_countingOf_87 rfl (kn_ _ (by decide)) ?_
              refine E.goto C dX2_countingOf_90 (tgt := 5) (by decide) ?_
              first | exact fin (some k) (by rw [cgt, ← hc]; first | (simp [isC, *]; done) | (simp [isC, *]; intros; omega)) _ rfl | exact fin (some b) (by rw [cgt, ← hc]; first | (simp [isC, *]; done) | (simp [isC, *]; intros; omega)) _ rfl
            · refine E.iconst C dX2_countingOf_47 (v := nI 1) (by decide) ?_
              refine E.goto C dX2_countingOf_48 (tgt := 52) (by decide) ?_
              refine E.istore C dX2_countingOf_52 (kn_ _ (by decide)) ?_
              refine E.iload C dX2_countingOf_54 rfl ?_
              refine E.if_eq C dX2_countingOf_56 (tgt := 85) (by decide) (fun c => absurd c (by decide)) (fun cz => ?_)
              clear cz
              refine E.iload_n C dX2_countingOf_59 rfl ?_
              refine E.iconst C dX2_countingOf_60 (v := (-1)) (by decide) ?_
              refine E.icmp_eq C dX2_countingOf_61 (tgt := 80) (by decide) (fun c => absurd c (nI_m1 (by omega))) (fun _ => ?_)
              refine E.aload_n C dX2_countingOf_64 rfl ?_
              refine E.getf C dX2_countingOf_65 hM.cell rfl 25 q2057 (by decide) rfl rfl ?_
              refine E.iload C dX2_countingOf_68 rfl ?_
              refine E.iald C dX2_countingOf_70 hM.a25 (nI_in (by omega) (by omega)) (congrArg (fun k => nI (σ.1 14 k)) (nI_clamp (by omega))) ?_
              refine E.aload_n C dX2_countingOf_71 rfl ?_
              refine E.getf C dX2_countingOf_72 hM.cell rfl 25 q2057 (by decide) rfl rfl ?_
              refine E.iload_n C dX2_countingOf_75 rfl ?_
              refine E.iald C dX2_countingOf_76 hM.a25 (nI_in (by omega) (by omega)) (congrArg (fun k => nI (σ.1 14 k)) (nI_clamp (by omega))) ?_
              refine E.icmpN_le C dX2_countingOf_77 (tgt := 85) (by decide) (by omega) (by omega) (fun c77 => ?_) (fun c77 => ?_)
              · refine E.iload_n C dX2_countingOf_85 rfl ?_
                refine E.istore_n C dX2_countingOf_86 (kn_ _ (by decide)) ?_
                refine E.iincN C dX2_countingOf_87 rfl (kn_ _ (by decide)) ?_
                refine E.goto C dX2_countingOf_90 (tgt := 5) (by decide) ?_
                first | exact fin (some k) (by rw [cgt, ← hc]; first | (simp [isC, *]; done) | (simp [isC, *]; intros; omega)) _ rfl | exact fin (some b) (by rw [cgt, ← hc]; first | (simp [isC, *]; done) | (simp [isC, *]; intros; omega)) _ rfl
              · refine E.iload C dX2_countingOf_80 rfl ?_
                refine E.goto C dX2_countingOf_82 (tgt := 86) (by decide) ?_
                refine E.istore_n C dX2_countingOf_86 (kn_ _ (by decide)) ?_
                refine E.iincN C dX2_countingOf_87 rfl (kn_ _ (by decide)) ?_
                refine E.goto C dX2_countingOf_90 (tgt := 5) (by decide) ?_
                first | exact fin (some k) (by rw [cgt, ← hc]; first | (simp [isC, *]; done) | (simp [isC, *]; intros; omega)) _ rfl | exact fin (some b) (by rw [cgt, ← hc]; first | (simp [isC, *]; done) | (simp [isC, *]; intros; omega)) _ rfl
  refine E.iconst C dX2_countingOf_0 (v := (-1)) (by decide) ?_
  refine E.istore_n C dX2_countingOf_1 (kn_ _ (by decide)) ?_
  refine E.iconst C dX2_countingOf_2 (v := nI 0) (by decide) ?_
  refine E.istore C dX2_countingOf_3 (kn_ _ (by decide)) ?_
  exact lp (σ.1 3 0) 0 none _ (by omega) rfl rfl
end M3
