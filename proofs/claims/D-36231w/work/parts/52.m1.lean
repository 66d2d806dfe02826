/-! the reference's methods: small ones -/
set_option maxRecDepth 100000
theorem MP.rv {G : gG} {h : gH} {m : Nat} {ad : Nat → Nat} {σ : Sg} (hM : MP G h m ad σ) : gRv h m RX2 := gRv.of (ci := 1) hM.1 (by decide)
section M1
variable {G : gG} {h : gH} {m : Nat} {ad : Nat → Nat} {σ : Sg}
theorem m_X2_in {x lo hi : Int32} : gMet 1 yX2_in cX2_in 3 (some .boolean) G h [.int x, .int lo, .int hi] (fun v u => (v = some (.int (nI 1)) ∧ bt x lo hi = true ∧ u = h) ∨ (v = some (.int (nI 0)) ∧ bt x lo hi = false ∧ u = h)) gNo 0 := by
  refine gMet.of (by decide) (Nat.le_of_ble_eq_true rfl) (fun K C N hG hn hin => ?_)
  subst hG
  have kn_ : ∀ j : Nat, j < 3 → j < kn K := fun j hj => by rw [hn]; exact hj
  refine E.iload_n C dX2_in_0 rfl ?_
  refine E.iload_n C dX2_in_1 rfl ?_
  refine E.icmp_lt C dX2_in_2 (tgt := 14) (by decide) (fun c2 => ?_) (fun c2 => ?_)
  · refine E.iconst C dX2_in_14 (v := nI 0) (by decide) ?_
    refine E.endZ C N dX2_in_15 (by first | rfl | assumption) (by omega) ?_
    first | exact Or.inl ⟨rfl, bt_t (Int32.not_lt.mp c2) (Int32.not_lt.mp c7), rfl⟩ | exact Or.inr ⟨rfl, bt_f1 (Int32.not_le.mpr c2), rfl⟩ | exact Or.inr ⟨rfl, bt_f2 (Int32.not_le.mpr c7), rfl⟩
  · refine E.iload_n C dX2_in_5 rfl ?_
    refine E.iload_n C dX2_in_6 rfl ?_
    refine E.icmp_gt C dX2_in_7 (tgt := 14) (by decide) (fun c7 => ?_) (fun c7 => ?_)
    · refine E.iconst C dX2_in_14 (v := nI 0) (by decide) ?_
      refine E.endZ C N dX2_in_15 (by first | rfl | assumption) (by omega) ?_
      first | exact Or.inl ⟨rfl, bt_t (Int32.not_lt.mp c2) (Int32.not_lt.mp c7), rfl⟩ | exact Or.inr ⟨rfl, bt_f1 (Int32.not_le.mpr c2), rfl⟩ | exact Or.inr ⟨rfl, bt_f2 (Int32.not_le.mpr c7), rfl⟩
    · refine E.iconst C dX2_in_10 (v := nI 1) (by decide) ?_
      refine E.goto C dX2_in_11 (tgt := 15) (by decide) ?_
      refine E.endZ C N dX2_in_15 (by first | rfl | assumption) (by omega) ?_
      first | exact Or.inl ⟨rfl, bt_t (Int32.not_lt.mp c2) (Int32.not_lt.mp c7), rfl⟩ | exact Or.inr ⟨rfl, bt_f1 (Int32.not_le.mpr c2), rfl⟩ | exact Or.inr ⟨rfl, bt_f2 (Int32.not_le.mpr c7), rfl⟩
theorem m_X2_fails (hM : MP G h m ad σ) {x : Int32} : gMet 1 yX2_fails cX2_fails 2 (some .int) G h [.ref m, .int x] (MR G h m ad (oF σ x)) gNo 0 := by
  refine gMet.of (by decide) (Nat.le_of_ble_eq_true rfl) (fun K C N hG hn hin => ?_)
  subst hG
  have kn_ : ∀ j : Nat, j < 2 → j < kn K := fun j hj => by rw [hn]; exact hj
  have hg : gfr 1 h h := gfr.rf
  refine E.aload_n C dX2_fails_0 rfl ?_
  refine E.iload_n C dX2_fails_1 rfl ?_
  refine E.mputI9 C hM dX2_fails_2 q2041 ?_
  intro u hM g9
  replace hg := hg.tr g9
  refine E.iconst C dX2_fails_5 (v := nI 0) (by decide) ?_
  refine E.endI C N dX2_fails_6 (by omega) ?_
  exact ⟨rfl, hM, hg⟩
theorem m_X2_tells (hM : MP G h m ad σ) {x : Int32} : gMet 1 yX2_tells cX2_tells 2 (some .int) G h [.ref m, .int x] (MR G h m ad (oT σ x)) gNo 0 := by
  refine gMet.of (by decide) (Nat.le_of_ble_eq_true rfl) (fun K C N hG hn hin => ?_)
  subst hG
  have kn_ : ∀ j : Nat, j < 2 → j < kn K := fun j hj => by rw [hn]; exact hj
  have hg : gfr 1 h h := gfr.rf
  refine E.aload_n C dX2_tells_0 rfl ?_
  refine E.iconst C dX2_tells_1 (v := nI 0) (by decide) ?_
  refine E.mputI9 C hM dX2_tells_2 q2041 ?_
  intro u hM g9
  replace hg := hg.tr g9
  refine E.iload_n C dX2_tells_5 rfl ?_
  refine E.endI C N dX2_tells_6 (by omega) ?_
  exact ⟨rfl, hM, hg⟩
theorem m_X2_thrown (hM : MP G h m ad σ) : gMet 1 yX2_thrown cX2_thrown 1 (some .int) G h [.ref m] (fun v u => v = some (.int (σ.2 14 0)) ∧ u = h) gNo 0 := by
  refine gMet.of (by decide) (Nat.le_of_ble_eq_true rfl) (fun K C N hG hn hin => ?_)
  subst hG
  have kn_ : ∀ j : Nat, j < 1 → j < kn K := fun j hj => by rw [hn]; exact hj
  refine E.aload_n C dX2_thrown_0 rfl ?_
  refine E.getf C dX2_thrown_1 hM.cell rfl 9 q2041 (by decide) rfl rfl ?_
  refine E.endI C N dX2_thrown_4 (by omega) ?_
  exact ⟨rfl, rfl⟩
theorem m_X2_greater {x y : Int32} : gMet 1 yX2_greater cX2_greater 2 (some .int) G h [.int x, .int y] (fun v u => v = some (.int (mgr x y)) ∧ u = h) gNo 0 := by
  refine gMet.of (by decide) (Nat.le_of_ble_eq_true rfl) (fun K C N hG hn hin => ?_)
  subst hG
  have kn_ : ∀ j : Nat, j < 2 → j < kn K := fun j hj => by rw [hn]; exact hj
  refine E.iload_n C dX2_greater_0 rfl ?_
  refine E.iload_n C dX2_greater_1 rfl ?_
  refine E.icmp_le C dX2_greater_2 (tgt := 9) (by decide) (fun c2 => ?_) (fun c2 => ?_)
  · refine E.iload_n C dX2_greater_9 rfl ?_
    refine E.endI C N dX2_greater_10 (by omega) ?_
    first | exact ⟨by rw [mgr, if_pos (Int32.not_le.mp c2)], rfl⟩ | exact ⟨by rw [mgr, if_neg (Int32.not_lt.mpr c2)], rfl⟩
  · refine E.iload_n C dX2_greater_5 rfl ?_
    refine E.goto C dX2_greater_6 (tgt := 10) (by decide) ?_
    refine E.endI C N dX2_greater_10 (by omega) ?_
    first | exact ⟨by rw [mgr, if_pos (Int32.not_le.mp c2)], rfl⟩ | exact ⟨by rw [mgr, if_neg (Int32.not_lt.mpr c2)], rfl⟩
theorem m_X2_lesser {x y : Int32} : gMet 1 yX2_lesser cX2_lesser 2 (some .int) G h [.int x, .int y] (fun v u => v = some (.int (mle x y)) ∧ u = h) gNo 0 := by
  refine gMet.of (by decide) (Nat.le_of_ble_eq_true rfl) (fun K C N hG hn hin => ?_)
  subst hG
  have kn_ : ∀ j : Nat, j < 2 → j < kn K := fun j hj => by rw [hn]; exact hj
  refine E.iload_n C dX2_lesser_0 rfl ?_
  refine E.iload_n C dX2_lesser_1 rfl ?_
  refine E.icmp_ge C dX2_lesser_2 (tgt := 9) (by decide) (fun c2 => ?_) (fun c2 => ?_)
  · refine E.iload_n C dX2_lesser_9 rfl ?_
    refine E.endI C N dX2_lesser_10 (by omega) ?_
    first | exact ⟨by rw [mle, if_pos (Int32.not_le.mp c2)], rfl⟩ | exact ⟨by rw [mle, if_neg (Int32.not_lt.mpr c2)], rfl⟩
  · refine E.iload_n C dX2_lesser_5 rfl ?_
    refine E.goto C dX2_lesser_6 (tgt := 10) (by decide) ?_
    refine E.endI C N dX2_lesser_10 (by omega) ?_
    first | exact ⟨by rw [mle, if_pos (Int32.not_le.mp c2)], rfl⟩ | exact ⟨by rw [mle, if_neg (Int32.not_lt.mpr c2)], rfl⟩
theorem m_X2_turned {x : Int32} : gMet 1 yX2_turned cX2_turned 1 (some .int) G h [.int x] (fun v u => v = some (.int (trn x)) ∧ u = h) gNo 0 := by
  refine gMet.of (by decide) (Nat.le_of_ble_eq_true rfl) (fun K C N hG hn hin => ?_)
  subst hG
  have kn_ : ∀ j : Nat, j < 1 → j < kn K := fun j hj => by rw [hn]; exact hj
  refine E.iload_n C dX2_turned_0 rfl ?_
  refine E.iconst C dX2_turned_1 (v := nI 5) (by decide) ?_
  refine E.ishl C dX2_turned_2 ?_
  refine E.iload_n C dX2_turned_3 rfl ?_
  refine E.bipush C dX2_turned_4 (v := nI 27) (by decide) ?_
  refine E.iushr C dX2_turned_6 ?_
  refine E.ior C dX2_turned_7 ?_
  refine E.endI C N dX2_turned_8 (by omega) ?_
  exact ⟨rfl, rfl⟩
theorem m_X2_charsOf {x : Int32} : gMet 1 yX2_charsOf cX2_charsOf 1 (some .int) G h [.int x] (fun v u => v = some (.int (nI (mcs x))) ∧ u = h) gNo 0 := by
  refine gMet.of (by decide) (Nat.le_of_ble_eq_true rfl) (fun K C N hG hn hin => ?_)
  subst hG
  have kn_ : ∀ j : Nat, j < 1 → j < kn K := fun j hj => by rw [hn]; exact hj
  refine E.iload_n C dX2_charsOf_0 rfl ?_
  refine E.ldc C dX2_charsOf_1 q2199 ?_
  refine E.ri (show _ = nI 65535 from rfl) ?_
  refine E.icmp_le C dX2_charsOf_3 (tgt := 10) (by decide) (fun c3 => ?_) (fun c3 => ?_)
  · refine E.iconst C dX2_charsOf_10 (v := nI 1) (by decide) ?_
    refine E.endI C N dX2_charsOf_11 (by omega) ?_
    first | exact ⟨by rw [mcs, if_pos c3], rfl⟩ | exact ⟨by rw [mcs, if_neg c3], rfl⟩
  · refine E.iconst C dX2_charsOf_6 (v := nI 2) (by decide) ?_
    refine E.goto C dX2_charsOf_7 (tgt := 11) (by decide) ?_
    refine E.endI C N dX2_charsOf_11 (by omega) ?_
    first | exact ⟨by rw [mcs, if_pos c3], rfl⟩ | exact ⟨by rw [mcs, if_neg c3], rfl⟩
theorem m_X2_charOf {x w : Int32} : gMet 1 yX2_charOf cX2_charOf 3 (some .int) G h [.int x, .int w] (fun v u => v = some (.int (mco x w)) ∧ u = h) gNo 0 := by
  refine gMet.of (by decide) (Nat.le_of_ble_eq_true rfl) (fun K C N hG hn hin => ?_)
  subst hG
  have kn_ : ∀ j : Nat, j < 3 → j < kn K := fun j hj => by rw [hn]; exact hj
  refine E.iload_n C dX2_charOf_0 rfl ?_
  refine E.ldc C dX2_charOf_1 q2199 ?_
  refine E.ri (show _ = nI 65535 from rfl) ?_
  refine E.icmp_gt C dX2_charOf_3 (tgt := 8) (by decide) (fun c3 => ?_) (fun c3 => ?_)
  · refine E.iload_n C dX2_charOf_8 rfl ?_
    refine E.ldc C dX2_charOf_9 q2215 ?_
    refine E.ri (show _ = nI 65536 from rfl) ?_
    refine E.isub C dX2_charOf_11 ?_
    refine E.istore_n C dX2_charOf_12 (kn_ _ (by decide)) ?_
    refine E.iload_n C dX2_charOf_13 rfl ?_
    refine E.if_ne C dX2_charOf_14 (tgt := 28) (by decide) (fun c14 => ?_) (fun c14 => ?_)
    · refine E.ldc C dX2_charOf_28 q2217 ?_
      refine E.ri (show _ = nI 56320 from rfl) ?_
      refine E.iload_n C dX2_charOf_30 rfl ?_
      refine E.sipush C dX2_charOf_31 (v := nI 1024) (by decide) ?_
      refine E.irem C dX2_charOf_34 (by decide) ?_
      refine E.iadd C dX2_charOf_35 ?_
      refine E.endI C N dX2_charOf_36 (by omega) ?_
      first | exact ⟨by rw [mco, if_pos (Int32.not_lt.mp c3)], rfl⟩ | exact ⟨by rw [mco, if_neg (Int32.not_le.mpr c3), if_pos c14], rfl⟩ | exact ⟨by rw [mco, if_neg (Int32.not_le.mpr c3), if_neg c14], rfl⟩
    · refine E.ldc C dX2_charOf_17 q2216 ?_
      refine E.ri (show _ = nI 55296 from rfl) ?_
      refine E.iload_n C dX2_charOf_19 rfl ?_
      refine E.sipush C dX2_charOf_20 (v := nI 1024) (by decide) ?_
      refine E.idiv C dX2_charOf_23 (by decide) ?_
      refine E.iadd C dX2_charOf_24 ?_
      refine E.goto C dX2_charOf_25 (tgt := 36) (by decide) ?_
      refine E.endI C N dX2_charOf_36 (by omega) ?_
      first | exact ⟨by rw [mco, if_pos (Int32.not_lt.mp c3)], rfl⟩ | exact ⟨by rw [mco, if_neg (Int32.not_le.mpr c3), if_pos c14], rfl⟩ | exact ⟨by rw [mco, if_neg (Int32.not_le.mpr c3), if_neg c14], rfl⟩
  · refine E.iload_n C dX2_charOf_6 rfl ?_
    refine E.endI C N dX2_charOf_7 (by omega) ?_
    first | exact ⟨by rw [mco, if_pos (Int32.not_lt.mp c3)], rfl⟩ | exact ⟨by rw [mco, if_neg (Int32.not_le.mpr c3), if_pos c14], rfl⟩ | exact ⟨by rw [mco, if_neg (Int32.not_le.mpr c3), if_neg c14], rfl⟩
theorem m_X2_isSign {x : Int32} : gMet 2 yX2_isSign cX2_isSign 1 (some .boolean) G h [.int x] (fun v u => (v = some (.int (nI 1)) ∧ sgn x = true ∧ u = h) ∨ (v = some (.int (nI 0)) ∧ sgn x = false ∧ u = h)) gNo 0 := by
  refine gMet.of (by decide) (Nat.le_of_ble_eq_true rfl) (fun K C N hG hn hin => ?_)
  subst hG
  have kn_ : ∀ j : Nat, j < 1 → j < kn K := fun j hj => by rw [hn]; exact hj
  refine E.iload_n C dX2_isSign_0 rfl ?_
  refine E.bipush C dX2_isSign_1 (v := nI 97) (by decide) ?_
  refine E.bipush C dX2_isSign_3 (v := nI 122) (by decide) ?_
  refine E.callS C (m_X2_in) dX2_isSign_5 q2146 q2147 q76 q2148 mh_X2_in (by decide) (by decide) rfl (Nat.le_of_ble_eq_true rfl) (by omega) (fun _ _ hx => hx.elim) ?_
  rintro v u (⟨rfl, q5, rfl⟩ | ⟨rfl, q5, rfl⟩)
  · refine E.if_ne C dX2_isSign_8 (tgt := 28) (by decide) (fun cz => ?_) (fun c => absurd c (by decide))
    clear cz
    refine E.iconst C dX2_isSign_28 (v := nI 1) (by decide) ?_
    refine E.goto C dX2_isSign_29 (tgt := 33) (by decide) ?_
    refine E.endZ C N dX2_isSign_33 (by first | rfl | assumption) (by omega) ?_
    simp [sgn, *] <;> rfl
  · refine E.if_ne C dX2_isSign_8 (tgt := 28) (by decide) (fun c => absurd c (by decide)) (fun cz => ?_)
    clear cz
    refine E.iload_n C dX2_isSign_11 rfl ?_
    refine E.bipush C dX2_isSign_12 (v := nI 32) (by decide) ?_
    refine E.icmp_eq C dX2_isSign_14 (tgt := 28) (by decide) (fun c14 => ?_) (fun c14 => ?_)
    · refine E.iconst C dX2_isSign_28 (v := nI 1) (by decide) ?_
      refine E.goto C dX2_isSign_29 (tgt := 33) (by decide) ?_
      refine E.endZ C N dX2_isSign_33 (by first | rfl | assumption) (by omega) ?_
      simp [sgn, *] <;> rfl
    · refine E.iload_n C dX2_isSign_17 rfl ?_
      refine E.ldc C dX2_isSign_18 q2186 ?_
      refine E.ri (show _ = nI 128512 from rfl) ?_
      refine E.ldc C dX2_isSign_20 q2187 ?_
      refine E.ri (show _ = nI 128591 from rfl) ?_
      refine E.callS C (m_X2_in) dX2_isSign_22 q2146 q2147 q76 q2148 mh_X2_in (by decide) (by decide) rfl (Nat.le_of_ble_eq_true rfl) (by omega) (fun _ _ hx => hx.elim) ?_
      rintro v u (⟨rfl, q22, rfl⟩ | ⟨rfl, q22, rfl⟩)
      · refine E.if_eq C dX2_isSign_25 (tgt := 32) (by decide) (fun c => absurd c (by decide)) (fun cz => ?_)
        clear cz
        refine E.iconst C dX2_isSign_28 (v := nI 1) (by decide) ?_
        refine E.goto C dX2_isSign_29 (tgt := 33) (by decide) ?_
        refine E.endZ C N dX2_isSign_33 (by first | rfl | assumption) (by omega) ?_
        simp [sgn, *] <;> rfl
      · refine E.if_eq C dX2_isSign_25 (tgt := 32) (by decide) (fun cz => ?_) (fun c => absurd c (by decide))
        clear cz
        refine E.iconst C dX2_isSign_32 (v := nI 0) (by decide) ?_
        refine E.endZ C N dX2_isSign_33 (by first | rfl | assumption) (by omega) ?_
        simp [sgn, *] <;> rfl
theorem m_X2_isClass (hM : MP G h m ad σ) (hb : σ.1 0 0 ≤ 4) {x : Int32} : gMet 2 yX2_isClass cX2_isClass 2 (some .boolean) G h [.ref m, .int x] (fun v u => (v = some (.int (nI 1)) ∧ bt x (nI 0) (nI (σ.1 0 0) - nI 1) = true ∧ (∃ i, i < σ.1 0 0 ∧ x = nI i) ∧ u = h) ∨ (v = some (.int (nI 0)) ∧ bt x (nI 0) (nI (σ.1 0 0) - nI 1) = false ∧ u = h)) gNo 0 := by
  refine gMet.of (by decide) (Nat.le_of_ble_eq_true rfl) (fun K C N hG hn hin => ?_)
  subst hG
  have kn_ : ∀ j : Nat, j < 2 → j < kn K := fun j hj => by rw [hn]; exact hj
  refine E.iload_n C dX2_isClass_0 rfl ?_
  refine E.iconst C dX2_isClass_1 (v := nI 0) (by decide) ?_
  refine E.aload_n C dX2_isClass_2 rfl ?_
  refine E.getf C dX2_isClass_3 hM.cell rfl 1 q2033 (by decide) rfl rfl ?_
  refine E.iconst C dX2_isClass_6 (v := nI 1) (by decide) ?_
  refine E.isub C dX2_isClass_7 ?_
  refine E.callS C (m_X2_in) dX2_isClass_8 q2146 q2147 q76 q2148 mh_X2_in (by decide) (by decide) rfl (Nat.le_of_ble_eq_true rfl) (by omega) (fun _ _ hx => hx.elim) ?_
  rintro v u (⟨rfl, q8, rfl⟩ | ⟨rfl, q8, rfl⟩)
  · refine E.endZ C N dX2_isClass_11 (by first | rfl | assumption) (by omega) ?_
    first | exact Or.inl ⟨rfl, q8, bt_ix (by omega) q8, rfl⟩ | exact Or.inr ⟨rfl, q8, rfl⟩
  · refine E.endZ C N dX2_isClass_11 (by first | rfl | assumption) (by omega) ?_
    first | exact Or.inl ⟨rfl, q8, bt_ix (by omega) q8, rfl⟩ | exact Or.inr ⟨rfl, q8, rfl⟩
theorem m_X2_isPupil (hM : MP G h m ad σ) (hb : σ.1 1 0 ≤ 12) {x : Int32} : gMet 2 yX2_isPupil cX2_isPupil 2 (some .boolean) G h [.ref m, .int x] (fun v u => (v = some (.int (nI 1)) ∧ bt x (nI 0) (nI (σ.1 1 0) - nI 1) = true ∧ (∃ i, i < σ.1 1 0 ∧ x = nI i) ∧ u = h) ∨ (v = some (.int (nI 0)) ∧ bt x (nI 0) (nI (σ.1 1 0) - nI 1) = false ∧ u = h)) gNo 0 := by
  refine gMet.of (by decide) (Nat.le_of_ble_eq_true rfl) (fun K C N hG hn hin => ?_)
  subst hG
  have kn_ : ∀ j : Nat, j < 2 → j < kn K := fun j hj => by rw [hn]; exact hj
  refine E.iload_n C dX2_isPupil_0 rfl ?_
  refine E.iconst C dX2_isPupil_1 (v := nI 0) (by decide) ?_
  refine E.aload_n C dX2_isPupil_2 rfl ?_
  refine E.getf C dX2_isPupil_3 hM.cell rfl 2 q2034 (by decide) rfl rfl ?_
  refine E.iconst C dX2_isPupil_6 (v := nI 1) (by decide) ?_
  refine E.isub C dX2_isPupil_7 ?_
  refine E.callS C (m_X2_in) dX2_isPupil_8 q2146 q2147 q76 q2148 mh_X2_in (by decide) (by decide) rfl (Nat.le_of_ble_eq_true rfl) (by omega) (fun _ _ hx => hx.elim) ?_
  rintro v u (⟨rfl, q8, rfl⟩ | ⟨rfl, q8, rfl⟩)
  · refine E.endZ C N dX2_isPupil_11 (by first | rfl | assumption) (by omega) ?_
    first | exact Or.inl ⟨rfl, q8, bt_ix (by omega) q8, rfl⟩ | exact Or.inr ⟨rfl, q8, rfl⟩
  · refine E.endZ C N dX2_isPupil_11 (by first | rfl | assumption) (by omega) ?_
    first | exact Or.inl ⟨rfl, q8, bt_ix (by omega) q8, rfl⟩ | exact Or.inr ⟨rfl, q8, rfl⟩
theorem m_X2_isTask (hM : MP G h m ad σ) (hb : σ.1 2 0 ≤ 10) {x : Int32} : gMet 2 yX2_isTask cX2_isTask 2 (some .boolean) G h [.ref m, .int x] (fun v u => (v = some (.int (nI 1)) ∧ bt x (nI 0) (nI (σ.1 2 0) - nI 1) = true ∧ (∃ i, i < σ.1 2 0 ∧ x = nI i) ∧ u = h) ∨ (v = some (.int (nI 0)) ∧ bt x (nI 0) (nI (σ.1 2 0) - nI 1) = false ∧ u = h)) gNo 0 := by
  refine gMet.of (by decide) (Nat.le_of_ble_eq_true rfl) (fun K C N hG hn hin => ?_)
  subst hG
  have kn_ : ∀ j : Nat, j < 2 → j < kn K := fun j hj => by rw [hn]; exact hj
  refine E.iload_n C dX2_isTask_0 rfl ?_
  refine E.iconst C dX2_isTask_1 (v := nI 0) (by decide) ?_
  refine E.aload_n C dX2_isTask_2 rfl ?_
  refine E.getf C dX2_isTask_3 hM.cell rfl 3 q2035 (by decide) rfl rfl ?_
  refine E.iconst C dX2_isTask_6 (v := nI 1) (by decide) ?_
  refine E.isub C dX2_isTask_7 ?_
  refine E.callS C (m_X2_in) dX2_isTask_8 q2146 q2147 q76 q2148 mh_X2_in (by decide) (by decide) rfl (Nat.le_of_ble_eq_true rfl) (by omega) (fun _ _ hx => hx.elim) ?_
  rintro v u (⟨rfl, q8, rfl⟩ | ⟨rfl, q8, rfl⟩)
  · refine E.endZ C N dX2_isTask_11 (by first | rfl | assumption) (by omega) ?_
    first | exact Or.inl ⟨rfl, q8, bt_ix (by omega) q8, rfl⟩ | exact Or.inr ⟨rfl, q8, rfl⟩
  · refine E.endZ C N dX2_isTask_11 (by first | rfl | assumption) (by omega) ?_
    first | exact Or.inl ⟨rfl, q8, bt_ix (by omega) q8, rfl⟩ | exact Or.inr ⟨rfl, q8, rfl⟩
theorem m_X2_isVersion (hM : MP G h m ad σ) (hb : σ.1 3 0 ≤ 60) {x : Int32} : gMet 2 yX2_isVersion cX2_isVersion 2 (some .boolean) G h [.ref m, .int x] (fun v u => (v = some (.int (nI 1)) ∧ bt x (nI 0) (nI (σ.1 3 0) - nI 1) = true ∧ (∃ i, i < σ.1 3 0 ∧ x = nI i) ∧ u = h) ∨ (v = some (.int (nI 0)) ∧ bt x (nI 0) (nI (σ.1 3 0) - nI 1) = false ∧ u = h)) gNo 0 := by
  refine gMet.of (by decide) (Nat.le_of_ble_eq_true rfl) (fun K C N hG hn hin => ?_)
  subst hG
  have kn_ : ∀ j : Nat, j < 2 → j < kn K := fun j hj => by rw [hn]; exact hj
  refine E.iload_n C dX2_isVersion_0 rfl ?_
  refine E.iconst C dX2_isVersion_1 (v := nI 0) (by decide) ?_
  refine E.aload_n C dX2_isVersion_2 rfl ?_
  refine E.getf C dX2_isVersion_3 hM.cell rfl 4 q2036 (by decide) rfl rfl ?_
  refine E.iconst C dX2_isVersion_6 (v := nI 1) (by decide) ?_
  refine E.isub C dX2_isVersion_7 ?_
  refine E.callS C (m_X2_in) dX2_isVersion_8 q2146 q2147 q76 q2148 mh_X2_in (by decide) (by decide) rfl (Nat.le_of_ble_eq_true rfl) (by omega) (fun _ _ hx => hx.elim) ?_
  rintro v u (⟨rfl, q8, rfl⟩ | ⟨rfl, q8, rfl⟩)
  · refine E.endZ C N dX2_isVersion_11 (by first | rfl | assumption) (by omega) ?_
    first | exact Or.inl ⟨rfl, q8, bt_ix (by omega) q8, rfl⟩ | exact Or.inr ⟨rfl, q8, rfl⟩
  · refine E.endZ C N dX2_isVersion_11 (by first | rfl | assumption) (by omega) ?_
    first | exact Or.inl ⟨rfl, q8, bt_ix (by omega) q8, rfl⟩ | exact Or.inr ⟨rfl, q8, rfl⟩
end M1
