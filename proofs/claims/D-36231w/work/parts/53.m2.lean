/-! the reference's methods without loops -/
set_option maxRecDepth 100000
section M2
variable {G : gG} {h : gH} {m : Nat} {ad : Nat → Nat} {σ : Sg}
theorem m_X2_classroom (hM : MP G h m ad σ) (hW : Wb σ) {p : Int32} : gMet 2 yX2_classroom cX2_classroom 2 (some .int) G h [.ref m, .int p] (MR G h m ad (o_classroom σ p)) gNo 0 := by
  refine gMet.of (by decide) (Nat.le_of_ble_eq_true rfl) (fun K C N hG hn hin => ?_)
  subst hG
  have kn_ : ∀ j : Nat, j < 2 → j < kn K := fun j hj => by rw [hn]; exact hj
  have hg : gfr 1 h h := gfr.rf
  have hW0 := hW
  obtain ⟨b0, b1, b2, b3, b4, b5, b6, b7, b8, b9, b10, b11⟩ := hW
  refine E.iload_n C dX2_classroom_0 rfl ?_
  refine E.sipush C dX2_classroom_1 (v := (-720)) (by decide) ?_
  refine E.sipush C dX2_classroom_4 (v := nI 720) (by decide) ?_
  refine E.callS C (m_X2_in) dX2_classroom_7 q2146 q2147 q76 q2148 mh_X2_in (by decide) (by decide) rfl (Nat.le_of_ble_eq_true rfl) (by omega) (fun _ _ hx => hx.elim) ?_
  rintro v u (⟨rfl, q7, rfl⟩ | ⟨rfl, q7, rfl⟩)
  · refine E.if_ne C dX2_classroom_10 (tgt := 19) (by decide) (fun cz => ?_) (fun c => absurd c (by decide))
    clear cz
    refine E.aload_n C dX2_classroom_19 rfl ?_
    refine E.getf C dX2_classroom_20 hM.cell rfl 1 q2033 (by decide) rfl rfl ?_
    refine E.iconst C dX2_classroom_23 (v := nI 4) (by decide) ?_
    refine E.icmpN_ne C dX2_classroom_24 (tgt := 33) (by decide) (by omega) (by omega) (fun c24 => ?_) (fun c24 => ?_)
    · refine E.aload_n C dX2_classroom_33 rfl ?_
      refine E.getf C dX2_classroom_34 hM.cell rfl 10 q2042 (by decide) rfl rfl ?_
      refine E.aload_n C dX2_classroom_37 rfl ?_
      refine E.getf C dX2_classroom_38 hM.cell rfl 1 q2033 (by decide) rfl rfl ?_
      refine E.iload_n C dX2_classroom_41 rfl ?_
      refine E.mast10 C hM dX2_classroom_42 (by omega) ?_
      intro u hM g9
      replace hg := hg.tr g9
      refine E.aload_n C dX2_classroom_43 rfl ?_
      refine E.dup C dX2_classroom_44 (by first | rfl | assumption) ?_
      refine E.getf C dX2_classroom_45 hM.cell rfl 1 q2033 (by decide) rfl rfl ?_
      refine E.iconst C dX2_classroom_48 (v := nI 1) (by decide) ?_
      refine E.iaddN C dX2_classroom_49 ?_
      refine E.mputN1 C hM dX2_classroom_50 q2033 ?_
      intro u hM g9
      replace hg := hg.tr g9
      refine E.aload_n C dX2_classroom_53 rfl ?_
      refine E.aload_n C dX2_classroom_54 rfl ?_
      refine E.getf C dX2_classroom_55 hM.cell rfl 1 q2033 (by decide) rfl rfl ?_
      refine E.iconst C dX2_classroom_58 (v := nI 1) (by decide) ?_
      refine E.isub C dX2_classroom_59 ?_
      refine E.callV C (m_X2_tells hM) dX2_classroom_60 q2153 q2155 qs33 q76 q2156 mh_X2_tells (by decide) (by decide) hM.rv rfl (Nat.le_of_ble_eq_true rfl) (by omega) (fun _ _ hx => hx.elim) ?_
      rintro v u ⟨rfl, hM, g9⟩
      replace hg := hg.tr g9
      refine E.endI C N dX2_classroom_63 (by omega) ?_
      exact MR.mk (by simp [o_classroom, oF, oT, sN_1, sI_1, nI_s1, *] <;> rfl) hM hg
    · refine E.aload_n C dX2_classroom_27 rfl ?_
      refine E.iconst C dX2_classroom_28 (v := nI 2) (by decide) ?_
      refine E.callV C (m_X2_fails hM) dX2_classroom_29 q2149 q2151 qs32 q76 q2152 mh_X2_fails (by decide) (by decide) hM.rv rfl (Nat.le_of_ble_eq_true rfl) (by omega) (fun _ _ hx => hx.elim) ?_
      rintro v u ⟨rfl, hM, g9⟩
      replace hg := hg.tr g9
      refine E.endI C N dX2_classroom_32 (by omega) ?_
      exact MR.mk (by simp [o_classroom, oF, oT, sN_1, sI_1, nI_s1, *] <;> rfl) hM hg
  · refine E.if_ne C dX2_classroom_10 (tgt := 19) (by decide) (fun c => absurd c (by decide)) (fun cz => ?_)
    clear cz
    refine E.aload_n C dX2_classroom_13 rfl ?_
    refine E.iconst C dX2_classroom_14 (v := nI 1) (by decide) ?_
    refine E.callV C (m_X2_fails hM) dX2_classroom_15 q2149 q2151 qs32 q76 q2152 mh_X2_fails (by decide) (by decide) hM.rv rfl (Nat.le_of_ble_eq_true rfl) (by omega) (fun _ _ hx => hx.elim) ?_
    rintro v u ⟨rfl, hM, g9⟩
    replace hg := hg.tr g9
    refine E.endI C N dX2_classroom_18 (by omega) ?_
    exact MR.mk (by simp [o_classroom, oF, oT, sN_1, sI_1, nI_s1, *] <;> rfl) hM hg
theorem m_X2_pupil (hM : MP G h m ad σ) (hW : Wb σ) {p : Int32} : gMet 3 yX2_pupil cX2_pupil 2 (some .int) G h [.ref m, .int p] (MR G h m ad (o_pupil σ p)) gNo 0 := by
  refine gMet.of (by decide) (Nat.le_of_ble_eq_true rfl) (fun K C N hG hn hin => ?_)
  subst hG
  have kn_ : ∀ j : Nat, j < 2 → j < kn K := fun j hj => by rw [hn]; exact hj
  have hg : gfr 1 h h := gfr.rf
  have hW0 := hW
  obtain ⟨b0, b1, b2, b3, b4, b5, b6, b7, b8, b9, b10, b11⟩ := hW
  refine E.aload_n C dX2_pupil_0 rfl ?_
  refine E.iload_n C dX2_pupil_1 rfl ?_
  refine E.callV C (m_X2_isClass hM b0) dX2_pupil_2 q2161 q2163 qs34 q76 q2164 mh_X2_isClass (by decide) (by decide) hM.rv rfl (Nat.le_of_ble_eq_true rfl) (by omega) (fun _ _ hx => hx.elim) ?_
  rintro v u (⟨rfl, q2, ⟨i2, hi2, rfl⟩, rfl⟩ | ⟨rfl, q2, rfl⟩)
  · have e2 := nI_clamp (show i2 < 2 ^ 31 by omega)
    refine E.if_ne C dX2_pupil_5 (tgt := 14) (by decide) (fun cz => ?_) (fun c => absurd c (by decide))
    clear cz
    refine E.aload_n C dX2_pupil_14 rfl ?_
    refine E.getf C dX2_pupil_15 hM.cell rfl 2 q2034 (by decide) rfl rfl ?_
    refine E.bipush C dX2_pupil_18 (v := nI 12) (by decide) ?_
    refine E.icmpN_ne C dX2_pupil_20 (tgt := 29) (by decide) (by omega) (by omega) (fun c20 => ?_) (fun c20 => ?_)
    · refine E.aload_n C dX2_pupil_29 rfl ?_
      refine E.getf C dX2_pupil_30 hM.cell rfl 11 q2043 (by decide) rfl rfl ?_
      refine E.aload_n C dX2_pupil_33 rfl ?_
      refine E.getf C dX2_pupil_34 hM.cell rfl 2 q2034 (by decide) rfl rfl ?_
      refine E.iload_n C dX2_pupil_37 rfl ?_
      refine E.mast11 C hM dX2_pupil_38 (by omega) ?_
      intro u hM g9
      replace hg := hg.tr g9
      refine E.aload_n C dX2_pupil_39 rfl ?_
      refine E.dup C dX2_pupil_40 (by first | rfl | assumption) ?_
      refine E.getf C dX2_pupil_41 hM.cell rfl 2 q2034 (by decide) rfl rfl ?_
      refine E.iconst C dX2_pupil_44 (v := nI 1) (by decide) ?_
      refine E.iaddN C dX2_pupil_45 ?_
      refine E.mputN2 C hM dX2_pupil_46 q2034 ?_
      intro u hM g9
      replace hg := hg.tr g9
      refine E.aload_n C dX2_pupil_49 rfl ?_
      refine E.aload_n C dX2_pupil_50 rfl ?_
      refine E.getf C dX2_pupil_51 hM.cell rfl 2 q2034 (by decide) rfl rfl ?_
      refine E.iconst C dX2_pupil_54 (v := nI 1) (by decide) ?_
      refine E.isub C dX2_pupil_55 ?_
      refine E.callV C (m_X2_tells hM) dX2_pupil_56 q2153 q2155 qs33 q76 q2156 mh_X2_tells (by decide) (by decide) hM.rv rfl (Nat.le_of_ble_eq_true rfl) (by omega) (fun _ _ hx => hx.elim) ?_
      rintro v u ⟨rfl, hM, g9⟩
      replace hg := hg.tr g9
      refine E.endI C N dX2_pupil_59 (by omega) ?_
      exact MR.mk (by simp [o_pupil, oF, oT, sN_1, sI_1, nI_s1, *] <;> rfl) hM hg
    · refine E.aload_n C dX2_pupil_23 rfl ?_
      refine E.iconst C dX2_pupil_24 (v := nI 2) (by decide) ?_
      refine E.callV C (m_X2_fails hM) dX2_pupil_25 q2149 q2151 qs32 q76 q2152 mh_X2_fails (by decide) (by decide) hM.rv rfl (Nat.le_of_ble_eq_true rfl) (by omega) (fun _ _ hx => hx.elim) ?_
      rintro v u ⟨rfl, hM, g9⟩
      replace hg := hg.tr g9
      refine E.endI C N dX2_pupil_28 (by omega) ?_
      exact MR.mk (by simp [o_pupil, oF, oT, sN_1, sI_1, nI_s1, *] <;> rfl) hM hg
  · refine E.if_ne C dX2_pupil_5 (tgt := 14) (by decide) (fun c => absurd c (by decide)) (fun cz => ?_)
    clear cz
    refine E.aload_n C dX2_pupil_8 rfl ?_
    refine E.iconst C dX2_pupil_9 (v := nI 1) (by decide) ?_
    refine E.callV C (m_X2_fails hM) dX2_pupil_10 q2149 q2151 qs32 q76 q2152 mh_X2_fails (by decide) (by decide) hM.rv rfl (Nat.le_of_ble_eq_true rfl) (by omega) (fun _ _ hx => hx.elim) ?_
    rintro v u ⟨rfl, hM, g9⟩
    replace hg := hg.tr g9
    refine E.endI C N dX2_pupil_13 (by omega) ?_
    exact MR.mk (by simp [o_pupil, oF, oT, sN_1, sI_1, nI_s1, *] <;> rfl) hM hg
theorem m_X2_pass (hM : MP G h m ad σ) (hW : Wb σ) {p : Int32} : gMet 2 yX2_pass cX2_pass 2 (some .int) G h [.ref m, .int p] (MR G h m ad (o_pass σ p)) gNo 0 := by
  refine gMet.of (by decide) (Nat.le_of_ble_eq_true rfl) (fun K C N hG hn hin => ?_)
  subst hG
  have kn_ : ∀ j : Nat, j < 2 → j < kn K := fun j hj => by rw [hn]; exact hj
  have hg : gfr 1 h h := gfr.rf
  have hW0 := hW
  obtain ⟨b0, b1, b2, b3, b4, b5, b6, b7, b8, b9, b10, b11⟩ := hW
  refine E.iload_n C dX2_pass_0 rfl ?_
  refine E.iconst C dX2_pass_1 (v := nI 1) (by decide) ?_
  refine E.ldc C dX2_pass_2 q2174 ?_
  refine E.ri (show _ = nI 100000 from rfl) ?_
  refine E.callS C (m_X2_in) dX2_pass_4 q2146 q2147 q76 q2148 mh_X2_in (by decide) (by decide) rfl (Nat.le_of_ble_eq_true rfl) (by omega) (fun _ _ hx => hx.elim) ?_
  rintro v u (⟨rfl, q4, rfl⟩ | ⟨rfl, q4, rfl⟩)
  · refine E.if_ne C dX2_pass_7 (tgt := 16) (by decide) (fun cz => ?_) (fun c => absurd c (by decide))
    clear cz
    refine E.aload_n C dX2_pass_16 rfl ?_
    refine E.getf C dX2_pass_17 hM.cell rfl 0 q2032 (by decide) rfl rfl ?_
    refine E.iload_n C dX2_pass_20 rfl ?_
    refine E.iadd C dX2_pass_21 ?_
    refine E.ldc C dX2_pass_22 q2169 ?_
    refine E.ri (show _ = nI 1000000 from rfl) ?_
    refine E.icmp_le C dX2_pass_24 (tgt := 33) (by decide) (fun c24 => ?_) (fun c24 => ?_)
    · refine E.aload_n C dX2_pass_33 rfl ?_
      refine E.dup C dX2_pass_34 (by first | rfl | assumption) ?_
      refine E.getf C dX2_pass_35 hM.cell rfl 0 q2032 (by decide) rfl rfl ?_
      refine E.iload_n C dX2_pass_38 rfl ?_
      refine E.iadd C dX2_pass_39 ?_
      refine E.mputI0 C hM dX2_pass_40 q2032 ?_
      intro u hM g9
      replace hg := hg.tr g9
      refine E.aload_n C dX2_pass_43 rfl ?_
      refine E.aload_n C dX2_pass_44 rfl ?_
      refine E.getf C dX2_pass_45 hM.cell rfl 0 q2032 (by decide) rfl rfl ?_
      refine E.callV C (m_X2_tells hM) dX2_pass_48 q2153 q2155 qs33 q76 q2156 mh_X2_tells (by decide) (by decide) hM.rv rfl (Nat.le_of_ble_eq_true rfl) (by omega) (fun _ _ hx => hx.elim) ?_
      rintro v u ⟨rfl, hM, g9⟩
      replace hg := hg.tr g9
      refine E.endI C N dX2_pass_51 (by omega) ?_
      exact MR.mk (by simp [o_pass, oF, oT, sN_1, sI_2, Int32.not_lt.mpr, Int32.not_le.mp, *] <;> rfl) hM hg
    · refine E.aload_n C dX2_pass_27 rfl ?_
      refine E.iconst C dX2_pass_28 (v := nI 2) (by decide) ?_
      refine E.callV C (m_X2_fails hM) dX2_pass_29 q2149 q2151 qs32 q76 q2152 mh_X2_fails (by decide) (by decide) hM.rv rfl (Nat.le_of_ble_eq_true rfl) (by omega) (fun _ _ hx => hx.elim) ?_
      rintro v u ⟨rfl, hM, g9⟩
      replace hg := hg.tr g9
      refine E.endI C N dX2_pass_32 (by omega) ?_
      exact MR.mk (by simp [o_pass, oF, oT, sN_1, sI_2, Int32.not_lt.mpr, Int32.not_le.mp, *] <;> rfl) hM hg
  · refine E.if_ne C dX2_pass_7 (tgt := 16) (by decide) (fun c => absurd c (by decide)) (fun cz => ?_)
    clear cz
    refine E.aload_n C dX2_pass_10 rfl ?_
    refine E.iconst C dX2_pass_11 (v := nI 1) (by decide) ?_
    refine E.callV C (m_X2_fails hM) dX2_pass_12 q2149 q2151 qs32 q76 q2152 mh_X2_fails (by decide) (by decide) hM.rv rfl (Nat.le_of_ble_eq_true rfl) (by omega) (fun _ _ hx => hx.elim) ?_
    rintro v u ⟨rfl, hM, g9⟩
    replace hg := hg.tr g9
    refine E.endI C N dX2_pass_15 (by omega) ?_
    exact MR.mk (by simp [o_pass, oF, oT, sN_1, sI_2, Int32.not_lt.mpr, Int32.not_le.mp, *] <;> rfl) hM hg
theorem m_X2_clock (hM : MP G h m ad σ) (hW : Wb σ) {p : Int32} : gMet 3 yX2_clock cX2_clock 2 (some .int) G h [.ref m, .int p] (MR G h m ad (o_clock σ p)) gNo 0 := by
  refine gMet.of (by decide) (Nat.le_of_ble_eq_true rfl) (fun K C N hG hn hin => ?_)
  subst hG
  have kn_ : ∀ j : Nat, j < 2 → j < kn K := fun j hj => by rw [hn]; exact hj
  have hg : gfr 1 h h := gfr.rf
  have hW0 := hW
  obtain ⟨b0, b1, b2, b3, b4, b5, b6, b7, b8, b9, b10, b11⟩ := hW
  refine E.aload_n C dX2_clock_0 rfl ?_
  refine E.iload_n C dX2_clock_1 rfl ?_
  refine E.callV C (m_X2_isClass hM b0) dX2_clock_2 q2161 q2163 qs34 q76 q2164 mh_X2_isClass (by decide) (by decide) hM.rv rfl (Nat.le_of_ble_eq_true rfl) (by omega) (fun _ _ hx => hx.elim) ?_
  rintro v u (⟨rfl, q2, ⟨i2, hi2, rfl⟩, rfl⟩ | ⟨rfl, q2, rfl⟩)
  · have e2 := nI_clamp (show i2 < 2 ^ 31 by omega)
    refine E.if_eq C dX2_clock_5 (tgt := 26) (by decide) (fun c => absurd c (by decide)) (fun cz => ?_)
    clear cz
    refine E.aload_n C dX2_clock_8 rfl ?_
    refine E.aload_n C dX2_clock_9 rfl ?_
    refine E.getf C dX2_clock_10 hM.cell rfl 0 q2032 (by decide) rfl rfl ?_
    refine E.aload_n C dX2_clock_13 rfl ?_
    refine E.getf C dX2_clock_14 hM.cell rfl 10 q2042 (by decide) rfl rfl ?_
    refine E.iload_n C dX2_clock_17 rfl ?_
    refine E.iald C dX2_clock_18 hM.a10 (nI_in (by omega) (by omega)) (congrArg (σ.2 2) (nI_clamp (by omega))) ?_
    refine E.iadd C dX2_clock_19 ?_
    refine E.callV C (m_X2_tells hM) dX2_clock_20 q2153 q2155 qs33 q76 q2156 mh_X2_tells (by decide) (by decide) hM.rv rfl (Nat.le_of_ble_eq_true rfl) (by omega) (fun _ _ hx => hx.elim) ?_
    rintro v u ⟨rfl, hM, g9⟩
    replace hg := hg.tr g9
    refine E.goto C dX2_clock_23 (tgt := 31) (by decide) ?_
    refine E.endI C N dX2_clock_31 (by omega) ?_
    exact MR.mk (by simp [o_clock, oF, oT, *] <;> rfl) hM hg
  · refine E.if_eq C dX2_clock_5 (tgt := 26) (by decide) (fun cz => ?_) (fun c => absurd c (by decide))
    clear cz
    refine E.aload_n C dX2_clock_26 rfl ?_
    refine E.iconst C dX2_clock_27 (v := nI 1) (by decide) ?_
    refine E.callV C (m_X2_fails hM) dX2_clock_28 q2149 q2151 qs32 q76 q2152 mh_X2_fails (by decide) (by decide) hM.rv rfl (Nat.le_of_ble_eq_true rfl) (by omega) (fun _ _ hx => hx.elim) ?_
    rintro v u ⟨rfl, hM, g9⟩
    replace hg := hg.tr g9
    refine E.endI C N dX2_clock_31 (by omega) ?_
    exact MR.mk (by simp [o_clock, oF, oT, *] <;> rfl) hM hg
theorem m_X2_wipe (hM : MP G h m ad σ) (hW : Wb σ) : gMet 2 yX2_wipe cX2_wipe 2 (some .int) G h [.ref m] (MR G h m ad (o_wipe σ)) gNo 0 := by
  refine gMet.of (by decide) (Nat.le_of_ble_eq_true rfl) (fun K C N hG hn hin => ?_)
  subst hG
  have kn_ : ∀ j : Nat, j < 2 → j < kn K := fun j hj => by rw [hn]; exact hj
  have hg : gfr 1 h h := gfr.rf
  have hW0 := hW
  obtain ⟨b0, b1, b2, b3, b4, b5, b6, b7, b8, b9, b10, b11⟩ := hW
  refine E.aload_n C dX2_wipe_0 rfl ?_
  refine E.getf C dX2_wipe_1 hM.cell rfl 5 q2037 (by decide) rfl rfl ?_
  refine E.istore_n C dX2_wipe_4 (kn_ _ (by decide)) ?_
  refine E.aload_n C dX2_wipe_5 rfl ?_
  refine E.iconst C dX2_wipe_6 (v := nI 0) (by decide) ?_
  refine E.mputN5 C hM dX2_wipe_7 q2037 ?_
  intro u hM g9
  replace hg := hg.tr g9
  refine E.aload_n C dX2_wipe_10 rfl ?_
  refine E.iload_n C dX2_wipe_11 rfl ?_
  refine E.callV C (m_X2_tells hM) dX2_wipe_12 q2153 q2155 qs33 q76 q2156 mh_X2_tells (by decide) (by decide) hM.rv rfl (Nat.le_of_ble_eq_true rfl) (by omega) (fun _ _ hx => hx.elim) ?_
  rintro v u ⟨rfl, hM, g9⟩
  replace hg := hg.tr g9
  refine E.endI C N dX2_wipe_15 (by omega) ?_
  exact MR.mk (by simp [o_wipe, oT, *]) hM hg
theorem m_X2_type (hM : MP G h m ad σ) (hW : Wb σ) {p : Int32} : gMet 3 yX2_type cX2_type 2 (some .int) G h [.ref m, .int p] (MR G h m ad (o_type σ p)) gNo 0 := by
  refine gMet.of (by decide) (Nat.le_of_ble_eq_true rfl) (fun K C N hG hn hin => ?_)
  subst hG
  have kn_ : ∀ j : Nat, j < 2 → j < kn K := fun j hj => by rw [hn]; exact hj
  have hg : gfr 1 h h := gfr.rf
  have hW0 := hW
  obtain ⟨b0, b1, b2, b3, b4, b5, b6, b7, b8, b9, b10, b11⟩ := hW
  refine E.iload_n C dX2_type_0 rfl ?_
  refine E.callS C (m_X2_isSign) dX2_type_1 q2183 q2184 q76 q2185 mh_X2_isSign (by decide) (by decide) rfl (Nat.le_of_ble_eq_true rfl) (by omega) (fun _ _ hx => hx.elim) ?_
  rintro v u (⟨rfl, q1, rfl⟩ | ⟨rfl, q1, rfl⟩)
  · refine E.if_ne C dX2_type_4 (tgt := 13) (by decide) (fun cz => ?_) (fun c => absurd c (by decide))
    clear cz
    refine E.aload_n C dX2_type_13 rfl ?_
    refine E.getf C dX2_type_14 hM.cell rfl 5 q2037 (by decide) rfl rfl ?_
    refine E.bipush C dX2_type_17 (v := nI 40) (by decide) ?_
    refine E.icmpN_ne C dX2_type_19 (tgt := 28) (by decide) (by omega) (by omega) (fun c19 => ?_) (fun c19 => ?_)
    · refine E.aload_n C dX2_type_28 rfl ?_
      refine E.getf C dX2_type_29 hM.cell rfl 17 q2049 (by decide) rfl rfl ?_
      refine E.aload_n C dX2_type_32 rfl ?_
      refine E.getf C dX2_type_33 hM.cell rfl 5 q2037 (by decide) rfl rfl ?_
      refine E.iload_n C dX2_type_36 rfl ?_
      refine E.mast17 C hM dX2_type_37 (by omega) ?_
      intro u hM g9
      replace hg := hg.tr g9
      refine E.aload_n C dX2_type_38 rfl ?_
      refine E.dup C dX2_type_39 (by first | rfl | assumption) ?_
      refine E.getf C dX2_type_40 hM.cell rfl 5 q2037 (by decide) rfl rfl ?_
      refine E.iconst C dX2_type_43 (v := nI 1) (by decide) ?_
      refine E.iaddN C dX2_type_44 ?_
      refine E.mputN5 C hM dX2_type_45 q2037 ?_
      intro u hM g9
      replace hg := hg.tr g9
      refine E.aload_n C dX2_type_48 rfl ?_
      refine E.aload_n C dX2_type_49 rfl ?_
      refine E.getf C dX2_type_50 hM.cell rfl 5 q2037 (by decide) rfl rfl ?_
      refine E.callV C (m_X2_tells hM) dX2_type_53 q2153 q2155 qs33 q76 q2156 mh_X2_tells (by decide) (by decide) hM.rv rfl (Nat.le_of_ble_eq_true rfl) (by omega) (fun _ _ hx => hx.elim) ?_
      rintro v u ⟨rfl, hM, g9⟩
      replace hg := hg.tr g9
      refine E.endI C N dX2_type_56 (by omega) ?_
      exact MR.mk (by simp [o_type, oF, oT, sN_1, sI_1, *] <;> rfl) hM hg
    · refine E.aload_n C dX2_type_22 rfl ?_
      refine E.iconst C dX2_type_23 (v := nI 2) (by decide) ?_
      refine E.callV C (m_X2_fails hM) dX2_type_24 q2149 q2151 qs32 q76 q2152 mh_X2_fails (by decide) (by decide) hM.rv rfl (Nat.le_of_ble_eq_true rfl) (by omega) (fun _ _ hx => hx.elim) ?_
      rintro v u ⟨rfl, hM, g9⟩
      replace hg := hg.tr g9
      refine E.endI C N dX2_type_27 (by omega) ?_
      exact MR.mk (by simp [o_type, oF, oT, sN_1, sI_1, *] <;> rfl) hM hg
  · refine E.if_ne C dX2_type_4 (tgt := 13) (by decide) (fun c => absurd c (by decide)) (fun cz => ?_)
    clear cz
    refine E.aload_n C dX2_type_7 rfl ?_
    refine E.iconst C dX2_type_8 (v := nI 1) (by decide) ?_
    refine E.callV C (m_X2_fails hM) dX2_type_9 q2149 q2151 qs32 q76 q2152 mh_X2_fails (by decide) (by decide) hM.rv rfl (Nat.le_of_ble_eq_true rfl) (by omega) (fun _ _ hx => hx.elim) ?_
    rintro v u ⟨rfl, hM, g9⟩
    replace hg := hg.tr g9
    refine E.endI C N dX2_type_12 (by omega) ?_
    exact MR.mk (by simp [o_type, oF, oT, sN_1, sI_1, *] <;> rfl) hM hg
theorem m_X2_hits (hM : MP G h m ad σ) (hW : Wb σ) : gMet 2 yX2_hits cX2_hits 1 (some .int) G h [.ref m] (MR G h m ad (o_hits σ)) gNo 0 := by
  refine gMet.of (by decide) (Nat.le_of_ble_eq_true rfl) (fun K C N hG hn hin => ?_)
  subst hG
  have kn_ : ∀ j : Nat, j < 1 → j < kn K := fun j hj => by rw [hn]; exact hj
  have hg : gfr 1 h h := gfr.rf
  have hW0 := hW
  obtain ⟨b0, b1, b2, b3, b4, b5, b6, b7, b8, b9, b10, b11⟩ := hW
  refine E.aload_n C dX2_hits_0 rfl ?_
  refine E.aload_n C dX2_hits_1 rfl ?_
  refine E.getf C dX2_hits_2 hM.cell rfl 6 q2038 (by decide) rfl rfl ?_
  refine E.callV C (m_X2_tells hM) dX2_hits_5 q2153 q2155 qs33 q76 q2156 mh_X2_tells (by decide) (by decide) hM.rv rfl (Nat.le_of_ble_eq_true rfl) (by omega) (fun _ _ hx => hx.elim) ?_
  rintro v u ⟨rfl, hM, g9⟩
  replace hg := hg.tr g9
  refine E.endI C N dX2_hits_8 (by omega) ?_
  exact MR.mk rfl hM hg
theorem m_X2_threshold (hM : MP G h m ad σ) (hW : Wb σ) {p : Int32} : gMet 2 yX2_threshold cX2_threshold 3 (some .int) G h [.ref m, .int p] (MR G h m ad (o_threshold σ p)) gNo 0 := by
  refine gMet.of (by decide) (Nat.le_of_ble_eq_true rfl) (fun K C N hG hn hin => ?_)
  subst hG
  have kn_ : ∀ j : Nat, j < 3 → j < kn K := fun j hj => by rw [hn]; exact hj
  have hg : gfr 1 h h := gfr.rf
  have hW0 := hW
  obtain ⟨b0, b1, b2, b3, b4, b5, b6, b7, b8, b9, b10, b11⟩ := hW
  refine E.iload_n C dX2_threshold_0 rfl ?_
  refine E.iconst C dX2_threshold_1 (v := nI 1) (by decide) ?_
  refine E.bipush C dX2_threshold_2 (v := nI 37) (by decide) ?_
  refine E.callS C (m_X2_in) dX2_threshold_4 q2146 q2147 q76 q2148 mh_X2_in (by decide) (by decide) rfl (Nat.le_of_ble_eq_true rfl) (by omega) (fun _ _ hx => hx.elim) ?_
  rintro v u (⟨rfl, q4, rfl⟩ | ⟨rfl, q4, rfl⟩)
  · refine E.if_ne C dX2_threshold_7 (tgt := 16) (by decide) (fun cz => ?_) (fun c => absurd c (by decide))
    clear cz
    refine E.aload_n C dX2_threshold_16 rfl ?_
    refine E.getf C dX2_threshold_17 hM.cell rfl 8 q2040 (by decide) rfl rfl ?_
    refine E.istore_n C dX2_threshold_20 (kn_ _ (by decide)) ?_
    refine E.aload_n C dX2_threshold_21 rfl ?_
    refine E.iload_n C dX2_threshold_22 rfl ?_
    refine E.mputI8 C hM dX2_threshold_23 q2040 ?_
    intro u hM g9
    replace hg := hg.tr g9
    refine E.aload_n C dX2_threshold_26 rfl ?_
    refine E.iload_n C dX2_threshold_27 rfl ?_
    refine E.callV C (m_X2_tells hM) dX2_threshold_28 q2153 q2155 qs33 q76 q2156 mh_X2_tells (by decide) (by decide) hM.rv rfl (Nat.le_of_ble_eq_true rfl) (by omega) (fun _ _ hx => hx.elim) ?_
    rintro v u ⟨rfl, hM, g9⟩
    replace hg := hg.tr g9
    refine E.endI C N dX2_threshold_31 (by omega) ?_
    exact MR.mk (by simp [o_threshold, oF, oT, *] <;> rfl) hM hg
  · refine E.if_ne C dX2_threshold_7 (tgt := 16) (by decide) (fun c => absurd c (by decide)) (fun cz => ?_)
    clear cz
    refine E.aload_n C dX2_threshold_10 rfl ?_
    refine E.iconst C dX2_threshold_11 (v := nI 1) (by decide) ?_
    refine E.callV C (m_X2_fails hM) dX2_threshold_12 q2149 q2151 qs32 q76 q2152 mh_X2_fails (by decide) (by decide) hM.rv rfl (Nat.le_of_ble_eq_true rfl) (by omega) (fun _ _ hx => hx.elim) ?_
    rintro v u ⟨rfl, hM, g9⟩
    replace hg := hg.tr g9
    refine E.endI C N dX2_threshold_15 (by omega) ?_
    exact MR.mk (by simp [o_threshold, oF, oT, *] <;> rfl) hM hg
theorem m_X2_isTrue (hM : MP G h m ad σ) (hW : Wb σ) : gMet 1 yX2_isTrue cX2_isTrue 1 (some .boolean) G h [.ref m] (MR G h m ad ((fun σ => oT σ (nI 1)) σ)) gNo 0 := by
  refine gMet.of (by decide) (Nat.le_of_ble_eq_true rfl) (fun K C N hG hn hin => ?_)
  subst hG
  have kn_ : ∀ j : Nat, j < 1 → j < kn K := fun j hj => by rw [hn]; exact hj
  have hg : gfr 1 h h := gfr.rf
  have hW0 := hW
  obtain ⟨b0, b1, b2, b3, b4, b5, b6, b7, b8, b9, b10, b11⟩ := hW
  refine E.aload_n C dX2_isTrue_0 rfl ?_
  refine E.iconst C dX2_isTrue_1 (v := nI 0) (by decide) ?_
  refine E.mputI9 C hM dX2_isTrue_2 q2041 ?_
  intro u hM g9
  replace hg := hg.tr g9
  refine E.iconst C dX2_isTrue_5 (v := nI 1) (by decide) ?_
  refine E.endZ C N dX2_isTrue_6 (by first | rfl | assumption) (by omega) ?_
  exact MR.mk rfl hM hg
end M2
