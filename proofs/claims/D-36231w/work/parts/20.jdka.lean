/-! JDK, leaves: Integer, Math, Object -/
set_option maxRecDepth 100000
/-- Number(): nothing -/
theorem m_J16_init (G : gG) (h : gH) (a : Nat) : gMet 1 yJ16_init cJ16_init 1 none G h [.ref a] (fun v u => v = none ∧ u = h) gNo 0 := by
  refine gMet.of (by decide) (Nat.le_of_ble_eq_true rfl) (fun K C N hG hn hin => ?_)
  subst hG
  have kn_ : ∀ j : Nat, j < 1 → j < kn K := fun j hj => by rw [hn]; exact hj
  refine E.aload_n C dJ16_init_0 rfl ?_
  refine E.objInit C q692 q108 q109 dJ16_init_1 (by decide) (Nat.le_of_ble_eq_true rfl) ?_
  refine E.endV C N dJ16_init_4 (by omega) ?_
  exact ⟨rfl, rfl⟩
theorem m_J17_init (G : gG) (h : gH) (a t : Nat) (v x : Int32) (ht : t ≠ 0) (ha : h a = some (t, .inr (14, [.int x]))) : gMet 2 yJ17_init cJ17_init 2 none G h [.ref a, .int v] (fun r u => r = none ∧ u = gu h a (t, .inr (14, [.int v]))) gNo 0 := by
  refine gMet.of (by decide) (Nat.le_of_ble_eq_true rfl) (fun K C N hG hn hin => ?_)
  subst hG
  have kn_ : ∀ j : Nat, j < 2 → j < kn K := fun j hj => by rw [hn]; exact hj
  refine E.aload_n C dJ17_init_0 rfl ?_
  refine E.callI C (m_J16_init (kG K) h a) dJ17_init_1 q689 q690 q72 q691 mh_J16_init rfl (by decide) (by decide) rfl (Nat.le_of_ble_eq_true rfl) (by omega) (fun _ _ hx => hx.elim) ?_
  rintro v9 u ⟨rfl, rfl⟩
  refine E.aload_n C dJ17_init_4 rfl ?_
  refine E.iload_n C dJ17_init_5 rfl ?_
  refine E.putF C dJ17_init_6 ha (by first | decide | assumption) rfl 0 q693 hin (by decide) rfl rfl rfl (by first | rfl | exact nar_rf _ _ | assumption) (by first | rfl | exact fit_rf _ _ | assumption) (Nat.le_of_ble_eq_true rfl) ?_
  refine E.endV C N dJ17_init_9 (by omega) ?_
  exact ⟨rfl, rfl⟩
theorem m_J17_valueOf (G : gG) (h : gH) (v : Int32) (hB : gB G h) : gMet 3 yJ17_valueOf cJ17_valueOf 1 (some (.object "java/lang/Integer")) G h [.int v] (fun r u => ∃ y, r = some (.ref y) ∧ u y = some (gbox v) ∧ gle h u) gNo 1 := by
  refine gMet.of (by decide) (Nat.le_of_ble_eq_true rfl) (fun K C N hG hn hin => ?_)
  subst hG
  have kn_ : ∀ j : Nat, j < 1 → j < kn K := fun j hj => by rw [hn]; exact hj
  have hnew : E K 23 [(0, .int v)] [] h 0 := by
    refine E.new C (w := 1) 1 dJ17_valueOf_23 (ci := 14) rfl q684 q685 q73 rfl (by decide) (by decide) (by omega) ?_
    intro a ha hz
    refine E.dup C dJ17_valueOf_26 (by first | rfl | assumption) ?_
    refine E.iload_n C dJ17_valueOf_27 rfl ?_
    refine E.callI C (m_J17_init (kG K) _ a 1 v 0 (by decide) gu_s) dJ17_valueOf_28 q686 q687 q73 q688 mh_J17_init rfl (by decide) (by decide) rfl (Nat.le_of_ble_eq_true rfl) (by omega) (fun _ _ hx => hx.elim) ?_
    rintro v9 u ⟨rfl, rfl⟩
    refine E.box C gu_s (by decide) ?_
    refine E.endA C N dJ17_valueOf_31 (by omega) ?_
    exact ⟨a, rfl, gu_s, by rw [gu_uu, gu_uu]; exact gle.up ha⟩
  refine E.iload_n C dJ17_valueOf_0 rfl ?_
  refine E.bipush C dJ17_valueOf_1 (v := -128) (by decide) ?_
  refine E.icmp_lt C dJ17_valueOf_3 (tgt := 23) (by decide) (fun c1 => ?_) (fun c1 => ?_)
  · exact hnew
  · refine E.iload_n C dJ17_valueOf_6 rfl ?_
    refine E.gets C C.sx.2.2.2.2.2.2.1 q680 rfl dJ17_valueOf_7 ?_
    refine E.icmp_gt C dJ17_valueOf_10 (tgt := 23) (by decide) (fun c2 => ?_) (fun c2 => ?_)
    · exact hnew
    · obtain ⟨t, hZ, hT⟩ := C.sx.2.2.2.2.2.2.2.1
      refine E.gets C hZ q682 rfl dJ17_valueOf_13 ?_
      refine E.iload_n C dJ17_valueOf_16 rfl ?_
      refine E.sipush C dJ17_valueOf_17 (v := 128) (by decide) ?_
      refine E.iadd C dJ17_valueOf_20 ?_
      obtain ⟨j, hj, e1, e2⟩ := bx_small c1 c2
      refine E.ri e1 ?_
      refine E.aaldC C hT dJ17_valueOf_21 (vp_in_nI hj (by decide)) rfl ?_
      refine E.endA C N dJ17_valueOf_22 (by omega) ?_
      rw [nI_clamp (by omega)]
      exact ⟨gad (kG K) j, rfl, by rw [e2]; exact hB j hj, gle.rf⟩
theorem m_J17_intValue (G : gG) (h : gH) (a : Nat) (v : Int32) (ha : h a = some (gbox v)) : gMet 1 yJ17_intValue cJ17_intValue 1 (some .int) G h [.ref a] (fun r u => r = some (.int v) ∧ u = h) gNo 0 := by
  refine gMet.of (by decide) (Nat.le_of_ble_eq_true rfl) (fun K C N hG hn hin => ?_)
  subst hG
  have kn_ : ∀ j : Nat, j < 1 → j < kn K := fun j hj => by rw [hn]; exact hj
  refine E.aload_n C dJ17_intValue_0 rfl ?_
  refine E.getBox C q693 dJ17_intValue_1 ha ?_
  refine E.endI C N dJ17_intValue_4 (by omega) ?_
  exact ⟨rfl, rfl⟩
theorem m_J17_compare (G : gG) (h : gH) (x y : Int32) : gMet 1 yJ17_compare cJ17_compare 2 (some .int) G h [.int x, .int y] (fun r u => r = some (.int (if x < y then -1 else if x = y then 0 else 1)) ∧ u = h) gNo 0 := by
  refine gMet.of (by decide) (Nat.le_of_ble_eq_true rfl) (fun K C N hG hn hin => ?_)
  subst hG
  have kn_ : ∀ j : Nat, j < 2 → j < kn K := fun j hj => by rw [hn]; exact hj
  refine E.iload_n C dJ17_compare_0 rfl ?_
  refine E.iload_n C dJ17_compare_1 rfl ?_
  refine E.icmp_ge C dJ17_compare_2 (tgt := 9) (by decide) (fun c1 => ?_) (fun c1 => ?_)
  · refine E.iload_n C dJ17_compare_9 rfl ?_
    refine E.iload_n C dJ17_compare_10 rfl ?_
    have c1' : ¬ x < y := Int32.not_lt.mpr c1
    refine E.icmp_ne C dJ17_compare_11 (tgt := 18) (by decide) (fun c2 => ?_) (fun c2 => ?_)
    · refine E.iconst C dJ17_compare_18 (v := 1) (by decide) ?_
      refine E.endI C N dJ17_compare_19 (by omega) ?_
      exact ⟨by rw [if_neg c1', if_neg c2], rfl⟩
    · refine E.iconst C dJ17_compare_14 (v := 0) (by decide) ?_
      refine E.goto C dJ17_compare_15 (tgt := 19) (by decide) ?_
      refine E.endI C N dJ17_compare_19 (by omega) ?_
      exact ⟨by rw [if_neg c1', if_pos c2], rfl⟩
  · refine E.iconst C dJ17_compare_5 (v := -1) (by decide) ?_
    refine E.goto C dJ17_compare_6 (tgt := 19) (by decide) ?_
    refine E.endI C N dJ17_compare_19 (by omega) ?_
    exact ⟨by rw [if_pos (Int32.not_le.mp c1)], rfl⟩
theorem m_J17_compareTo_2 (G : gG) (h : gH) (a b : Nat) (x y : Int32) (ha : h a = some (gbox x)) (hb : h b = some (gbox y)) : gMet 2 yJ17_compareTo_2 cJ17_compareTo_2 2 (some .int) G h [.ref a, .ref b] (fun r u => r = some (.int (if x < y then -1 else if x = y then 0 else 1)) ∧ u = h) gNo 0 := by
  refine gMet.of (by decide) (Nat.le_of_ble_eq_true rfl) (fun K C N hG hn hin => ?_)
  subst hG
  have kn_ : ∀ j : Nat, j < 2 → j < kn K := fun j hj => by rw [hn]; exact hj
  refine E.aload_n C dJ17_compareTo_2_0 rfl ?_
  refine E.getBox C q693 dJ17_compareTo_2_1 ha ?_
  refine E.aload_n C dJ17_compareTo_2_4 rfl ?_
  refine E.getBox C q693 dJ17_compareTo_2_5 hb ?_
  refine E.callS C (m_J17_compare (kG K) h x y) dJ17_compareTo_2_8 q742 q743 q73 q744 mh_J17_compare (by decide) (by decide) rfl (Nat.le_of_ble_eq_true rfl) (by omega) (fun _ _ hx => hx.elim) ?_
  rintro v9 u ⟨rfl, rfl⟩
  refine E.endI C N dJ17_compareTo_2_11 (by omega) ?_
  exact ⟨rfl, rfl⟩
theorem m_J17_compareTo (G : gG) (h : gH) (a b : Nat) (x y : Int32) (ha : h a = some (gbox x)) (hb : h b = some (gbox y)) : gMet 3 yJ17_compareTo cJ17_compareTo 2 (some .int) G h [.ref a, .ref b] (fun r u => r = some (.int (if x < y then -1 else if x = y then 0 else 1)) ∧ u = h) gNo 0 := by
  refine gMet.of (by decide) (Nat.le_of_ble_eq_true rfl) (fun K C N hG hn hin => ?_)
  subst hG
  have kn_ : ∀ j : Nat, j < 2 → j < kn K := fun j hj => by rw [hn]; exact hj
  refine E.aload_n C dJ17_compareTo_0 rfl ?_
  refine E.aload_n C dJ17_compareTo_1 rfl ?_
  refine E.castS C q684 (gRv.box hb) dJ17_compareTo_2 ?_
  refine E.callV C (m_J17_compareTo_2 (kG K) h a b x y ha hb) dJ17_compareTo_5 q738 q739 q740 q73 q741 mh_J17_compareTo_2 (by decide) (by decide) (gRv.box ha) rfl (Nat.le_of_ble_eq_true rfl) (by omega) (fun _ _ hx => hx.elim) ?_
  rintro v9 u ⟨rfl, rfl⟩
  refine E.endI C N dJ17_compareTo_8 (by omega) ?_
  exact ⟨rfl, rfl⟩
theorem m_J40_equals (G : gG) (h : gH) (a b : Nat) : gMet 1 yJ40_equals cJ40_equals 2 (some .boolean) G h [.ref a, .ref b] (fun r u => r = some (.int (if a = b then 1 else 0)) ∧ u = h) gNo 0 := by
  refine gMet.ofF (by decide +kernel) (Nat.le_of_ble_eq_true rfl) (fun K C N hG hn hin => ?_)
  subst hG
  have kn_ : ∀ j : Nat, j < 2 → j < kn K := fun j hj => by rw [hn]; exact hj
  refine E.aload_n C dJ40_equals_0 rfl ?_
  refine E.aload_n C dJ40_equals_1 rfl ?_
  refine E.acmp_ne (x := some a) (y := some b) C dJ40_equals_2 (tgt := 9) (by decide) (fun c => ?_) (fun c => ?_)
  · refine E.iconst C dJ40_equals_9 (v := 0) (by decide) ?_
    refine E.endZ C N dJ40_equals_10 (by first | rfl | assumption) (by omega) ?_
    exact ⟨by rw [if_neg (fun e => c (by rw [e]))], rfl⟩
  · refine E.iconst C dJ40_equals_5 (v := 1) (by decide) ?_
    refine E.goto C dJ40_equals_6 (tgt := 10) (by decide) ?_
    refine E.endZ C N dJ40_equals_10 (by first | rfl | assumption) (by omega) ?_
    exact ⟨by rw [if_pos (Option.some.inj c)], rfl⟩
