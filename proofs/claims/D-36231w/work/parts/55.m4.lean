/-! the reference's private methods that read: late, off, frozen, mark, holders, sums -/
set_option maxRecDepth 100000
section M4
variable {G : gG} {h : gH} {m : Nat} {ad : Nat → Nat} {σ : Sg}
theorem m_X2_lateOf (hM : MP G h m ad σ) (hW : Wb σ) {v : Nat} (hv : v < σ.1 3 0) : gMet 3 yX2_lateOf cX2_lateOf 4 (some .int) G h [.ref m, .int (nI v)] (fun w u => w = some (.int (lat σ v)) ∧ u = h) gNo 0 := by
  refine gMet.of (by decide) (Nat.le_of_ble_eq_true rfl) (fun K C N hG hn hin => ?_)
  subst hG
  have kn_ : ∀ j : Nat, j < 4 → j < kn K := fun j hj => by rw [hn]; exact hj
  have hW0 := hW
  obtain ⟨b0, b1, b2, b3, b4, b5, b6, b7, b8, b9, b10, b11⟩ := hW
  have zv := b9 v hv
  have lp : ∀ (d : Nat) (a r : Int32), (a = -1 ∨ ∃ k, k < d ∧ k < σ.1 3 0 ∧ a = nI k) → d ≤ 61 → ltL σ v (d + 1) a r = lat σ v → E K 13 [(0, .ref m), (1, .int (nI v)), (2, .int r), (3, .int a)] [] h 0 := by
    intro d
    induction d with
    | zero =>
      intro a r ha hd hx
      have ea : a = -1 := ha.elim id (fun ⟨k, h1, _⟩ => absurd h1 (Nat.not_lt_zero _))
      subst ea
      refine E.iload_n C dX2_lateOf_13 rfl ?_
      refine E.iconst C dX2_lateOf_14 (v := (-1)) (by decide) ?_
      refine E.icmp_eq C dX2_lateOf_15 (tgt := 65) (by decide) (fun cz => ?_) (fun c => absurd c (by decide))
      clear cz
      refine E.iload_n C dX2_lateOf_65 rfl ?_
      refine E.endI C N dX2_lateOf_66 (by omega) ?_
      exact ⟨by rw [← hx]; simp [ltL], rfl⟩
    | succ d ih =>
      intro a r ha hd hx
      rcases ha with rfl | ⟨k, h1, h2, rfl⟩
      · refine E.iload_n C dX2_lateOf_13 rfl ?_
        refine E.iconst C dX2_lateOf_14 (v := (-1)) (by decide) ?_
        refine E.icmp_eq C dX2_lateOf_15 (tgt := 65) (by decide) (fun cz => ?_) (fun c => absurd c (by decide))
        clear cz
        refine E.iload_n C dX2_lateOf_65 rfl ?_
        refine E.endI C N dX2_lateOf_66 (by omega) ?_
        exact ⟨by rw [← hx]; simp [ltL], rfl⟩
      · have hn9 := nI_m1 (n := k) (by omega)
        have zk := b9 k h2
        have sk := b11 k
        have hq : σ.2 15 k = -1 ∨ ∃ j, j < d ∧ j < σ.1 3 0 ∧ σ.2 15 k = nI j := by
          rcases zk.2.2.2.2 with e | ⟨p, e1, e2⟩
          · exact Or.inl e
          · exact Or.inr ⟨p, by omega, by omega, e2⟩
        rw [ltL, if_neg hn9, nI_clamp (by omega)] at hx
        have cml := cm_le zv.2.2.2.1 zk.2.2.2.1
        have eT : elN σ v k = true → ltL σ v (d + 1) (σ.2 15 k) (mle r (olt σ k)) = lat σ v := fun q => by rw [← hx, if_pos q]
        have eF : elN σ v k = false → ltL σ v (d + 1) (σ.2 15 k) r = lat σ v := fun q => by rw [← hx, if_neg (by rw [q]; decide)]
        refine E.iload_n C dX2_lateOf_13 rfl ?_
        refine E.iconst C dX2_lateOf_14 (v := (-1)) (by decide) ?_
        refine E.icmp_eq C dX2_lateOf_15 (tgt := 65) (by decide) (fun c => absurd c hn9) (fun _ => ?_)
        refine E.aload_n C dX2_lateOf_18 rfl ?_
        refine E.getf C dX2_lateOf_19 hM.cell rfl 23 q2055 (by decide) rfl rfl ?_
        refine E.iload_n C dX2_lateOf_22 rfl ?_
        refine E.iald C dX2_lateOf_23 hM.a23 (nI_in (by omega) (by omega)) (congrArg (fun k => nI (σ.1 13 k)) (nI_clamp (by omega))) ?_
        refine E.iconst C dX2_lateOf_24 (v := nI 1) (by decide) ?_
        refine E.icmpN_ne C dX2_lateOf_25 (tgt := 55) (by decide) (by omega) (by omega) (fun c25 => ?_) (fun c25 => ?_)
        · refine E.aload_n C dX2_lateOf_55 rfl ?_
          refine E.getf C dX2_lateOf_56 hM.cell rfl 20 q2052 (by decide) rfl rfl ?_
          refine E.iload_n C dX2_lateOf_59 rfl ?_
          refine E.iald C dX2_lateOf_60 hM.a20 (nI_in (by omega) (by omega)) (congrArg (σ.2 15) (nI_clamp (by omega))) ?_
          refine E.istore_n C dX2_lateOf_61 (kn_ _ (by decide)) ?_
          refine E.goto C dX2_lateOf_62 (tgt := 13) (by decide) ?_
          first | (refine ih _ _ hq (by omega) (eT ?_); simp [elN, *]; done) | (refine ih _ _ hq (by omega) (eF ?_); simp [elN, *]; done)
        · refine E.aload_n C dX2_lateOf_28 rfl ?_
          refine E.iload_n C dX2_lateOf_29 rfl ?_
          refine E.iload_n C dX2_lateOf_30 rfl ?_
          refine E.callV C (m_X2_common hM (by omega) (by omega) (by omega) (by omega)) dX2_lateOf_31 q2266 q2268 qs42 q76 q2269 mh_X2_common (by decide) (by decide) hM.rv rfl (Nat.le_of_ble_eq_true rfl) (by omega) (fun _ _ hx => hx.elim) ?_
          rintro v u ⟨rfl, rfl⟩
          refine E.aload_n C dX2_lateOf_34 rfl ?_
          refine E.getf C dX2_lateOf_35 hM.cell rfl 29 q2061 (by decide) rfl rfl ?_
          refine E.iload_n C dX2_lateOf_38 rfl ?_
          refine E.iald C dX2_lateOf_39 hM.a29 (nI_in (by omega) (by omega)) (congrArg (fun k => nI (σ.1 15 k)) (nI_clamp (by omega))) ?_
          refine E.iconst C dX2_lateOf_40 (v := nI 2) (by decide) ?_
          refine E.idivN C dX2_lateOf_41 (by omega) (by decide) (by decide) ?_
          refine E.icmpN_lt C dX2_lateOf_42 (tgt := 55) (by decide) (by omega) (by omega) (fun c42 => ?_) (fun c42 => ?_)
          · refine E.aload_n C dX2_lateOf_55 rfl ?_
            refine E.getf C dX2_lateOf_56 hM.cell rfl 20 q2052 (by decide) rfl rfl ?_
            refine E.iload_n C dX2_lateOf_59 rfl ?_
            refine E.iald C dX2_lateOf_60 hM.a20 (nI_in (by omega) (by omega)) (congrArg (σ.2 15) (nI_clamp (by omega))) ?_
            refine E.istore_n C dX2_lateOf_61 (kn_ _ (by decide)) ?_
            refine E.goto C dX2_lateOf_62 (tgt := 13) (by decide) ?_
            first | (refine ih _ _ hq (by omega) (eT ?_); simp [elN, *]; done) | (refine ih _ _ hq (by omega) (eF ?_); simp [elN, *]; done)
          · refine E.iload_n C dX2_lateOf_45 rfl ?_
            refine E.aload_n C dX2_lateOf_46 rfl ?_
            refine E.iload_n C dX2_lateOf_47 rfl ?_
            refine E.callV C (m_X2_ownLate hM hW0 (by omega)) dX2_lateOf_48 q2294 q2296 qs46 q76 q2297 mh_X2_ownLate (by decide) (by decide) hM.rv rfl (Nat.le_of_ble_eq_true rfl) (by omega) (fun _ _ hx => hx.elim) ?_
            rintro v u ⟨rfl, rfl⟩
            refine E.callS C (m_X2_lesser) dX2_lateOf_51 q2301 q2302 q76 q2303 mh_X2_lesser (by decide) (by decide) rfl (Nat.le_of_ble_eq_true rfl) (by omega) (fun _ _ hx => hx.elim) ?_
            rintro v u ⟨rfl, rfl⟩
            refine E.istore_n C dX2_lateOf_54 (kn_ _ (by decide)) ?_
            refine E.aload_n C dX2_lateOf_55 rfl ?_
            refine E.getf C dX2_lateOf_56 hM.cell rfl 20 q2052 (by decide) rfl rfl ?_
            refine E.iload_n C dX2_lateOf_59 rfl ?_
            refine E.iald C dX2_lateOf_60 hM.a20 (nI_in (by omega) (by omega)) (congrArg (σ.2 15) (nI_clamp (by omega))) ?_
            refine E.istore_n C dX2_lateOf_61 (kn_ _ (by decide)) ?_
            refine E.goto C dX2_lateOf_62 (tgt := 13) (by decide) ?_
            first | (refine ih _ _ hq (by omega) (eT ?_); simp [elN, *]; done) | (refine ih _ _ hq (by omega) (eF ?_); simp [elN, *]; done)
  refine E.aload_n C dX2_lateOf_0 rfl ?_
  refine E.iload_n C dX2_lateOf_1 rfl ?_
  refine E.callV C (m_X2_ownLate hM hW0 (by omega)) dX2_lateOf_2 q2294 q2296 qs46 q76 q2297 mh_X2_ownLate (by decide) (by decide) hM.rv rfl (Nat.le_of_ble_eq_true rfl) (by omega) (fun _ _ hx => hx.elim) ?_
  rintro v u ⟨rfl, rfl⟩
  refine E.istore_n C dX2_lateOf_5 (kn_ _ (by decide)) ?_
  refine E.aload_n C dX2_lateOf_6 rfl ?_
  refine E.getf C dX2_lateOf_7 hM.cell rfl 20 q2052 (by decide) rfl rfl ?_
  refine E.iload_n C dX2_lateOf_10 rfl ?_
  refine E.iald C dX2_lateOf_11 hM.a20 (nI_in (by omega) (by omega)) (congrArg (σ.2 15) (nI_clamp (by omega))) ?_
  refine E.istore_n C dX2_lateOf_12 (kn_ _ (by decide)) ?_
  refine lp 60 _ _ ?_ (by omega) rfl
  exact zv.2.2.2.2.imp id (fun ⟨p, e1, e2⟩ => ⟨p, by omega, by omega, e2⟩)
theorem m_X2_offOf (hM : MP G h m ad σ) (hW : Wb σ) {t : Nat} {x : Int32} (ht : t < σ.1 2 0) : gMet 2 yX2_offOf cX2_offOf 4 (some .int) G h [.ref m, .int (nI t), .int x] (fun w u => w = some (.int (ofO σ t x)) ∧ u = h) gNo 0 := by
  refine gMet.of (by decide) (Nat.le_of_ble_eq_true rfl) (fun K C N hG hn hin => ?_)
  subst hG
  have kn_ : ∀ j : Nat, j < 4 → j < kn K := fun j hj => by rw [hn]; exact hj
  have hW0 := hW
  obtain ⟨b0, b1, b2, b3, b4, b5, b6, b7, b8, b9, b10, b11⟩ := hW
  have hr := (b8 t ht).2
  have k52 : σ.2 6 t = nI 104 → ¬ x = 0 → E K 52 [(0, .ref m), (1, .int (nI t)), (2, .int x), (3, .int (σ.2 5 t))] [] h 0 := by
    intro e c8
    refine E.iload_n C dX2_offOf_52 rfl ?_
    refine E.iload_n C dX2_offOf_53 rfl ?_
    refine E.bipush C dX2_offOf_54 (v := nI 59) (by decide) ?_
    refine E.iadd C dX2_offOf_56 ?_
    refine E.bipush C dX2_offOf_57 (v := nI 60) (by decide) ?_
    refine E.idiv C dX2_offOf_59 (by decide) ?_
    refine E.imul C dX2_offOf_60 ?_
    refine E.endI C N dX2_offOf_61 (by omega) ?_
    exact ⟨by rw [ofO, ofA, if_neg c8, if_pos e], rfl⟩
  have k62 : σ.2 6 t = nI 100 → ¬ x = 0 → E K 62 [(0, .ref m), (1, .int (nI t)), (2, .int x), (3, .int (σ.2 5 t))] [] h 0 := by
    intro e c8
    refine E.iload_n C dX2_offOf_62 rfl ?_
    refine E.iload_n C dX2_offOf_63 rfl ?_
    refine E.sipush C dX2_offOf_64 (v := nI 1439) (by decide) ?_
    refine E.iadd C dX2_offOf_67 ?_
    refine E.sipush C dX2_offOf_68 (v := nI 1440) (by decide) ?_
    refine E.idiv C dX2_offOf_71 (by decide) ?_
    refine E.imul C dX2_offOf_72 ?_
    refine E.endI C N dX2_offOf_73 (by omega) ?_
    exact ⟨by rw [ofO, ofA, if_neg c8, e, if_neg (by decide), if_pos rfl], rfl⟩
  have k74 : σ.2 6 t = nI 103 → ¬ x = 0 → E K 74 [(0, .ref m), (1, .int (nI t)), (2, .int x), (3, .int (σ.2 5 t))] [] h 0 := by
    intro e c8
    refine E.iload_n C dX2_offOf_74 rfl ?_
    refine E.iload_n C dX2_offOf_75 rfl ?_
    refine E.icmp_le C dX2_offOf_76 (tgt := 84) (by decide) (fun c76 => ?_) (fun c76 => ?_)
    · refine E.iconst C dX2_offOf_84 (v := nI 0) (by decide) ?_
      refine E.endI C N dX2_offOf_85 (by omega) ?_
      first | exact ⟨by rw [ofO, ofA, if_neg c8, e, if_neg (by decide), if_neg (by decide), if_pos rfl, if_pos (Int32.not_le.mp c76)], rfl⟩ | exact ⟨by rw [ofO, ofA, if_neg c8, e, if_neg (by decide), if_neg (by decide), if_pos rfl, if_neg (Int32.not_lt.mpr c76)], rfl⟩
    · refine E.bipush C dX2_offOf_79 (v := nI 10) (by decide) ?_
      refine E.goto C dX2_offOf_81 (tgt := 85) (by decide) ?_
      refine E.endI C N dX2_offOf_85 (by omega) ?_
      first | exact ⟨by rw [ofO, ofA, if_neg c8, e, if_neg (by decide), if_neg (by decide), if_pos rfl, if_pos (Int32.not_le.mp c76)], rfl⟩ | exact ⟨by rw [ofO, ofA, if_neg c8, e, if_neg (by decide), if_neg (by decide), if_pos rfl, if_neg (Int32.not_lt.mpr c76)], rfl⟩
  have k86 : σ.2 6 t = nI 115 → ¬ x = 0 → E K 86 [(0, .ref m), (1, .int (nI t)), (2, .int x), (3, .int (σ.2 5 t))] [] h 0 := by
    intro e c8
    refine E.iload_n C dX2_offOf_86 rfl ?_
    refine E.iconst C dX2_offOf_87 (v := nI 1) (by decide) ?_
    refine E.bipush C dX2_offOf_88 (v := nI 6) (by decide) ?_
    refine E.iload_n C dX2_offOf_90 rfl ?_
    refine E.bipush C dX2_offOf_91 (v := nI 60) (by decide) ?_
    refine E.idiv C dX2_offOf_93 (by decide) ?_
    refine E.callS C (m_X2_lesser) dX2_offOf_94 q2301 q2302 q76 q2303 mh_X2_lesser (by decide) (by decide) rfl (Nat.le_of_ble_eq_true rfl) (by omega) (fun _ _ hx => hx.elim) ?_
    rintro v u ⟨rfl, rfl⟩
    refine E.ishl C dX2_offOf_97 ?_
    refine E.imul C dX2_offOf_98 ?_
    refine E.endI C N dX2_offOf_99 (by omega) ?_
    exact ⟨by rw [ofO, ofA, if_neg c8, e, if_neg (by decide), if_neg (by decide), if_neg (by decide)], rfl⟩
  refine E.aload_n C dX2_offOf_0 rfl ?_
  refine E.getf C dX2_offOf_1 hM.cell rfl 15 q2047 (by decide) rfl rfl ?_
  refine E.iload_n C dX2_offOf_4 rfl ?_
  refine E.iald C dX2_offOf_5 hM.a15 (nI_in (by omega) (by omega)) (congrArg (σ.2 5) (nI_clamp (by omega))) ?_
  refine E.istore_n C dX2_offOf_6 (kn_ _ (by decide)) ?_
  refine E.iload_n C dX2_offOf_7 rfl ?_
  refine E.if_ne C dX2_offOf_8 (tgt := 13) (by decide) (fun c8 => ?_) (fun c8 => ?_)
  · refine E.aload_n C dX2_offOf_13 rfl ?_
    refine E.getf C dX2_offOf_14 hM.cell rfl 16 q2048 (by decide) rfl rfl ?_
    refine E.iload_n C dX2_offOf_17 rfl ?_
    refine E.cald C dX2_offOf_18 hM.a16 (nI_in (by omega) (by omega)) (congrArg (σ.2 6) (nI_clamp (by omega))) ?_
    rcases hr with e | e | e | e
    · rw [e]; exact E.tswI C dX2_offOf_19 (off := 33) (tgt := 52) (by decide) (by decide) (by decide) (k52 e c8)
    · rw [e]; exact E.tswI C dX2_offOf_19 (off := 43) (tgt := 62) (by decide) (by decide) (by decide) (k62 e c8)
    · rw [e]; exact E.tswI C dX2_offOf_19 (off := 55) (tgt := 74) (by decide) (by decide) (by decide) (k74 e c8)
    · rw [e]; exact E.tswO C dX2_offOf_19 (tgt := 86) (by decide) (by decide) (k86 e c8)
  · refine E.iconst C dX2_offOf_11 (v := nI 0) (by decide) ?_
    refine E.endI C N dX2_offOf_12 (by omega) ?_
    exact ⟨by rw [ofO, ofA, if_pos c8], rfl⟩
theorem m_X2_isFrozenOf (hM : MP G h m ad σ) (hW : Wb σ) {p t : Nat} (hp : p < 12) (ht : t < 10) : gMet 1 yX2_isFrozenOf cX2_isFrozenOf 7 (some .boolean) G h [.ref m, .int (nI p), .int (nI t)] (fun w u => (w = some (.int (nI 1)) ∧ frz σ p t = true ∧ u = h) ∨ (w = some (.int (nI 0)) ∧ frz σ p t = false ∧ u = h)) gNo 0 := by
  refine gMet.of (by decide) (Nat.le_of_ble_eq_true rfl) (fun K C N hG hn hin => ?_)
  subst hG
  have kn_ : ∀ j : Nat, j < 7 → j < kn K := fun j hj => by rw [hn]; exact hj
  have hW0 := hW
  obtain ⟨b0, b1, b2, b3, b4, b5, b6, b7, b8, b9, b10, b11⟩ := hW
  have lp : ∀ (d k : Nat) (c : Bool), k + d = σ.1 5 0 → c = anyN (frH σ p t) k → E K 5 [(0, .ref m), (1, .int (nI p)), (2, .int (nI t)), (3, .int (nI (bN c))), (4, .int (nI k))] [] h 0 := by
    intro d
    induction d with
    | zero =>
      intro k c hk hc
      have hc2 : c = frz σ p t := by rw [hc, frz, ← hk]; rfl
      refine E.iload C dX2_isFrozenOf_5 rfl ?_
      refine E.aload_n C dX2_isFrozenOf_7 rfl ?_
      refine E.getf C dX2_isFrozenOf_8 hM.cell rfl 6 q2038 (by decide) rfl rfl ?_
      refine E.icmpN_ge C dX2_isFrozenOf_11 (tgt := 129) (by decide) (by omega) (by omega) (fun c11 => ?_) (fun c11 => absurd c11 (by omega))
      refine E.iload_n C dX2_isFrozenOf_129 rfl ?_
      refine E.endZ C N dX2_isFrozenOf_130 (by cases c <;> rfl) (by omega) ?_
      cases c
      · exact Or.inr ⟨rfl, hc2.symm, rfl⟩
      · exact Or.inl ⟨rfl, hc2.symm, rfl⟩
    | succ d ih =>
      intro k c hk hc
      have zk := b10 k (by omega)
      have zn := b9 _ zk.1
      have zo := b9 _ zk.2
      have nxt : ∀ (x : Bool), x = anyN (frH σ p t) (k + 1) → ∀ l8, lv_pick l8 [0, 1, 2, 3, 4] = [(0, .ref m), (1, .int (nI p)), (2, .int (nI t)), (3, .int (nI (bN x))), (4, .int (nI (k + 1)))] → E K 5 l8 [] h 0 := fun x hx l8 h8 => E.sub [0, 1, 2, 3, 4] h8 (ih (k + 1) x (by omega) hx)
      have an : anyN (frH σ p t) (k + 1) = (c || frH σ p t k) := by rw [anyN, ← hc]
      clear hc
      have k92 : ∀ (a b : Bool), (decide (σ.1 9 (σ.1 16 k) = p) && decide (σ.1 10 (σ.1 16 k) = t)) = a → (decide (σ.1 9 (σ.1 17 k) = p) && decide (σ.1 10 (σ.1 17 k) = t)) = b → E K 92 [(0, .ref m), (1, .int (nI p)), (2, .int (nI t)), (3, .int (nI (bN c))), (4, .int (nI k)), (5, .int (nI (bN a))), (6, .int (nI (bN b)))] [] h 0 := by
        intro a b ea eb
        have ef : frH σ p t k = (decide (σ.2 13 k = -1) && (a || b)) := by rw [frH, ea, eb]
        cases c <;> cases a <;> cases b <;> simp only [bN, Bool.false_eq_true, if_true, if_false]
        · refine E.iload_n C dX2_isFrozenOf_92 rfl ?_
          refine E.if_ne C dX2_isFrozenOf_93 (tgt := 117) (by decide) (fun c => absurd c (by decide)) (fun cz => ?_)
          clear cz
          refine E.aload_n C dX2_isFrozenOf_96 rfl ?_
          refine E.getf C dX2_isFrozenOf_97 hM.cell rfl 33 q2065 (by decide) rfl rfl ?_
          refine E.iload C dX2_isFrozenOf_100 rfl ?_
          refine E.iald C dX2_isFrozenOf_102 hM.a33 (nI_in (by omega) (by omega)) (congrArg (σ.2 13) (nI_clamp (by omega))) ?_
          refine E.iconst C dX2_isFrozenOf_103 (v := (-1)) (by decide) ?_
          refine E.icmp_ne C dX2_isFrozenOf_104 (tgt := 121) (by decide) (fun c104 => ?_) (fun c104 => ?_)
          · refine E.iconst C dX2_isFrozenOf_121 (v := nI 0) (by decide) ?_
            refine E.istore_n C dX2_isFrozenOf_122 (kn_ _ (by decide)) ?_
            refine E.iincN C dX2_isFrozenOf_123 rfl (kn_ _ (by decide)) ?_
            refine E.goto C dX2_isFrozenOf_126 (tgt := 5) (by decide) ?_
            first | (refine nxt true ?_ _ rfl; rw [an, ef]; simp [*]; done) | (refine nxt false ?_ _ rfl; rw [an, ef]; simp [*]; done) | (refine nxt true ?_ _ rfl; rw [an]; rfl)
          · refine E.iload C dX2_isFrozenOf_107 rfl ?_
            refine E.if_ne C dX2_isFrozenOf_109 (tgt := 117) (by decide) (fun c => absurd c (by decide)) (fun cz => ?_)
            clear cz
            refine E.iload C dX2_isFrozenOf_112 rfl ?_
            refine E.if_eq C dX2_isFrozenOf_114 (tgt := 121) (by decide) (fun cz => ?_) (fun c => absurd c (by decide))
            clear cz
            refine E.iconst C dX2_isFrozenOf_121 (v := nI 0) (by decide) ?_
            refine E.istore_n C dX2_isFrozenOf_122 (kn_ _ (by decide)) ?_
            refine E.iincN C dX2_isFrozenOf_123 rfl (kn_ _ (by decide)) ?_
            refine E.goto C dX2_isFrozenOf_126 (tgt := 5) (by decide) ?_
            first | (refine nxt true ?_ _ rfl; rw [an, ef]; simp [*]; done) | (refine nxt false ?_ _ rfl; rw [an, ef]; simp [*]; done) | (refine nxt true ?_ _ rfl; rw [an]; rfl)
        · refine E.iload_n C dX2_isFrozenOf_92 rfl ?_
          refine E.if_ne C dX2_isFrozenOf_93 (tgt := 117) (by decide) (fun c => absurd c (by decide)) (fun cz => ?_)
          clear cz
          refine E.aload_n C dX2_isFrozenOf_96 rfl ?_
          refine E.getf C dX2_isFrozenOf_97 hM.cell rfl 33 q2065 (by decide) rfl rfl ?_
          refine E.iload C dX2_isFrozenOf_100 rfl ?_
          refine E.iald C dX2_isFrozenOf_102 hM.a33 (nI_in (by omega) (by omega)) (congrArg (σ.2 13) (nI_clamp (by omega))) ?_
          refine E.iconst C dX2_isFrozenOf_103 (v := (-1)) (by decide) ?_
          refine E.icmp_ne C dX2_isFrozenOf_104 (tgt := 121) (by decide) (fun c104 => ?_) (fun c104 => ?_)
          · refine E.iconst C dX2_isFrozenOf_121 (v := nI 0) (by decide) ?_
            refine E.istore_n C dX2_isFrozenOf_122 (kn_ _ (by decide)) ?_
            refine E.iincN C dX2_isFrozenOf_123 rfl (kn_ _ (by decide)) ?_
            refine E.goto C dX2_isFrozenOf_126 (tgt := 5) (by decide) ?_
            first | (refine nxt true ?_ _ rfl; rw [an, ef]; simp [*]; done) | (refine nxt false ?_ _ rfl; rw [an, ef]; simp [*]; done) | (refine nxt true ?_ _ rfl; rw [an]; rfl)
          · refine E.iload C dX2_isFrozenOf_107 rfl ?_
            refine E.if_ne C dX2_isFrozenOf_109 (tgt := 117) (by decide) (fun c => absurd c (by decide)) (fun cz => ?_)
            clear cz
            refine E.iload C dX2_isFrozenOf_112 rfl ?_
            refine E.if_eq C dX2_isFrozenOf_114 (tgt := 121) (by decide) (fun c => absurd c (by decide)) (fun cz => ?_)
            clear cz
            refine E.iconst C dX2_isFrozenOf_117 (v := nI 1) (by decide) ?_
            refine E.goto C dX2_isFrozenOf_118 (tgt := 122) (by decide) ?_
            refine E.istore_n C dX2_isFrozenOf_122 (kn_ _ (by decide)) ?_
            refine E.iincN C dX2_isFrozenOf_123 rfl (kn_ _ (by decide)) ?_
            refine E.goto C dX2_isFrozenOf_126 (tgt := 5) (by decide) ?_
            first | (refine nxt true ?_ _ rfl; rw [an, ef]; simp [*]; done) | (refine nxt false ?_ _ rfl; rw [an, ef]; simp [*]; done) | (refine nxt true ?_ _ rfl; rw [an]; rfl)
        · refine E.iload_n C dX2_isFrozenOf_92 rfl ?_
          refine E.if_ne C dX2_isFrozenOf_93 (tgt := 117) (by decide) (fun c => absurd c (by decide)) (fun cz => ?_)
          clear cz
          refine E.aload_n C dX2_isFrozenOf_96 rfl ?_
          refine E.getf C dX2_isFrozenOf_97 hM.cell rfl 33 q2065 (by decide) rfl rfl ?_
          refine E.iload C dX2_isFrozenOf_100 rfl ?_
          refine E.iald C dX2_isFrozenOf_102 hM.a33 (nI_in (by omega) (by omega)) (congrArg (σ.2 13) (nI_clamp (by omega))) ?_
          refine E.iconst C dX2_isFrozenOf_103 (v := (-1)) (by decide) ?_
          refine E.icmp_ne C dX2_isFrozenOf_104 (tgt := 121) (by decide) (fun c104 => ?_) (fun c104 => ?_)
          · refine E.iconst C dX2_isFrozenOf_121 (v := nI 0) (by decide) ?_
            refine E.istore_n C dX2_isFrozenOf_122 (kn_ _ (by decide)) ?_
            refine E.iincN C dX2_isFrozenOf_123 rfl (kn_ _ (by decide)) ?_
            refine E.goto C dX2_isFrozenOf_126 (tgt := 5) (by decide) ?_
            first | (refine nxt true ?_ _ rfl; rw [an, ef]; simp [*]; done) | (refine nxt false ?_ _ rfl; rw [an, ef]; simp [*]; done) | (refine nxt true ?_ _ rfl; rw [an]; rfl)
          · refine E.iload C dX2_isFrozenOf_107 rfl ?_
            refine E.if_ne C dX2_isFrozenOf_109 (tgt := 117) (by decide) (fun cz => ?_) (fun c => absurd c (by decide))
            clear cz
            refine E.iconst C dX2_isFrozenOf_117 (v := nI 1) (by decide) ?_
            refine E.goto C dX2_isFrozenOf_118 (tgt := 122) (by decide) ?_
            refine E.istore_n C dX2_isFrozenOf_122 (kn_ _ (by decide)) ?_
            refine E.iincN C dX2_isFrozenOf_123 rfl (kn_ _ (by decide)) ?_
            refine E.goto C dX2_isFrozenOf_126 (tgt := 5) (by decide) ?_
            first | (refine nxt true ?_ _ rfl; rw [an, ef]; simp [*]; done) | (refine nxt false ?_ _ rfl; rw [an, ef]; simp [*]; done) | (refine nxt true ?_ _ rfl; rw [an]; rfl)
        · refine E.iload_n C dX2_isFrozenOf_92 rfl ?_
          refine E.if_ne C dX2_isFrozenOf_93 (tgt := 117) (by decide) (fun c => absurd c (by decide)) (fun cz => ?_)
          clear cz
          refine E.aload_n C dX2_isFrozenOf_96 rfl ?_
          refine E.getf C dX2_isFrozenOf_97 hM.cell rfl 33 q2065 (by decide) rfl rfl ?_
          refine E.iload C dX2_isFrozenOf_100 rfl ?_
          refine E.iald C dX2_isFrozenOf_102 hM.a33 (nI_in (by omega) (by omega)) (congrArg (σ.2 13) (nI_clamp (by omega))) ?_
          refine E.iconst C dX2_isFrozenOf_103 (v := (-1)) (by decide) ?_
          refine E.icmp_ne C dX2_isFrozenOf_104 (tgt := 121) (by decide) (fun c104 => ?_) (fun c104 => ?_)
          · refine E.iconst C dX2_isFrozenOf_121 (v := nI 0) (by decide) ?_
            refine E.istore_n C dX2_isFrozenOf_122 (kn_ _ (by decide)) ?_
            refine E.iincN C dX2_isFrozenOf_123 rfl (kn_ _ (by decide)) ?_
            refine E.goto C dX2_isFrozenOf_126 (tgt := 5) (by decide) ?_
            first | (refine nxt true ?_ _ rfl; rw [an, ef]; simp [*]; done) | (refine nxt false ?_ _ rfl; rw [an, ef]; simp [*]; done) | (refine nxt true ?_ _ rfl; rw [an]; rfl)
          · refine E.iload C dX2_isFrozenOf_107 rfl ?_
            refine E.if_ne C dX2_isFrozenOf_109 (tgt := 117) (by decide) (fun cz => ?_) (fun c => absurd c (by decide))
            clear cz
            refine E.iconst C dX2_isFrozenOf_117 (v := nI 1) (by decide) ?_
            refine E.goto C dX2_isFrozenOf_118 (tgt := 122) (by decide) ?_
            refine E.istore_n C dX2_isFrozenOf_122 (kn_ _ (by decide)) ?_
            refine E.iincN C dX2_isFrozenOf_123 rfl (kn_ _ (by decide)) ?_
            refine E.goto C dX2_isFrozenOf_126 (tgt := 5) (by decide) ?_
            first | (refine nxt true ?_ _ rfl; rw [an, ef]; simp [*]; done) | (refine nxt false ?_ _ rfl; rw [an, ef]; simp [*]; done) | (refine nxt true ?_ _ rfl; rw [an]; rfl)
        · refine E.iload_n C dX2_isFrozenOf_92 rfl ?_
          refine E.if_ne C dX2_isFrozenOf_93 (tgt := 117) (by decide) (fun cz => ?_) (fun c => absurd c (by decide))
          clear cz
          refine E.iconst C dX2_isFrozenOf_117 (v := nI 1) (by decide) ?_
          refine E.goto C dX2_isFrozenOf_118 (tgt := 122) (by decide) ?_
          refine E.istore_n C dX2_isFrozenOf_122 (kn_ _ (by decide)) ?_
          refine E.iincN C dX2_isFrozenOf_123 rfl (kn_ _ (by decide)) ?_
          refine E.goto C dX2_isFrozenOf_126 (tgt := 5) (by decide) ?_
          first | (refine nxt true ?_ _ rfl; rw [an, ef]; simp [*]; done) | (refine nxt false ?_ _ rfl; rw [an, ef]; simp [*]; done) | (refine nxt true ?_ _ rfl; rw [an]; rfl)
        · refine E.iload_n C dX2_isFrozenOf_92 rfl ?_
          refine E.if_ne C dX2_isFrozenOf_93 (tgt := 117) (by decide) (fun cz => ?_) (fun c => absurd c (by decide))
          clear cz
          refine E.iconst C dX2_isFrozenOf_117 (v := nI 1) (by decide) ?_
          refine E.goto C dX2_isFrozenOf_118 (tgt := 122) (by decide) ?_
          refine E.istore_n C dX2_isFrozenOf_122 (kn_ _ (by decide)) ?_
          refine E.iincN C dX2_isFrozenOf_123 rfl (kn_ _ (by decide)) ?_
          refine E.goto C dX2_isFrozenOf_126 (tgt := 5) (by decide) ?_
          first | (refine nxt true ?_ _ rfl; rw [an, ef]; simp [*]; done) | (refine nxt false ?_ _ rfl; rw [an, ef]; simp [*]; done) | (refine nxt true ?_ _ rfl; rw [an]; rfl)
        · refine E.iload_n C dX2_isFrozenOf_92 rfl ?_
          refine E.if_ne C dX2_isFrozenOf_93 (tgt := 117) (by decide) (fun cz => ?_) (fun c => absurd c (by decide))
          clear cz
          refine E.iconst C dX2_isFrozenOf_117 (v := nI 1) (by decide) ?_
          refine E.goto C dX2_isFrozenOf_118 (tgt := 122) (by decide) ?_
          refine E.istore_n C dX2_isFrozenOf_122 (kn_ _ (by decide)) ?_
          refine E.iincN C dX2_isFrozenOf_123 rfl (kn_ _ (by decide)) ?_
          refine E.goto C dX2_isFrozenOf_126 (tgt := 5) (by decide) ?_
          first | (refine nxt true ?_ _ rfl; rw [an, ef]; simp [*]; done) | (refine nxt false ?_ _ rfl; rw [an, ef]; simp [*]; done) | (refine nxt true ?_ _ rfl; rw [an]; rfl)
        · refine E.iload_n C dX2_isFrozenOf_92 rfl ?_
          refine E.if_ne C dX2_isFrozenOf_93 (tgt := 117) (by decide) (fun cz => ?_) (fun c => absurd c (by decide))
          clear cz
          refine E.iconst C dX2_isFrozenOf_117 (v := nI 1) (by decide) ?_
          refine E.goto C dX2_isFrozenOf_118 (tgt := 122) (by decide) ?_
          refine E.istore_n C dX2_isFrozenOf_122 (kn_ _ (by decide)) ?_
          refine E.iincN C dX2_isFrozenOf_123 rfl (kn_ _ (by decide)) ?_
          refine E.goto C dX2_isFrozenOf_126 (tgt := 5) (by decide) ?_
          first | (refine nxt true ?_ _ rfl; rw [an, ef]; simp [*]; done) | (refine nxt false ?_ _ rfl; rw [an, ef]; simp [*]; done) | (refine nxt true ?_ _ rfl; rw [an]; rfl)
      have k53 : ∀ (a : Bool), (decide (σ.1 9 (σ.1 16 k) = p) && decide (σ.1 10 (σ.1 16 k) = t)) = a → E K 53 [(0, .ref m), (1, .int (nI p)), (2, .int (nI t)), (3, .int (nI (bN c))), (4, .int (nI k)), (5, .int (nI (bN a)))] [] h 0 := by
        intro a ea
        refine E.aload_n C dX2_isFrozenOf_53 rfl ?_
        refine E.getf C dX2_isFrozenOf_54 hM.cell rfl 18 q2050 (by decide) rfl rfl ?_
        refine E.aload_n C dX2_isFrozenOf_57 rfl ?_
        refine E.getf C dX2_isFrozenOf_58 hM.cell rfl 31 q2063 (by decide) rfl rfl ?_
        refine E.iload C dX2_isFrozenOf_61 rfl ?_
        refine E.iald C dX2_isFrozenOf_63 hM.a31 (nI_in (by omega) (by omega)) (congrArg (fun k => nI (σ.1 17 k)) (nI_clamp (by omega))) ?_
        refine E.iald C dX2_isFrozenOf_64 hM.a18 (nI_in (by omega) (by omega)) (congrArg (fun k => nI (σ.1 9 k)) (nI_clamp (by omega))) ?_
        refine E.iload_n C dX2_isFrozenOf_65 rfl ?_
        refine E.icmpN_ne C dX2_isFrozenOf_66 (tgt := 89) (by decide) (by omega) (by omega) (fun c66 => ?_) (fun c66 => ?_)
        · refine E.iconst C dX2_isFrozenOf_89 (v := nI 0) (by decide) ?_
          refine E.istore C dX2_isFrozenOf_90 (kn_ _ (by decide)) ?_
          first | (refine k92 a true ea ?_; simp [*]; done) | (refine k92 a false ea ?_; simp [*]; done)
        · refine E.aload_n C dX2_isFrozenOf_69 rfl ?_
          refine E.getf C dX2_isFrozenOf_70 hM.cell rfl 19 q2051 (by decide) rfl rfl ?_
          refine E.aload_n C dX2_isFrozenOf_73 rfl ?_
          refine E.getf C dX2_isFrozenOf_74 hM.cell rfl 31 q2063 (by decide) rfl rfl ?_
          refine E.iload C dX2_isFrozenOf_77 rfl ?_
          refine E.iald C dX2_isFrozenOf_79 hM.a31 (nI_in (by omega) (by omega)) (congrArg (fun k => nI (σ.1 17 k)) (nI_clamp (by omega))) ?_
          refine E.iald C dX2_isFrozenOf_80 hM.a19 (nI_in (by omega) (by omega)) (congrArg (fun k => nI (σ.1 10 k)) (nI_clamp (by omega))) ?_
          refine E.iload_n C dX2_isFrozenOf_81 rfl ?_
          refine E.icmpN_ne C dX2_isFrozenOf_82 (tgt := 89) (by decide) (by omega) (by omega) (fun c82 => ?_) (fun c82 => ?_)
          · refine E.iconst C dX2_isFrozenOf_89 (v := nI 0) (by decide) ?_
            refine E.istore C dX2_isFrozenOf_90 (kn_ _ (by decide)) ?_
            first | (refine k92 a true ea ?_; simp [*]; done) | (refine k92 a false ea ?_; simp [*]; done)
          · refine E.iconst C dX2_isFrozenOf_85 (v := nI 1) (by decide) ?_
            refine E.goto C dX2_isFrozenOf_86 (tgt := 90) (by decide) ?_
            refine E.istore C dX2_isFrozenOf_90 (kn_ _ (by decide)) ?_
            first | (refine k92 a true ea ?_; simp [*]; done) | (refine k92 a false ea ?_; simp [*]; done)
      refine E.iload C dX2_isFrozenOf_5 rfl ?_
      refine E.aload_n C dX2_isFrozenOf_7 rfl ?_
      refine E.getf C dX2_isFrozenOf_8 hM.cell rfl 6 q2038 (by decide) rfl rfl ?_
      refine E.icmpN_ge C dX2_isFrozenOf_11 (tgt := 129) (by decide) (by omega) (by omega) (fun c11 => absurd c11 (by omega)) (fun c11 => ?_)
      refine E.aload_n C dX2_isFrozenOf_14 rfl ?_
      refine E.getf C dX2_isFrozenOf_15 hM.cell rfl 18 q2050 (by decide) rfl rfl ?_
      refine E.aload_n C dX2_isFrozenOf_18 rfl ?_
      refine E.getf C dX2_isFrozenOf_19 hM.cell rfl 30 q2062 (by decide) rfl rfl ?_
      refine E.iload C dX2_isFrozenOf_22 rfl ?_
      refine E.iald C dX2_isFrozenOf_24 hM.a30 (nI_in (by omega) (by omega)) (congrArg (fun k => nI (σ.1 16 k)) (nI_clamp (by omega))) ?_
      refine E.iald C dX2_isFrozenOf_25 hM.a18 (nI_in (by omega) (by omega)) (congrArg (fun k => nI (σ.1 9 k)) (nI_clamp (by omega))) ?_
      refine E.iload_n C dX2_isFrozenOf_26 rfl ?_
      refine E.icmpN_ne C dX2_isFrozenOf_27 (tgt := 50) (by decide) (by omega) (by omega) (fun c27 => ?_) (fun c27 => ?_)
      · refine E.iconst C dX2_isFrozenOf_50 (v := nI 0) (by decide) ?_
        refine E.istore C dX2_isFrozenOf_51 (kn_ _ (by decide)) ?_
        first | (refine E.sub [0, 1, 2, 3, 4, 5] rfl (k53 true ?_); simp [*]; done) | (refine E.sub [0, 1, 2, 3, 4, 5] rfl (k53 false ?_); simp [*]; done)
      · refine E.aload_n C dX2_isFrozenOf_30 rfl ?_
        refine E.getf C dX2_isFrozenOf_31 hM.cell rfl 19 q2051 (by decide) rfl rfl ?_
        refine E.aload_n C dX2_isFrozenOf_34 rfl ?_
        refine E.getf C dX2_isFrozenOf_35 hM.cell rfl 30 q2062 (by decide) rfl rfl ?_
        refine E.iload C dX2_isFrozenOf_38 rfl ?_
        refine E.iald C dX2_isFrozenOf_40 hM.a30 (nI_in (by omega) (by omega)) (congrArg (fun k => nI (σ.1 16 k)) (nI_clamp (by omega))) ?_
        refine E.iald C dX2_isFrozenOf_41 hM.a19 (nI_in (by omega) (by omega)) (congrArg (fun k => nI (σ.1 10 k)) (nI_clamp (by omega))) ?_
        refine E.iload_n C dX2_isFrozenOf_42 rfl ?_
        refine E.icmpN_ne C dX2_isFrozenOf_43 (tgt := 50) (by decide) (by omega) (by omega) (fun c43 => ?_) (fun c43 => ?_)
        · refine E.iconst C dX2_isFrozenOf_50 (v := nI 0) (by decide) ?_
          refine E.istore C dX2_isFrozenOf_51 (kn_ _ (by decide)) ?_
          first | (refine E.sub [0, 1, 2, 3, 4, 5] rfl (k53 true ?_); simp [*]; done) | (refine E.sub [0, 1, 2, 3, 4, 5] rfl (k53 false ?_); simp [*]; done)
        · refine E.iconst C dX2_isFrozenOf_46 (v := nI 1) (by decide) ?_
          refine E.goto C dX2_isFrozenOf_47 (tgt := 51) (by decide) ?_
          refine E.istore C dX2_isFrozenOf_51 (kn_ _ (by decide)) ?_
          first | (refine E.sub [0, 1, 2, 3, 4, 5] rfl (k53 true ?_); simp [*]; done) | (refine E.sub [0, 1, 2, 3, 4, 5] rfl (k53 false ?_); simp [*]; done)
  refine E.iconst C dX2_isFrozenOf_0 (v := nI 0) (by decide) ?_
  refine E.istore_n C dX2_isFrozenOf_1 (kn_ _ (by decide)) ?_
  refine E.iconst C dX2_isFrozenOf_2 (v := nI 0) (by decide) ?_
  refine E.istore C dX2_isFrozenOf_3 (kn_ _ (by decide)) ?_
  exact lp (σ.1 5 0) 0 false (by omega) rfl
theorem m_X2_markOf (hM : MP G h m ad σ) (hW : Wb σ) {p t : Nat} (hp : p < σ.1 1 0) (ht : t < σ.1 2 0) : gMet 4 yX2_markOf cX2_markOf 4 (some .int) G h [.ref m, .int (nI p), .int (nI t)] (fun w u => w = some (.int (mrk σ p t)) ∧ u = h) gNo 0 := by
  refine gMet.of (by decide) (Nat.le_of_ble_eq_true rfl) (fun K C N hG hn hin => ?_)
  subst hG
  have kn_ : ∀ j : Nat, j < 4 → j < kn K := fun j hj => by rw [hn]; exact hj
  have hW0 := hW
  obtain ⟨b0, b1, b2, b3, b4, b5, b6, b7, b8, b9, b10, b11⟩ := hW
  have lz := b11 (10 * p + t)
  cases hc : cnt σ p t with
  | none =>
    refine E.aload_n C dX2_markOf_0 rfl ?_
    refine E.iload_n C dX2_markOf_1 rfl ?_
    refine E.iload_n C dX2_markOf_2 rfl ?_
    refine E.callV C (m_X2_countingOf hM hW0 (by omega) (by omega)) dX2_markOf_3 q2278 q2280 qs44 q76 q2281 mh_X2_countingOf (by decide) (by decide) hM.rv rfl (Nat.le_of_ble_eq_true rfl) (by omega) (fun _ _ hx => hx.elim) ?_
    rintro v u ⟨rfl, rfl⟩
    rw [hc]
    refine E.ri (show _ = -1 from rfl) ?_
    refine E.istore_n C dX2_markOf_6 (kn_ _ (by decide)) ?_
    refine E.aload_n C dX2_markOf_7 rfl ?_
    refine E.getf C dX2_markOf_8 hM.cell rfl 34 q2066 (by decide) rfl rfl ?_
    refine E.bipush C dX2_markOf_11 (v := nI 10) (by decide) ?_
    refine E.iload_n C dX2_markOf_13 rfl ?_
    refine E.imulN C dX2_markOf_14 ?_
    refine E.iload_n C dX2_markOf_15 rfl ?_
    refine E.iaddN C dX2_markOf_16 ?_
    refine E.zald C dX2_markOf_17 hM.a34 (nI_in (by omega) (by omega)) (congrArg (fun k => nI (σ.1 19 k)) (nI_clamp (by omega))) ?_
    refine E.ifN_ne C dX2_markOf_18 (tgt := 26) (by decide) (by omega) (fun c18 => ?_) (fun c18 => ?_)
    · refine E.iconst C dX2_markOf_26 (v := nI 0) (by decide) ?_
      refine E.endI C N dX2_markOf_27 (by omega) ?_
      exact ⟨by simp [mrk, hc], rfl⟩
    · refine E.iload_n C dX2_markOf_21 rfl ?_
      refine E.iconst C dX2_markOf_22 (v := (-1)) (by decide) ?_
      refine E.icmp_ne C dX2_markOf_23 (tgt := 28) (by decide) (fun c => absurd c (by decide)) (fun cz => ?_)
      clear cz
      refine E.iconst C dX2_markOf_26 (v := nI 0) (by decide) ?_
      refine E.endI C N dX2_markOf_27 (by omega) ?_
      exact ⟨by simp [mrk, hc], rfl⟩
  | some v =>
    have hv := (cgt_lt hc).1
    refine E.aload_n C dX2_markOf_0 rfl ?_
    refine E.iload_n C dX2_markOf_1 rfl ?_
    refine E.iload_n C dX2_markOf_2 rfl ?_
    refine E.callV C (m_X2_countingOf hM hW0 (by omega) (by omega)) dX2_markOf_3 q2278 q2280 qs44 q76 q2281 mh_X2_countingOf (by decide) (by decide) hM.rv rfl (Nat.le_of_ble_eq_true rfl) (by omega) (fun _ _ hx => hx.elim) ?_
    rintro v u ⟨rfl, rfl⟩
    rw [hc]
    refine E.ri (show _ = nI v from rfl) ?_
    refine E.istore_n C dX2_markOf_6 (kn_ _ (by decide)) ?_
    refine E.aload_n C dX2_markOf_7 rfl ?_
    refine E.getf C dX2_markOf_8 hM.cell rfl 34 q2066 (by decide) rfl rfl ?_
    refine E.bipush C dX2_markOf_11 (v := nI 10) (by decide) ?_
    refine E.iload_n C dX2_markOf_13 rfl ?_
    refine E.imulN C dX2_markOf_14 ?_
    refine E.iload_n C dX2_markOf_15 rfl ?_
    refine E.iaddN C dX2_markOf_16 ?_
    refine E.zald C dX2_markOf_17 hM.a34 (nI_in (by omega) (by omega)) (congrArg (fun k => nI (σ.1 19 k)) (nI_clamp (by omega))) ?_
    refine E.ifN_ne C dX2_markOf_18 (tgt := 26) (by decide) (by omega) (fun c18 => ?_) (fun c18 => ?_)
    · refine E.iconst C dX2_markOf_26 (v := nI 0) (by decide) ?_
      refine E.endI C N dX2_markOf_27 (by omega) ?_
      exact ⟨by simp [mrk, hc, c18], rfl⟩
    · refine E.iload_n C dX2_markOf_21 rfl ?_
      refine E.iconst C dX2_markOf_22 (v := (-1)) (by decide) ?_
      refine E.icmp_ne C dX2_markOf_23 (tgt := 28) (by decide) (fun c23 => ?_) (fun c23 => absurd c23 (nI_m1 (by omega)))
      refine E.iconst C dX2_markOf_28 (v := nI 0) (by decide) ?_
      refine E.aload_n C dX2_markOf_29 rfl ?_
      refine E.getf C dX2_markOf_30 hM.cell rfl 14 q2046 (by decide) rfl rfl ?_
      refine E.iload_n C dX2_markOf_33 rfl ?_
      refine E.iald C dX2_markOf_34 hM.a14 (nI_in (by omega) (by omega)) (congrArg (σ.2 4) (nI_clamp (by omega))) ?_
      refine E.aload_n C dX2_markOf_35 rfl ?_
      refine E.getf C dX2_markOf_36 hM.cell rfl 26 q2058 (by decide) rfl rfl ?_
      refine E.iload_n C dX2_markOf_39 rfl ?_
      refine E.iald C dX2_markOf_40 hM.a26 (nI_in (by omega) (by omega)) (congrArg (σ.2 10) (nI_clamp (by omega))) ?_
      refine E.imul C dX2_markOf_41 ?_
      refine E.bipush C dX2_markOf_42 (v := nI 100) (by decide) ?_
      refine E.idiv C dX2_markOf_44 (by decide) ?_
      refine E.aload_n C dX2_markOf_45 rfl ?_
      refine E.iload_n C dX2_markOf_46 rfl ?_
      refine E.aload_n C dX2_markOf_47 rfl ?_
      refine E.iload_n C dX2_markOf_48 rfl ?_
      refine E.callV C (m_X2_lateOf hM hW0 (by omega)) dX2_markOf_49 q2290 q2292 qs45 q76 q2293 mh_X2_lateOf (by decide) (by decide) hM.rv rfl (Nat.le_of_ble_eq_true rfl) (by omega) (fun _ _ hx => hx.elim) ?_
      rintro v u ⟨rfl, rfl⟩
      refine E.callV C (m_X2_offOf hM hW0 (by omega)) dX2_markOf_52 q2308 q2310 qs47 q76 q2311 mh_X2_offOf (by decide) (by decide) hM.rv rfl (Nat.le_of_ble_eq_true rfl) (by omega) (fun _ _ hx => hx.elim) ?_
      rintro v u ⟨rfl, rfl⟩
      refine E.isub C dX2_markOf_55 ?_
      refine E.callS C (m_X2_greater) dX2_markOf_56 q2298 q2299 q76 q2300 mh_X2_greater (by decide) (by decide) rfl (Nat.le_of_ble_eq_true rfl) (by omega) (fun _ _ hx => hx.elim) ?_
      rintro v u ⟨rfl, rfl⟩
      refine E.endI C N dX2_markOf_59 (by omega) ?_
      exact ⟨by simp [mrk, hc, c18], rfl⟩
theorem m_X2_holdersOf (hM : MP G h m ad σ) (hW : Wb σ) {x : Int32} {n : Nat} (hn9 : n ≤ σ.1 3 0) : gMet 1 yX2_holdersOf cX2_holdersOf 6 (some .int) G h [.ref m, .int x, .int (nI n)] (fun w u => w = some (.int (nI (hol σ x n))) ∧ u = h) gNo 0 := by
  refine gMet.of (by decide) (Nat.le_of_ble_eq_true rfl) (fun K C N hG hn hin => ?_)
  subst hG
  have kn_ : ∀ j : Nat, j < 6 → j < kn K := fun j hj => by rw [hn]; exact hj
  obtain ⟨b0, b1, b2, b3, b4, b5, b6, b7, b8, b9, b10, b11⟩ := hW
  have inn : ∀ (v c0 : Nat), v < n → ∀ (d k c : Nat), k + d = σ.1 15 v → c = c0 + sumN (fun k => bN (decide (σ.1 13 v = 1) && decide (σ.2 12 (40 * v + k) = x))) k → (∀ c9, c9 = c0 + hlV σ x v → E K 5 [(0, .ref m), (1, .int x), (2, .int (nI n)), (3, .int (nI c9)), (4, .int (nI (v + 1)))] [] h 0) → E K 14 [(0, .ref m), (1, .int x), (2, .int (nI n)), (3, .int (nI c)), (4, .int (nI v)), (5, .int (nI k))] [] h 0 := by
    intro v c0 hv d
    have zv := b9 v (by omega)
    have sv := b11 v
    induction d with
    | zero =>
      intro k c hk hc cont
      refine E.iload C dX2_holdersOf_14 rfl ?_
      refine E.aload_n C dX2_holdersOf_16 rfl ?_
      refine E.getf C dX2_holdersOf_17 hM.cell rfl 29 q2061 (by decide) rfl rfl ?_
      refine E.iload C dX2_holdersOf_20 rfl ?_
      refine E.iald C dX2_holdersOf_22 hM.a29 (nI_in (by omega) (by omega)) (congrArg (fun k => nI (σ.1 15 k)) (nI_clamp (by omega))) ?_
      refine E.icmpN_ge C dX2_holdersOf_23 (tgt := 68) (by decide) (by omega) (by omega) (fun c23 => ?_) (fun c23 => absurd c23 (by omega))
      refine E.iincN C dX2_holdersOf_68 rfl (kn_ _ (by decide)) ?_
      refine E.goto C dX2_holdersOf_71 (tgt := 5) (by decide) ?_
      refine E.sub [0, 1, 2, 3, 4] rfl (cont _ ?_)
      rw [hc, hlV, ← hk]; rfl
    | succ d ih =>
      intro k c hk hc cont
      refine E.iload C dX2_holdersOf_14 rfl ?_
      refine E.aload_n C dX2_holdersOf_16 rfl ?_
      refine E.getf C dX2_holdersOf_17 hM.cell rfl 29 q2061 (by decide) rfl rfl ?_
      refine E.iload C dX2_holdersOf_20 rfl ?_
      refine E.iald C dX2_holdersOf_22 hM.a29 (nI_in (by omega) (by omega)) (congrArg (fun k => nI (σ.1 15 k)) (nI_clamp (by omega))) ?_
      refine E.icmpN_ge C dX2_holdersOf_23 (tgt := 68) (by decide) (by omega) (by omega) (fun c23 => absurd c23 (by omega)) (fun c23 => ?_)
      refine E.iload_n C dX2_holdersOf_26 rfl ?_
      refine E.aload_n C dX2_holdersOf_27 rfl ?_
      refine E.getf C dX2_holdersOf_28 hM.cell rfl 23 q2055 (by decide) rfl rfl ?_
      refine E.iload C dX2_holdersOf_31 rfl ?_
      refine E.iald C dX2_holdersOf_33 hM.a23 (nI_in (by omega) (by omega)) (congrArg (fun k => nI (σ.1 13 k)) (nI_clamp (by omega))) ?_
      refine E.iconst C dX2_holdersOf_34 (v := nI 1) (by decide) ?_
      refine E.icmpN_ne C dX2_holdersOf_35 (tgt := 59) (by decide) (by omega) (by omega) (fun c35 => ?_) (fun c35 => ?_)
      · refine E.iconst C dX2_holdersOf_59 (v := nI 0) (by decide) ?_
        refine E.iaddN C dX2_holdersOf_60 ?_
        refine E.istore_n C dX2_holdersOf_61 (kn_ _ (by decide)) ?_
        refine E.iincN C dX2_holdersOf_62 rfl (kn_ _ (by decide)) ?_
        refine E.goto C dX2_holdersOf_65 (tgt := 14) (by decide) ?_
        refine ih (k + 1) _ (by omega) ?_ cont
        first | (rw [hc, sumN, show bN (decide (σ.1 13 v = 1) && decide (σ.2 12 (40 * v + k) = x)) = 1 from by simp [bN, *]]; omega) | (rw [hc, sumN, show bN (decide (σ.1 13 v = 1) && decide (σ.2 12 (40 * v + k) = x)) = 0 from by simp [bN, *]]; rfl)
      · refine E.aload_n C dX2_holdersOf_38 rfl ?_
        refine E.getf C dX2_holdersOf_39 hM.cell rfl 28 q2060 (by decide) rfl rfl ?_
        refine E.bipush C dX2_holdersOf_42 (v := nI 40) (by decide) ?_
        refine E.iload C dX2_holdersOf_44 rfl ?_
        refine E.imulN C dX2_holdersOf_46 ?_
        refine E.iload C dX2_holdersOf_47 rfl ?_
        refine E.iaddN C dX2_holdersOf_49 ?_
        refine E.iald C dX2_holdersOf_50 hM.a28 (nI_in (by omega) (by omega)) (congrArg (σ.2 12) (nI_clamp (by omega))) ?_
        refine E.iload_n C dX2_holdersOf_51 rfl ?_
        refine E.icmp_ne C dX2_holdersOf_52 (tgt := 59) (by decide) (fun c52 => ?_) (fun c52 => ?_)
        · refine E.iconst C dX2_holdersOf_59 (v := nI 0) (by decide) ?_
          refine E.iaddN C dX2_holdersOf_60 ?_
          refine E.istore_n C dX2_holdersOf_61 (kn_ _ (by decide)) ?_
          refine E.iincN C dX2_holdersOf_62 rfl (kn_ _ (by decide)) ?_
          refine E.goto C dX2_holdersOf_65 (tgt := 14) (by decide) ?_
          refine ih (k + 1) _ (by omega) ?_ cont
          first | (rw [hc, sumN, show bN (decide (σ.1 13 v = 1) && decide (σ.2 12 (40 * v + k) = x)) = 1 from by simp [bN, *]]; omega) | (rw [hc, sumN, show bN (decide (σ.1 13 v = 1) && decide (σ.2 12 (40 * v + k) = x)) = 0 from by simp [bN, *]]; rfl)
        · refine E.iconst C dX2_holdersOf_55 (v := nI 1) (by decide) ?_
          refine E.goto C dX2_holdersOf_56 (tgt := 60) (by decide) ?_
          refine E.iaddN C dX2_holdersOf_60 ?_
          refine E.istore_n C dX2_holdersOf_61 (kn_ _ (by decide)) ?_
          refine E.iincN C dX2_holdersOf_62 rfl (kn_ _ (by decide)) ?_
          refine E.goto C dX2_holdersOf_65 (tgt := 14) (by decide) ?_
          refine ih (k + 1) _ (by omega) ?_ cont
          first | (rw [hc, sumN, show bN (decide (σ.1 13 v = 1) && decide (σ.2 12 (40 * v + k) = x)) = 1 from by simp [bN, *]]; omega) | (rw [hc, sumN, show bN (decide (σ.1 13 v = 1) && decide (σ.2 12 (40 * v + k) = x)) = 0 from by simp [bN, *]]; rfl)
  have lp : ∀ (d k : Nat) (c : Nat), k + d = n → c = hol σ x k → E K 5 [(0, .ref m), (1, .int x), (2, .int (nI n)), (3, .int (nI c)), (4, .int (nI k))] [] h (0) := by
    intro d
    induction d with
    | zero =>
      intro k c hk hc
      have n6 : n ≤ 60 := by omega
      refine E.iload C dX2_holdersOf_5 rfl ?_
      refine E.iload_n C dX2_holdersOf_7 rfl ?_
      refine E.icmpN_ge C dX2_holdersOf_8 (tgt := 74) (by decide) (by omega) (by omega) (fun c8 => ?_) (fun c8 => absurd c8 (by omega))
      refine E.iload_n C dX2_holdersOf_74 rfl ?_
      refine E.endI C N dX2_holdersOf_75 (by omega) ?_
      exact ⟨by rw [hc, ← hk]; rfl, rfl⟩
    | succ d ih =>
      intro k c hk hc
      have n6 : n ≤ 60 := by omega
      refine E.iload C dX2_holdersOf_5 rfl ?_
      refine E.iload_n C dX2_holdersOf_7 rfl ?_
      refine E.icmpN_ge C dX2_holdersOf_8 (tgt := 74) (by decide) (by omega) (by omega) (fun c8 => absurd c8 (by omega)) (fun c8 => ?_)
      refine E.iconst C dX2_holdersOf_11 (v := nI 0) (by decide) ?_
      refine E.istore C dX2_holdersOf_12 (kn_ _ (by decide)) ?_
      refine inn k c (by omega) (σ.1 15 k) 0 c (by omega) rfl (fun c9 h9 => ih (k + 1) c9 (by omega) ?_)
      rw [h9, hc]; rfl
  refine E.iconst C dX2_holdersOf_0 (v := nI 0) (by decide) ?_
  refine E.istore_n C dX2_holdersOf_1 (kn_ _ (by decide)) ?_
  refine E.iconst C dX2_holdersOf_2 (v := nI 0) (by decide) ?_
  refine E.istore C dX2_holdersOf_3 (kn_ _ (by decide)) ?_
  exact lp n 0 0 (by omega) rfl
theorem hol_le {σ : Sg} (hW : Wb σ) {x : Int32} {n : Nat} (hn9 : n ≤ σ.1 3 0) : hol σ x n ≤ 2220 := by
  have h1 := sumN_leB (f := hlV σ x) (b := 37) n (fun i hi => by
    have h2 := sumN_le (f := fun k => bN (decide (σ.1 13 i = 1) && decide (σ.2 12 (40 * i + k) = x))) (b := 1) (fun i => bN_le _) (σ.1 15 i)
    have h3 := (hW.2.2.2.2.2.2.2.2.2.1 i (by omega)).2.2.2.1
    unfold hlV
    omega)
  have h4 := hW.2.2.2.1
  have h5 : n * 37 ≤ 60 * 37 := Nat.mul_le_mul_right 37 (by omega)
  unfold hol
  omega
theorem m_X2_byteSumOf (hM : MP G h m ad σ) (hW : Wb σ) {v : Nat} (hv : v < σ.1 3 0) : gMet 2 yX2_byteSumOf cX2_byteSumOf 6 (some .byte) G h [.ref m, .int (nI v)] (fun w u => w = some (.int (bsV σ v (σ.1 12 v))) ∧ u = h) gNo 0 := by
  refine gMet.of (by decide) (Nat.le_of_ble_eq_true rfl) (fun K C N hG hn hin => ?_)
  subst hG
  have kn_ : ∀ j : Nat, j < 6 → j < kn K := fun j hj => by rw [hn]; exact hj
  obtain ⟨b0, b1, b2, b3, b4, b5, b6, b7, b8, b9, b10, b11⟩ := hW
  have zv := b9 v hv
  have inn : ∀ (i : Nat) (cc9 : Int32), i < σ.1 12 v → cc9 = σ.2 11 (40 * v + i) → ∀ (d k : Nat) (s : Int32), k + d = mcs cc9 → s = bsC cc9 k (bsV σ v i) → E K 4 [(0, .ref m), (1, .int (nI v)), (2, .int (bsC cc9 (mcs cc9) (bsV σ v i))), (3, .int (nI (i + 1)))] [] h 0 → E K 30 [(0, .ref m), (1, .int (nI v)), (2, .int s), (3, .int (nI i)), (4, .int cc9), (5, .int (nI k))] [] h 0 := by
    intro i cc9 hi hcc d
    have ml := mcs_le cc9
    induction d with
    | zero =>
      intro k s hk hs cont
      refine E.iload C dX2_byteSumOf_30 rfl ?_
      refine E.iload C dX2_byteSumOf_32 rfl ?_
      refine E.callS C (m_X2_charsOf) dX2_byteSumOf_34 q2196 q2197 q76 q2198 mh_X2_charsOf (by decide) (by decide) rfl (Nat.le_of_ble_eq_true rfl) (by omega) (fun _ _ hx => hx.elim) ?_
      rintro v u ⟨rfl, rfl⟩
      refine E.icmpN_ge C dX2_byteSumOf_37 (tgt := 57) (by decide) (by omega) (by omega) (fun c37 => ?_) (fun c37 => absurd c37 (by omega))
      refine E.iincN C dX2_byteSumOf_57 rfl (kn_ _ (by decide)) ?_
      refine E.goto C dX2_byteSumOf_60 (tgt := 4) (by decide) ?_
      rw [hs, show k = mcs cc9 by omega]
      exact E.sub [0, 1, 2, 3] rfl cont
    | succ d ih =>
      intro k s hk hs cont
      refine E.iload C dX2_byteSumOf_30 rfl ?_
      refine E.iload C dX2_byteSumOf_32 rfl ?_
      refine E.callS C (m_X2_charsOf) dX2_byteSumOf_34 q2196 q2197 q76 q2198 mh_X2_charsOf (by decide) (by decide) rfl (Nat.le_of_ble_eq_true rfl) (by omega) (fun _ _ hx => hx.elim) ?_
      rintro v u ⟨rfl, rfl⟩
      refine E.icmpN_ge C dX2_byteSumOf_37 (tgt := 57) (by decide) (by omega) (by omega) (fun c37 => absurd c37 (by omega)) (fun c37 => ?_)
      refine E.iload_n C dX2_byteSumOf_40 rfl ?_
      refine E.iload C dX2_byteSumOf_41 rfl ?_
      refine E.iload C dX2_byteSumOf_43 rfl ?_
      refine E.callS C (m_X2_charOf) dX2_byteSumOf_45 q2212 q2213 q76 q2214 mh_X2_charOf (by decide) (by decide) rfl (Nat.le_of_ble_eq_true rfl) (by omega) (fun _ _ hx => hx.elim) ?_
      rintro v u ⟨rfl, rfl⟩
      refine E.iadd C dX2_byteSumOf_48 ?_
      refine E.i2b C dX2_byteSumOf_49 ?_
      refine E.istore_n C dX2_byteSumOf_50 (kn_ _ (by decide)) ?_
      refine E.iincN C dX2_byteSumOf_51 rfl (kn_ _ (by decide)) ?_
      refine E.goto C dX2_byteSumOf_54 (tgt := 30) (by decide) ?_
      exact ih (k + 1) _ (by omega) (by rw [hs]; rfl) cont
  have fb : ∀ n, narrow .byte (.int (bsV σ v n)) = .int (bsV σ v n) := by
    intro n
    cases n with
    | zero => rfl
    | succ n =>
      have : ∀ (j : Nat) (s : Int32), 1 ≤ j → ∃ z : Int32, bsC (σ.2 11 (40 * v + n)) j s = z.toInt8.toInt32 := fun j s hj => by
        cases j with
        | zero => exact absurd hj (by decide)
        | succ j => exact ⟨_, rfl⟩
      obtain ⟨z, hz⟩ := this (mcs (σ.2 11 (40 * v + n))) (bsV σ v n) (by unfold mcs; split <;> decide)
      rw [bsV, hz]
      exact pk_nb z
  have lp : ∀ (d k : Nat), k + d = σ.1 12 v → E K 4 [(0, .ref m), (1, .int (nI v)), (2, .int (bsV σ v k)), (3, .int (nI k))] [] h (0) := by
    intro d
    induction d with
    | zero =>
      intro k hk
      have ek : k = σ.1 12 v := by omega
      subst ek
      refine E.iload_n C dX2_byteSumOf_4 rfl ?_
      refine E.aload_n C dX2_byteSumOf_5 rfl ?_
      refine E.getf C dX2_byteSumOf_6 hM.cell rfl 22 q2054 (by decide) rfl rfl ?_
      refine E.iload_n C dX2_byteSumOf_9 rfl ?_
      refine E.iald C dX2_byteSumOf_10 hM.a22 (nI_in (by omega) (by omega)) (congrArg (fun k => nI (σ.1 12 k)) (nI_clamp (by omega))) ?_
      refine E.icmpN_ge C dX2_byteSumOf_11 (tgt := 63) (by decide) (by omega) (by omega) (fun c11 => ?_) (fun c11 => absurd c11 (by omega))
      refine E.iload_n C dX2_byteSumOf_63 rfl ?_
      refine E.endZ C N dX2_byteSumOf_64 (fb _) (by omega) ?_
      exact ⟨rfl, rfl⟩
    | succ d ih =>
      intro k hk
      refine E.iload_n C dX2_byteSumOf_4 rfl ?_
      refine E.aload_n C dX2_byteSumOf_5 rfl ?_
      refine E.getf C dX2_byteSumOf_6 hM.cell rfl 22 q2054 (by decide) rfl rfl ?_
      refine E.iload_n C dX2_byteSumOf_9 rfl ?_
      refine E.iald C dX2_byteSumOf_10 hM.a22 (nI_in (by omega) (by omega)) (congrArg (fun k => nI (σ.1 12 k)) (nI_clamp (by omega))) ?_
      refine E.icmpN_ge C dX2_byteSumOf_11 (tgt := 63) (by decide) (by omega) (by omega) (fun c11 => absurd c11 (by omega)) (fun c11 => ?_)
      refine E.aload_n C dX2_byteSumOf_14 rfl ?_
      refine E.getf C dX2_byteSumOf_15 hM.cell rfl 27 q2059 (by decide) rfl rfl ?_
      refine E.bipush C dX2_byteSumOf_18 (v := nI 40) (by decide) ?_
      refine E.iload_n C dX2_byteSumOf_20 rfl ?_
      refine E.imulN C dX2_byteSumOf_21 ?_
      refine E.iload_n C dX2_byteSumOf_22 rfl ?_
      refine E.iaddN C dX2_byteSumOf_23 ?_
      refine E.iald C dX2_byteSumOf_24 hM.a27 (nI_in (by omega) (by omega)) (congrArg (σ.2 11) (nI_clamp (by omega))) ?_
      refine E.istore C dX2_byteSumOf_25 (kn_ _ (by decide)) ?_
      refine E.iconst C dX2_byteSumOf_27 (v := nI 0) (by decide) ?_
      refine E.istore C dX2_byteSumOf_28 (kn_ _ (by decide)) ?_
      exact inn k _ (by omega) rfl (mcs (σ.2 11 (40 * v + k))) 0 _ (by omega) rfl (ih (k + 1) (by omega))
  refine E.iconst C dX2_byteSumOf_0 (v := nI 0) (by decide) ?_
  refine E.istore_n C dX2_byteSumOf_1 (kn_ _ (by decide)) ?_
  refine E.iconst C dX2_byteSumOf_2 (v := nI 0) (by decide) ?_
  refine E.istore_n C dX2_byteSumOf_3 (kn_ _ (by decide)) ?_
  exact lp (σ.1 12 v) 0 (by omega)
end M4
