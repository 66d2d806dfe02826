/-! the reference's public methods: questions -/
set_option maxRecDepth 100000
section M5
variable {G : gG} {h : gH} {m : Nat} {ad : Nat → Nat} {σ : Sg}
theorem m_X2_forks (hM : MP G h m ad σ) (hW : Wb σ) {p : Int32} : gMet 3 yX2_forks cX2_forks 5 (some .int) G h [.ref m, .int p] (MR G h m ad (o_forks σ p)) gNo 0 := by
  refine gMet.of (by decide) (Nat.le_of_ble_eq_true rfl) (fun K C N hG hn hin => ?_)
  subst hG
  have kn_ : ∀ j : Nat, j < 5 → j < kn K := fun j hj => by rw [hn]; exact hj
  have hg : gfr 1 h h := gfr.rf
  have hW0 := hW
  obtain ⟨b0, b1, b2, b3, b4, b5, b6, b7, b8, b9, b10, b11⟩ := hW
  have lpv : ∀ v, v < σ.1 3 0 → p = nI v → ∀ (d k c : Nat), k + d = σ.1 3 0 → c = sumN (fun k => bN (lik σ v k && decide (¬ k = v))) k → E K 18 [(0, .ref m), (1, .int (nI v)), (2, .int (nI c)), (3, .int (nI k))] [] h 0 := by
    intro v hv hp9
    subst hp9
    have zv := b9 v hv
    intro d
    induction d with
    | zero =>
      intro k c hk hc
      refine E.iload_n C dX2_forks_18 rfl ?_
      refine E.aload_n C dX2_forks_19 rfl ?_
      refine E.getf C dX2_forks_20 hM.cell rfl 4 q2036 (by decide) rfl rfl ?_
      refine E.icmpN_ge C dX2_forks_23 (tgt := 102) (by decide) (by omega) (by omega) (fun c23 => ?_) (fun c23 => absurd c23 (by omega))
      refine E.aload_n C dX2_forks_102 rfl ?_
      refine E.iload_n C dX2_forks_103 rfl ?_
      refine E.callV C (m_X2_tells hM) dX2_forks_104 q2153 q2155 qs33 q76 q2156 mh_X2_tells (by decide) (by decide) hM.rv rfl (Nat.le_of_ble_eq_true rfl) (by omega) (fun _ _ hx => hx.elim) ?_
      rintro v u ⟨rfl, hM, g9⟩
      replace hg := hg.tr g9
      refine E.endI C N dX2_forks_107 (by omega) ?_
      exact MR.mk (by rw [o_forks, if_pos (bt_ix2 (by omega) hv), nI_clamp (by omega), ← hk, hc]; rfl) hM hg
    | succ d ih =>
      intro k c hk hc
      have zk := b9 k (by omega)
      have nx : ∀ c9, c9 = sumN (fun k => bN (lik σ v k && decide (¬ k = v))) (k + 1) → ∀ l8, lv_pick l8 [0, 1, 2, 3] = [(0, .ref m), (1, .int (nI v)), (2, .int (nI c9)), (3, .int (nI (k + 1)))] → E K 18 l8 [] h 0 := fun c9 h9 l8 h8 => E.sub [0, 1, 2, 3] h8 (ih (k + 1) c9 (by omega) h9)
      refine E.iload_n C dX2_forks_18 rfl ?_
      refine E.aload_n C dX2_forks_19 rfl ?_
      refine E.getf C dX2_forks_20 hM.cell rfl 4 q2036 (by decide) rfl rfl ?_
      refine E.icmpN_ge C dX2_forks_23 (tgt := 102) (by decide) (by omega) (by omega) (fun c23 => absurd c23 (by omega)) (fun c23 => ?_)
      refine E.aload_n C dX2_forks_26 rfl ?_
      refine E.getf C dX2_forks_27 hM.cell rfl 18 q2050 (by decide) rfl rfl ?_
      refine E.iload_n C dX2_forks_30 rfl ?_
      refine E.iald C dX2_forks_31 hM.a18 (nI_in (by omega) (by omega)) (congrArg (fun k => nI (σ.1 9 k)) (nI_clamp (by omega))) ?_
      refine E.aload_n C dX2_forks_32 rfl ?_
      refine E.getf C dX2_forks_33 hM.cell rfl 18 q2050 (by decide) rfl rfl ?_
      refine E.iload_n C dX2_forks_36 rfl ?_
      refine E.iald C dX2_forks_37 hM.a18 (nI_in (by omega) (by omega)) (congrArg (fun k => nI (σ.1 9 k)) (nI_clamp (by omega))) ?_
      refine E.icmpN_ne C dX2_forks_38 (tgt := 75) (by decide) (by omega) (by omega) (fun c38 => ?_) (fun c38 => ?_)
      · refine E.iconst C dX2_forks_75 (v := nI 0) (by decide) ?_
        refine E.istore C dX2_forks_76 (kn_ _ (by decide)) ?_
        refine E.iload_n C dX2_forks_78 rfl ?_
        refine E.iload C dX2_forks_79 rfl ?_
        refine E.if_eq C dX2_forks_81 (tgt := 93) (by decide) (fun cz => ?_) (fun c => absurd c (by decide))
        clear cz
        refine E.iconst C dX2_forks_93 (v := nI 0) (by decide) ?_
        refine E.iaddN C dX2_forks_94 ?_
        refine E.istore_n C dX2_forks_95 (kn_ _ (by decide)) ?_
        refine E.iincN C dX2_forks_96 rfl (kn_ _ (by decide)) ?_
        refine E.goto C dX2_forks_99 (tgt := 18) (by decide) ?_
        first | exact nx (c + 1) (by rw [sumN, ← hc]; simp [lik, bN, *]) _ rfl | exact nx (c + 0) (by rw [sumN, ← hc]; simp [lik, bN, *]) _ rfl
      · refine E.aload_n C dX2_forks_41 rfl ?_
        refine E.getf C dX2_forks_42 hM.cell rfl 19 q2051 (by decide) rfl rfl ?_
        refine E.iload_n C dX2_forks_45 rfl ?_
        refine E.iald C dX2_forks_46 hM.a19 (nI_in (by omega) (by omega)) (congrArg (fun k => nI (σ.1 10 k)) (nI_clamp (by omega))) ?_
        refine E.aload_n C dX2_forks_47 rfl ?_
        refine E.getf C dX2_forks_48 hM.cell rfl 19 q2051 (by decide) rfl rfl ?_
        refine E.iload_n C dX2_forks_51 rfl ?_
        refine E.iald C dX2_forks_52 hM.a19 (nI_in (by omega) (by omega)) (congrArg (fun k => nI (σ.1 10 k)) (nI_clamp (by omega))) ?_
        refine E.icmpN_ne C dX2_forks_53 (tgt := 75) (by decide) (by omega) (by omega) (fun c53 => ?_) (fun c53 => ?_)
        · refine E.iconst C dX2_forks_75 (v := nI 0) (by decide) ?_
          refine E.istore C dX2_forks_76 (kn_ _ (by decide)) ?_
          refine E.iload_n C dX2_forks_78 rfl ?_
          refine E.iload C dX2_forks_79 rfl ?_
          refine E.if_eq C dX2_forks_81 (tgt := 93) (by decide) (fun cz => ?_) (fun c => absurd c (by decide))
          clear cz
          refine E.iconst C dX2_forks_93 (v := nI 0) (by decide) ?_
          refine E.iaddN C dX2_forks_94 ?_
          refine E.istore_n C dX2_forks_95 (kn_ _ (by decide)) ?_
          refine E.iincN C dX2_forks_96 rfl (kn_ _ (by decide)) ?_
          refine E.goto C dX2_forks_99 (tgt := 18) (by decide) ?_
          first | exact nx (c + 1) (by rw [sumN, ← hc]; simp [lik, bN, *]) _ rfl | exact nx (c + 0) (by rw [sumN, ← hc]; simp [lik, bN, *]) _ rfl
        · refine E.aload_n C dX2_forks_56 rfl ?_
          refine E.getf C dX2_forks_57 hM.cell rfl 20 q2052 (by decide) rfl rfl ?_
          refine E.iload_n C dX2_forks_60 rfl ?_
          refine E.iald C dX2_forks_61 hM.a20 (nI_in (by omega) (by omega)) (congrArg (σ.2 15) (nI_clamp (by omega))) ?_
          refine E.aload_n C dX2_forks_62 rfl ?_
          refine E.getf C dX2_forks_63 hM.cell rfl 20 q2052 (by decide) rfl rfl ?_
          refine E.iload_n C dX2_forks_66 rfl ?_
          refine E.iald C dX2_forks_67 hM.a20 (nI_in (by omega) (by omega)) (congrArg (σ.2 15) (nI_clamp (by omega))) ?_
          refine E.icmp_ne C dX2_forks_68 (tgt := 75) (by decide) (fun c68 => ?_) (fun c68 => ?_)
          · refine E.iconst C dX2_forks_75 (v := nI 0) (by decide) ?_
            refine E.istore C dX2_forks_76 (kn_ _ (by decide)) ?_
            refine E.iload_n C dX2_forks_78 rfl ?_
            refine E.iload C dX2_forks_79 rfl ?_
            refine E.if_eq C dX2_forks_81 (tgt := 93) (by decide) (fun cz => ?_) (fun c => absurd c (by decide))
            clear cz
            refine E.iconst C dX2_forks_93 (v := nI 0) (by decide) ?_
            refine E.iaddN C dX2_forks_94 ?_
            refine E.istore_n C dX2_forks_95 (kn_ _ (by decide)) ?_
            refine E.iincN C dX2_forks_96 rfl (kn_ _ (by decide)) ?_
            refine E.goto C dX2_forks_99 (tgt := 18) (by decide) ?_
            first | exact nx (c + 1) (by rw [sumN, ← hc]; simp [lik, bN, *]) _ rfl | exact nx (c + 0) (by rw [sumN, ← hc]; simp [lik, bN, *]) _ rfl
          · refine E.iconst C dX2_forks_71 (v := nI 1) (by decide) ?_
            refine E.goto C dX2_forks_72 (tgt := 76) (by decide) ?_
            refine E.istore C dX2_forks_76 (kn_ _ (by decide)) ?_
            refine E.iload_n C dX2_forks_78 rfl ?_
            refine E.iload C dX2_forks_79 rfl ?_
            refine E.if_eq C dX2_forks_81 (tgt := 93) (by decide) (fun c => absurd c (by decide)) (fun cz => ?_)
            clear cz
            refine E.iload_n C dX2_forks_84 rfl ?_
            refine E.iload_n C dX2_forks_85 rfl ?_
            refine E.icmpN_eq C dX2_forks_86 (tgt := 93) (by decide) (by omega) (by omega) (fun c86 => ?_) (fun c86 => ?_)
            · refine E.iconst C dX2_forks_93 (v := nI 0) (by decide) ?_
              refine E.iaddN C dX2_forks_94 ?_
              refine E.istore_n C dX2_forks_95 (kn_ _ (by decide)) ?_
              refine E.iincN C dX2_forks_96 rfl (kn_ _ (by decide)) ?_
              refine E.goto C dX2_forks_99 (tgt := 18) (by decide) ?_
              first | exact nx (c + 1) (by rw [sumN, ← hc]; simp [lik, bN, *]) _ rfl | exact nx (c + 0) (by rw [sumN, ← hc]; simp [lik, bN, *]) _ rfl
            · refine E.iconst C dX2_forks_89 (v := nI 1) (by decide) ?_
              refine E.goto C dX2_forks_90 (tgt := 94) (by decide) ?_
              refine E.iaddN C dX2_forks_94 ?_
              refine E.istore_n C dX2_forks_95 (kn_ _ (by decide)) ?_
              refine E.iincN C dX2_forks_96 rfl (kn_ _ (by decide)) ?_
              refine E.goto C dX2_forks_99 (tgt := 18) (by decide) ?_
              first | exact nx (c + 1) (by rw [sumN, ← hc]; simp [lik, bN, *]) _ rfl | exact nx (c + 0) (by rw [sumN, ← hc]; simp [lik, bN, *]) _ rfl
  refine E.aload_n C dX2_forks_0 rfl ?_
  refine E.iload_n C dX2_forks_1 rfl ?_
  refine E.callV C (m_X2_isVersion hM b3) dX2_forks_2 q2230 q2232 qs38 q76 q2233 mh_X2_isVersion (by decide) (by decide) hM.rv rfl (Nat.le_of_ble_eq_true rfl) (by omega) (fun _ _ hx => hx.elim) ?_
  rintro v u (⟨rfl, q2, ⟨i2, hi2, rfl⟩, rfl⟩ | ⟨rfl, q2, rfl⟩)
  · have e2 := nI_clamp (show i2 < 2 ^ 31 by omega)
    refine E.if_ne C dX2_forks_5 (tgt := 14) (by decide) (fun cz => ?_) (fun c => absurd c (by decide))
    clear cz
    refine E.iconst C dX2_forks_14 (v := nI 0) (by decide) ?_
    refine E.istore_n C dX2_forks_15 (kn_ _ (by decide)) ?_
    refine E.iconst C dX2_forks_16 (v := nI 0) (by decide) ?_
    refine E.istore_n C dX2_forks_17 (kn_ _ (by decide)) ?_
    exact lpv i2 hi2 rfl (σ.1 3 0) 0 0 (by omega) rfl
  · refine E.if_ne C dX2_forks_5 (tgt := 14) (by decide) (fun c => absurd c (by decide)) (fun cz => ?_)
    clear cz
    refine E.aload_n C dX2_forks_8 rfl ?_
    refine E.iconst C dX2_forks_9 (v := nI 1) (by decide) ?_
    refine E.callV C (m_X2_fails hM) dX2_forks_10 q2149 q2151 qs32 q76 q2152 mh_X2_fails (by decide) (by decide) hM.rv rfl (Nat.le_of_ble_eq_true rfl) (by omega) (fun _ _ hx => hx.elim) ?_
    rintro v u ⟨rfl, hM, g9⟩
    replace hg := hg.tr g9
    refine E.endI C N dX2_forks_13 (by omega) ?_
    exact MR.mk (by simp [o_forks, oF, oT, *] <;> rfl) hM hg
theorem m_X2_heads (hM : MP G h m ad σ) (hW : Wb σ) {p t : Int32} : gMet 3 yX2_heads cX2_heads 7 (some .int) G h [.ref m, .int p, .int t] (MR G h m ad (o_heads σ p t)) gNo 0 := by
  refine gMet.of (by decide) (Nat.le_of_ble_eq_true rfl) (fun K C N hG hn hin => ?_)
  subst hG
  have kn_ : ∀ j : Nat, j < 7 → j < kn K := fun j hj => by rw [hn]; exact hj
  have hg : gfr 1 h h := gfr.rf
  have hW0 := hW
  obtain ⟨b0, b1, b2, b3, b4, b5, b6, b7, b8, b9, b10, b11⟩ := hW
  have lpv : ∀ a b, a < σ.1 1 0 → b < σ.1 2 0 → p = nI a → t = nI b → ∀ (d k c : Nat), k + d = σ.1 3 0 → c = sumN (fun k => bN (isHd σ a b k)) k → E K 27 [(0, .ref m), (1, .int (nI a)), (2, .int (nI b)), (3, .int (nI c)), (4, .int (nI k))] [] h 0 := by
    intro a b hp ht e1 e2 d
    subst e1 e2
    induction d with
    | zero =>
      intro k c hk hc
      refine E.iload C dX2_heads_27 rfl ?_
      refine E.aload_n C dX2_heads_29 rfl ?_
      refine E.getf C dX2_heads_30 hM.cell rfl 4 q2036 (by decide) rfl rfl ?_
      refine E.icmpN_ge C dX2_heads_33 (tgt := 129) (by decide) (by omega) (by omega) (fun c33 => ?_) (fun c33 => absurd c33 (by omega))
      refine E.aload_n C dX2_heads_129 rfl ?_
      refine E.iload_n C dX2_heads_130 rfl ?_
      refine E.callV C (m_X2_tells hM) dX2_heads_131 q2153 q2155 qs33 q76 q2156 mh_X2_tells (by decide) (by decide) hM.rv rfl (Nat.le_of_ble_eq_true rfl) (by omega) (fun _ _ hx => hx.elim) ?_
      rintro v u ⟨rfl, hM, g9⟩
      replace hg := hg.tr g9
      refine E.endI C N dX2_heads_134 (by omega) ?_
      exact MR.mk (by rw [o_heads, if_pos (by rw [bt_ix2 (by omega) hp, bt_ix2 (by omega) ht]; rfl), nI_clamp (by omega), nI_clamp (by omega), ← hk, hc]; rfl) hM hg
    | succ d ih =>
      intro k c hk hc
      have zk := b9 k (by omega)
      have inn : ∀ (d2 n : Nat) (x : Bool), n + d2 = σ.1 3 0 → k < n → (x && hdN σ k d2 n) = isHd σ a b k → E K 71 [(0, .ref m), (1, .int (nI a)), (2, .int (nI b)), (3, .int (nI c)), (4, .int (nI k)), (5, .int (nI (bN x))), (6, .int (nI n))] [] h 0 := by
        intro d2
        induction d2 with
        | zero =>
          intro n x hn9 hkn hx
          have hx2 : x = isHd σ a b k := by rw [← hx, hdN, Bool.and_true]
          have nx : ∀ c9, c9 = sumN (fun k => bN (isHd σ a b k)) (k + 1) → ∀ l8, lv_pick l8 [0, 1, 2, 3, 4] = [(0, .ref m), (1, .int (nI a)), (2, .int (nI b)), (3, .int (nI c9)), (4, .int (nI (k + 1)))] → E K 27 l8 [] h 0 := fun c9 h9 l8 h8 => E.sub [0, 1, 2, 3, 4] h8 (ih (k + 1) c9 (by omega) h9)
          cases x with
          | true =>
            refine E.eq rfl (show [(0, .ref m), (1, .int (nI a)), (2, .int (nI b)), (3, .int (nI c)), (4, .int (nI k)), (5, .int (nI 1)), (6, .int (nI n))] = _ from rfl) rfl rfl rfl ?_
            refine E.iload C dX2_heads_71 rfl ?_
            refine E.aload_n C dX2_heads_73 rfl ?_
            refine E.getf C dX2_heads_74 hM.cell rfl 4 q2036 (by decide) rfl rfl ?_
            refine E.icmpN_ge C dX2_heads_77 (tgt := 110) (by decide) (by omega) (by omega) (fun c77 => ?_) (fun c77 => absurd c77 (by omega))
            refine E.iload_n C dX2_heads_110 rfl ?_
            refine E.iload C dX2_heads_111 rfl ?_
            refine E.if_eq C dX2_heads_113 (tgt := 120) (by decide) (fun c => absurd c (by decide)) (fun cz => ?_)
            clear cz
            refine E.iconst C dX2_heads_116 (v := nI 1) (by decide) ?_
            refine E.goto C dX2_heads_117 (tgt := 121) (by decide) ?_
            refine E.iaddN C dX2_heads_121 ?_
            refine E.istore_n C dX2_heads_122 (kn_ _ (by decide)) ?_
            refine E.iincN C dX2_heads_123 rfl (kn_ _ (by decide)) ?_
            refine E.goto C dX2_heads_126 (tgt := 27) (by decide) ?_
            exact nx (c + 1) (by rw [sumN, ← hc, ← hx2]; rfl) _ rfl
          | false =>
            refine E.eq rfl (show [(0, .ref m), (1, .int (nI a)), (2, .int (nI b)), (3, .int (nI c)), (4, .int (nI k)), (5, .int (nI 0)), (6, .int (nI n))] = _ from rfl) rfl rfl rfl ?_
            refine E.iload C dX2_heads_71 rfl ?_
            refine E.aload_n C dX2_heads_73 rfl ?_
            refine E.getf C dX2_heads_74 hM.cell rfl 4 q2036 (by decide) rfl rfl ?_
            refine E.icmpN_ge C dX2_heads_77 (tgt := 110) (by decide) (by omega) (by omega) (fun c77 => ?_) (fun c77 => absurd c77 (by omega))
            refine E.iload_n C dX2_heads_110 rfl ?_
            refine E.iload C dX2_heads_111 rfl ?_
            refine E.if_eq C dX2_heads_113 (tgt := 120) (by decide) (fun cz => ?_) (fun c => absurd c (by decide))
            clear cz
            refine E.iconst C dX2_heads_120 (v := nI 0) (by decide) ?_
            refine E.iaddN C dX2_heads_121 ?_
            refine E.istore_n C dX2_heads_122 (kn_ _ (by decide)) ?_
            refine E.iincN C dX2_heads_123 rfl (kn_ _ (by decide)) ?_
            refine E.goto C dX2_heads_126 (tgt := 27) (by decide) ?_
            exact nx (c + 0) (by rw [sumN, ← hc, ← hx2]; rfl) _ rfl
        | succ d2 ih2 =>
          intro n x hn9 hkn hx
          have nx2 : ∀ y : Bool, (y && hdN σ k d2 (n + 1)) = isHd σ a b k → ∀ l8, lv_pick l8 [0, 1, 2, 3, 4, 5, 6] = [(0, .ref m), (1, .int (nI a)), (2, .int (nI b)), (3, .int (nI c)), (4, .int (nI k)), (5, .int (nI (bN y))), (6, .int (nI (n + 1)))] → E K 71 l8 [] h 0 := fun y hy l8 h8 => E.sub [0, 1, 2, 3, 4, 5, 6] h8 (ih2 (n + 1) y (by omega) (by omega) hy)
          cases x with
          | true =>
            refine E.eq rfl (show [(0, .ref m), (1, .int (nI a)), (2, .int (nI b)), (3, .int (nI c)), (4, .int (nI k)), (5, .int (nI 1)), (6, .int (nI n))] = _ from rfl) rfl rfl rfl ?_
            refine E.iload C dX2_heads_71 rfl ?_
            refine E.aload_n C dX2_heads_73 rfl ?_
            refine E.getf C dX2_heads_74 hM.cell rfl 4 q2036 (by decide) rfl rfl ?_
            refine E.icmpN_ge C dX2_heads_77 (tgt := 110) (by decide) (by omega) (by omega) (fun c77 => absurd c77 (by omega)) (fun c77 => ?_)
            refine E.iload C dX2_heads_80 rfl ?_
            refine E.if_eq C dX2_heads_82 (tgt := 101) (by decide) (fun c => absurd c (by decide)) (fun cz => ?_)
            clear cz
            refine E.aload_n C dX2_heads_85 rfl ?_
            refine E.getf C dX2_heads_86 hM.cell rfl 20 q2052 (by decide) rfl rfl ?_
            refine E.iload C dX2_heads_89 rfl ?_
            refine E.iald C dX2_heads_91 hM.a20 (nI_in (by omega) (by omega)) (congrArg (σ.2 15) (nI_clamp (by omega))) ?_
            refine E.iload C dX2_heads_92 rfl ?_
            refine E.icmp_eq C dX2_heads_94 (tgt := 101) (by decide) (fun c94 => ?_) (fun c94 => ?_)
            · refine E.iconst C dX2_heads_101 (v := nI 0) (by decide) ?_
              refine E.istore C dX2_heads_102 (kn_ _ (by decide)) ?_
              refine E.iincN C dX2_heads_104 rfl (kn_ _ (by decide)) ?_
              refine E.goto C dX2_heads_107 (tgt := 71) (by decide) ?_
              first | exact nx2 true (by rw [← hx]; simp [hdN, *]) _ rfl | exact nx2 false (by rw [← hx]; simp [hdN, *]) _ rfl
            · refine E.iconst C dX2_heads_97 (v := nI 1) (by decide) ?_
              refine E.goto C dX2_heads_98 (tgt := 102) (by decide) ?_
              refine E.istore C dX2_heads_102 (kn_ _ (by decide)) ?_
              refine E.iincN C dX2_heads_104 rfl (kn_ _ (by decide)) ?_
              refine E.goto C dX2_heads_107 (tgt := 71) (by decide) ?_
              first | exact nx2 true (by rw [← hx]; simp [hdN, *]) _ rfl | exact nx2 false (by rw [← hx]; simp [hdN, *]) _ rfl
          | false =>
            refine E.eq rfl (show [(0, .ref m), (1, .int (nI a)), (2, .int (nI b)), (3, .int (nI c)), (4, .int (nI k)), (5, .int (nI 0)), (6, .int (nI n))] = _ from rfl) rfl rfl rfl ?_
            refine E.iload C dX2_heads_71 rfl ?_
            refine E.aload_n C dX2_heads_73 rfl ?_
            refine E.getf C dX2_heads_74 hM.cell rfl 4 q2036 (by decide) rfl rfl ?_
            refine E.icmpN_ge C dX2_heads_77 (tgt := 110) (by decide) (by omega) (by omega) (fun c77 => absurd c77 (by omega)) (fun c77 => ?_)
            refine E.iload C dX2_heads_80 rfl ?_
            refine E.if_eq C dX2_heads_82 (tgt := 101) (by decide) (fun cz => ?_) (fun c => absurd c (by decide))
            clear cz
            refine E.iconst C dX2_heads_101 (v := nI 0) (by decide) ?_
            refine E.istore C dX2_heads_102 (kn_ _ (by decide)) ?_
            refine E.iincN C dX2_heads_104 rfl (kn_ _ (by decide)) ?_
            refine E.goto C dX2_heads_107 (tgt := 71) (by decide) ?_
            exact nx2 false (by rw [← hx]; simp) _ rfl
      refine E.iload C dX2_heads_27 rfl ?_
      refine E.aload_n C dX2_heads_29 rfl ?_
      refine E.getf C dX2_heads_30 hM.cell rfl 4 q2036 (by decide) rfl rfl ?_
      refine E.icmpN_ge C dX2_heads_33 (tgt := 129) (by decide) (by omega) (by omega) (fun c33 => absurd c33 (by omega)) (fun c33 => ?_)
      refine E.aload_n C dX2_heads_36 rfl ?_
      refine E.getf C dX2_heads_37 hM.cell rfl 18 q2050 (by decide) rfl rfl ?_
      refine E.iload C dX2_heads_40 rfl ?_
      refine E.iald C dX2_heads_42 hM.a18 (nI_in (by omega) (by omega)) (congrArg (fun k => nI (σ.1 9 k)) (nI_clamp (by omega))) ?_
      refine E.iload_n C dX2_heads_43 rfl ?_
      refine E.icmpN_ne C dX2_heads_44 (tgt := 62) (by decide) (by omega) (by omega) (fun c44 => ?_) (fun c44 => ?_)
      · refine E.iconst C dX2_heads_62 (v := nI 0) (by decide) ?_
        refine E.istore C dX2_heads_63 (kn_ _ (by decide)) ?_
        refine E.iload C dX2_heads_65 rfl ?_
        refine E.iconst C dX2_heads_67 (v := nI 1) (by decide) ?_
        refine E.iaddN C dX2_heads_68 ?_
        refine E.istore C dX2_heads_69 (kn_ _ (by decide)) ?_
        refine E.sub [0, 1, 2, 3, 4, 5, 6] (l' := [(0, .ref m), (1, .int (nI a)), (2, .int (nI b)), (3, .int (nI c)), (4, .int (nI k)), (5, _), (6, .int (nI (k + 1)))]) rfl ?_
        first | exact inn (σ.1 3 0 - (k + 1)) (k + 1) true (by omega) (by omega) (by simp [isHd, *]) | exact inn (σ.1 3 0 - (k + 1)) (k + 1) false (by omega) (by omega) (by simp [isHd, *])
      · refine E.aload_n C dX2_heads_47 rfl ?_
        refine E.getf C dX2_heads_48 hM.cell rfl 19 q2051 (by decide) rfl rfl ?_
        refine E.iload C dX2_heads_51 rfl ?_
        refine E.iald C dX2_heads_53 hM.a19 (nI_in (by omega) (by omega)) (congrArg (fun k => nI (σ.1 10 k)) (nI_clamp (by omega))) ?_
        refine E.iload_n C dX2_heads_54 rfl ?_
        refine E.icmpN_ne C dX2_heads_55 (tgt := 62) (by decide) (by omega) (by omega) (fun c55 => ?_) (fun c55 => ?_)
        · refine E.iconst C dX2_heads_62 (v := nI 0) (by decide) ?_
          refine E.istore C dX2_heads_63 (kn_ _ (by decide)) ?_
          refine E.iload C dX2_heads_65 rfl ?_
          refine E.iconst C dX2_heads_67 (v := nI 1) (by decide) ?_
          refine E.iaddN C dX2_heads_68 ?_
          refine E.istore C dX2_heads_69 (kn_ _ (by decide)) ?_
          refine E.sub [0, 1, 2, 3, 4, 5, 6] (l' := [(0, .ref m), (1, .int (nI a)), (2, .int (nI b)), (3, .int (nI c)), (4, .int (nI k)), (5, _), (6, .int (nI (k + 1)))]) rfl ?_
          first | exact inn (σ.1 3 0 - (k + 1)) (k + 1) true (by omega) (by omega) (by simp [isHd, *]) | exact inn (σ.1 3 0 - (k + 1)) (k + 1) false (by omega) (by omega) (by simp [isHd, *])
        · refine E.iconst C dX2_heads_58 (v := nI 1) (by decide) ?_
          refine E.goto C dX2_heads_59 (tgt := 63) (by decide) ?_
          refine E.istore C dX2_heads_63 (kn_ _ (by decide)) ?_
          refine E.iload C dX2_heads_65 rfl ?_
          refine E.iconst C dX2_heads_67 (v := nI 1) (by decide) ?_
          refine E.iaddN C dX2_heads_68 ?_
          refine E.istore C dX2_heads_69 (kn_ _ (by decide)) ?_
          refine E.sub [0, 1, 2, 3, 4, 5, 6] (l' := [(0, .ref m), (1, .int (nI a)), (2, .int (nI b)), (3, .int (nI c)), (4, .int (nI k)), (5, _), (6, .int (nI (k + 1)))]) rfl ?_
          first | exact inn (σ.1 3 0 - (k + 1)) (k + 1) true (by omega) (by omega) (by simp [isHd, *]) | exact inn (σ.1 3 0 - (k + 1)) (k + 1) false (by omega) (by omega) (by simp [isHd, *])
  refine E.aload_n C dX2_heads_0 rfl ?_
  refine E.iload_n C dX2_heads_1 rfl ?_
  refine E.callV C (m_X2_isPupil hM b1) dX2_heads_2 q2222 q2224 qs36 q76 q2225 mh_X2_isPupil (by decide) (by decide) hM.rv rfl (Nat.le_of_ble_eq_true rfl) (by omega) (fun _ _ hx => hx.elim) ?_
  rintro v u (⟨rfl, q2, ⟨i2, hi2, rfl⟩, rfl⟩ | ⟨rfl, q2, rfl⟩)
  · have e2 := nI_clamp (show i2 < 2 ^ 31 by omega)
    refine E.if_eq C dX2_heads_5 (tgt := 16) (by decide) (fun c => absurd c (by decide)) (fun cz => ?_)
    clear cz
    refine E.aload_n C dX2_heads_8 rfl ?_
    refine E.iload_n C dX2_heads_9 rfl ?_
    refine E.callV C (m_X2_isTask hM b2) dX2_heads_10 q2226 q2228 qs37 q76 q2229 mh_X2_isTask (by decide) (by decide) hM.rv rfl (Nat.le_of_ble_eq_true rfl) (by omega) (fun _ _ hx => hx.elim) ?_
    rintro v u (⟨rfl, q10, ⟨i10, hi10, rfl⟩, rfl⟩ | ⟨rfl, q10, rfl⟩)
    · have e10 := nI_clamp (show i10 < 2 ^ 31 by omega)
      refine E.if_ne C dX2_heads_13 (tgt := 22) (by decide) (fun cz => ?_) (fun c => absurd c (by decide))
      clear cz
      refine E.iconst C dX2_heads_22 (v := nI 0) (by decide) ?_
      refine E.istore_n C dX2_heads_23 (kn_ _ (by decide)) ?_
      refine E.iconst C dX2_heads_24 (v := nI 0) (by decide) ?_
      refine E.istore C dX2_heads_25 (kn_ _ (by decide)) ?_
      exact lpv i2 i10 hi2 hi10 rfl rfl (σ.1 3 0) 0 0 (by omega) rfl
    · refine E.if_ne C dX2_heads_13 (tgt := 22) (by decide) (fun c => absurd c (by decide)) (fun cz => ?_)
      clear cz
      refine E.aload_n C dX2_heads_16 rfl ?_
      refine E.iconst C dX2_heads_17 (v := nI 1) (by decide) ?_
      refine E.callV C (m_X2_fails hM) dX2_heads_18 q2149 q2151 qs32 q76 q2152 mh_X2_fails (by decide) (by decide) hM.rv rfl (Nat.le_of_ble_eq_true rfl) (by omega) (fun _ _ hx => hx.elim) ?_
      rintro v u ⟨rfl, hM, g9⟩
      replace hg := hg.tr g9
      refine E.endI C N dX2_heads_21 (by omega) ?_
      exact MR.mk (by simp [o_heads, oF, oT, *] <;> rfl) hM hg
  · refine E.if_eq C dX2_heads_5 (tgt := 16) (by decide) (fun cz => ?_) (fun c => absurd c (by decide))
    clear cz
    refine E.aload_n C dX2_heads_16 rfl ?_
    refine E.iconst C dX2_heads_17 (v := nI 1) (by decide) ?_
    refine E.callV C (m_X2_fails hM) dX2_heads_18 q2149 q2151 qs32 q76 q2152 mh_X2_fails (by decide) (by decide) hM.rv rfl (Nat.le_of_ble_eq_true rfl) (by omega) (fun _ _ hx => hx.elim) ?_
    rintro v u ⟨rfl, hM, g9⟩
    replace hg := hg.tr g9
    refine E.endI C N dX2_heads_21 (by omega) ?_
    exact MR.mk (by simp [o_heads, oF, oT, *] <;> rfl) hM hg
theorem m_X2_isIn (hM : MP G h m ad σ) (hW : Wb σ) {p : Int32} : gMet 3 yX2_isIn cX2_isIn 2 (some .boolean) G h [.ref m, .int p] (MR G h m ad (o_isIn σ p)) gNo 0 := by
  refine gMet.of (by decide) (Nat.le_of_ble_eq_true rfl) (fun K C N hG hn hin => ?_)
  subst hG
  have kn_ : ∀ j : Nat, j < 2 → j < kn K := fun j hj => by rw [hn]; exact hj
  have hg : gfr 1 h h := gfr.rf
  have hW0 := hW
  obtain ⟨b0, b1, b2, b3, b4, b5, b6, b7, b8, b9, b10, b11⟩ := hW
  refine E.aload_n C dX2_isIn_0 rfl ?_
  refine E.aload_n C dX2_isIn_1 rfl ?_
  refine E.iload_n C dX2_isIn_2 rfl ?_
  refine E.callV C (m_X2_isVersion hM b3) dX2_isIn_3 q2230 q2232 qs38 q76 q2233 mh_X2_isVersion (by decide) (by decide) hM.rv rfl (Nat.le_of_ble_eq_true rfl) (by omega) (fun _ _ hx => hx.elim) ?_
  rintro v u (⟨rfl, q3, ⟨i3, hi3, rfl⟩, rfl⟩ | ⟨rfl, q3, rfl⟩)
  · have e3 := nI_clamp (show i3 < 2 ^ 31 by omega)
    refine E.if_eq C dX2_isIn_6 (tgt := 13) (by decide) (fun c => absurd c (by decide)) (fun cz => ?_)
    clear cz
    refine E.iconst C dX2_isIn_9 (v := nI 0) (by decide) ?_
    refine E.goto C dX2_isIn_10 (tgt := 14) (by decide) ?_
    refine E.mputI9 C hM dX2_isIn_14 q2041 ?_
    intro u hM g9
    replace hg := hg.tr g9
    refine E.aload_n C dX2_isIn_17 rfl ?_
    refine E.getf C dX2_isIn_18 hM.cell rfl 9 q2041 (by decide) rfl rfl ?_
    refine E.ri (show _ = nI 0 from rfl) ?_
    refine E.if_ne C dX2_isIn_21 (tgt := 38) (by decide) (fun c => absurd c (by decide)) (fun cz => ?_)
    clear cz
    have s5 := b11 i3
    refine E.aload_n C dX2_isIn_24 rfl ?_
    refine E.getf C dX2_isIn_25 hM.cell rfl 23 q2055 (by decide) rfl rfl ?_
    refine E.iload_n C dX2_isIn_28 rfl ?_
    refine E.iald C dX2_isIn_29 hM.a23 (nI_in (by omega) (by omega)) (congrArg (fun k => nI (σ.1 13 k)) (nI_clamp (by omega))) ?_
    refine E.iconst C dX2_isIn_30 (v := nI 1) (by decide) ?_
    refine E.icmpN_ne C dX2_isIn_31 (tgt := 38) (by decide) (by omega) (by omega) (fun c31 => ?_) (fun c31 => ?_)
    · refine E.iconst C dX2_isIn_38 (v := nI 0) (by decide) ?_
      refine E.endZ C N dX2_isIn_39 (by first | rfl | assumption) (by omega) ?_
      exact MR.mk (by simp [o_isIn, oF, oT, bN, *] <;> rfl) hM hg
    · refine E.iconst C dX2_isIn_34 (v := nI 1) (by decide) ?_
      refine E.goto C dX2_isIn_35 (tgt := 39) (by decide) ?_
      refine E.endZ C N dX2_isIn_39 (by first | rfl | assumption) (by omega) ?_
      exact MR.mk (by simp [o_isIn, oF, oT, bN, *] <;> rfl) hM hg
  · refine E.if_eq C dX2_isIn_6 (tgt := 13) (by decide) (fun cz => ?_) (fun c => absurd c (by decide))
    clear cz
    refine E.iconst C dX2_isIn_13 (v := nI 1) (by decide) ?_
    refine E.mputI9 C hM dX2_isIn_14 q2041 ?_
    intro u hM g9
    replace hg := hg.tr g9
    refine E.aload_n C dX2_isIn_17 rfl ?_
    refine E.getf C dX2_isIn_18 hM.cell rfl 9 q2041 (by decide) rfl rfl ?_
    refine E.ri (show _ = nI 1 from rfl) ?_
    refine E.if_ne C dX2_isIn_21 (tgt := 38) (by decide) (fun cz => ?_) (fun c => absurd c (by decide))
    clear cz
    refine E.iconst C dX2_isIn_38 (v := nI 0) (by decide) ?_
    refine E.endZ C N dX2_isIn_39 (by first | rfl | assumption) (by omega) ?_
    exact MR.mk (by simp [o_isIn, oF, oT, bN, *] <;> rfl) hM hg
theorem m_X2_late (hM : MP G h m ad σ) (hW : Wb σ) {p : Int32} : gMet 4 yX2_late cX2_late 2 (some .int) G h [.ref m, .int p] (MR G h m ad (o_late σ p)) gNo 0 := by
  refine gMet.of (by decide) (Nat.le_of_ble_eq_true rfl) (fun K C N hG hn hin => ?_)
  subst hG
  have kn_ : ∀ j : Nat, j < 2 → j < kn K := fun j hj => by rw [hn]; exact hj
  have hg : gfr 1 h h := gfr.rf
  have hW0 := hW
  obtain ⟨b0, b1, b2, b3, b4, b5, b6, b7, b8, b9, b10, b11⟩ := hW
  refine E.aload_n C dX2_late_0 rfl ?_
  refine E.iload_n C dX2_late_1 rfl ?_
  refine E.callV C (m_X2_isVersion hM b3) dX2_late_2 q2230 q2232 qs38 q76 q2233 mh_X2_isVersion (by decide) (by decide) hM.rv rfl (Nat.le_of_ble_eq_true rfl) (by omega) (fun _ _ hx => hx.elim) ?_
  rintro v u (⟨rfl, q2, ⟨i2, hi2, rfl⟩, rfl⟩ | ⟨rfl, q2, rfl⟩)
  · have e2 := nI_clamp (show i2 < 2 ^ 31 by omega)
    refine E.if_ne C dX2_late_5 (tgt := 14) (by decide) (fun cz => ?_) (fun c => absurd c (by decide))
    clear cz
    have s5 := b11 i2
    refine E.aload_n C dX2_late_14 rfl ?_
    refine E.getf C dX2_late_15 hM.cell rfl 23 q2055 (by decide) rfl rfl ?_
    refine E.iload_n C dX2_late_18 rfl ?_
    refine E.iald C dX2_late_19 hM.a23 (nI_in (by omega) (by omega)) (congrArg (fun k => nI (σ.1 13 k)) (nI_clamp (by omega))) ?_
    refine E.iconst C dX2_late_20 (v := nI 1) (by decide) ?_
    refine E.icmpN_ne C dX2_late_21 (tgt := 36) (by decide) (by omega) (by omega) (fun c21 => ?_) (fun c21 => ?_)
    · refine E.aload_n C dX2_late_36 rfl ?_
      refine E.iconst C dX2_late_37 (v := nI 2) (by decide) ?_
      refine E.callV C (m_X2_fails hM) dX2_late_38 q2149 q2151 qs32 q76 q2152 mh_X2_fails (by decide) (by decide) hM.rv rfl (Nat.le_of_ble_eq_true rfl) (by omega) (fun _ _ hx => hx.elim) ?_
      rintro v u ⟨rfl, hM, g9⟩
      replace hg := hg.tr g9
      refine E.endI C N dX2_late_41 (by omega) ?_
      exact MR.mk (by simp [o_late, oF, oT, *] <;> rfl) hM hg
    · refine E.aload_n C dX2_late_24 rfl ?_
      refine E.aload_n C dX2_late_25 rfl ?_
      refine E.iload_n C dX2_late_26 rfl ?_
      refine E.callV C (m_X2_lateOf hM hW0 (by omega)) dX2_late_27 q2290 q2292 qs45 q76 q2293 mh_X2_lateOf (by decide) (by decide) hM.rv rfl (Nat.le_of_ble_eq_true rfl) (by omega) (fun _ _ hx => hx.elim) ?_
      rintro v u ⟨rfl, rfl⟩
      refine E.callV C (m_X2_tells hM) dX2_late_30 q2153 q2155 qs33 q76 q2156 mh_X2_tells (by decide) (by decide) hM.rv rfl (Nat.le_of_ble_eq_true rfl) (by omega) (fun _ _ hx => hx.elim) ?_
      rintro v u ⟨rfl, hM, g9⟩
      replace hg := hg.tr g9
      refine E.goto C dX2_late_33 (tgt := 41) (by decide) ?_
      refine E.endI C N dX2_late_41 (by omega) ?_
      exact MR.mk (by simp [o_late, oF, oT, *] <;> rfl) hM hg
  · refine E.if_ne C dX2_late_5 (tgt := 14) (by decide) (fun c => absurd c (by decide)) (fun cz => ?_)
    clear cz
    refine E.aload_n C dX2_late_8 rfl ?_
    refine E.iconst C dX2_late_9 (v := nI 1) (by decide) ?_
    refine E.callV C (m_X2_fails hM) dX2_late_10 q2149 q2151 qs32 q76 q2152 mh_X2_fails (by decide) (by decide) hM.rv rfl (Nat.le_of_ble_eq_true rfl) (by omega) (fun _ _ hx => hx.elim) ?_
    rintro v u ⟨rfl, hM, g9⟩
    replace hg := hg.tr g9
    refine E.endI C N dX2_late_13 (by omega) ?_
    exact MR.mk (by simp [o_late, oF, oT, *] <;> rfl) hM hg
theorem m_X2_off (hM : MP G h m ad σ) (hW : Wb σ) {p x : Int32} : gMet 3 yX2_off cX2_off 3 (some .int) G h [.ref m, .int p, .int x] (MR G h m ad (o_off σ p x)) gNo 0 := by
  refine gMet.of (by decide) (Nat.le_of_ble_eq_true rfl) (fun K C N hG hn hin => ?_)
  subst hG
  have kn_ : ∀ j : Nat, j < 3 → j < kn K := fun j hj => by rw [hn]; exact hj
  have hg : gfr 1 h h := gfr.rf
  have hW0 := hW
  obtain ⟨b0, b1, b2, b3, b4, b5, b6, b7, b8, b9, b10, b11⟩ := hW
  refine E.aload_n C dX2_off_0 rfl ?_
  refine E.iload_n C dX2_off_1 rfl ?_
  refine E.callV C (m_X2_isTask hM b2) dX2_off_2 q2226 q2228 qs37 q76 q2229 mh_X2_isTask (by decide) (by decide) hM.rv rfl (Nat.le_of_ble_eq_true rfl) (by omega) (fun _ _ hx => hx.elim) ?_
  rintro v u (⟨rfl, q2, ⟨i2, hi2, rfl⟩, rfl⟩ | ⟨rfl, q2, rfl⟩)
  · have e2 := nI_clamp (show i2 < 2 ^ 31 by omega)
    refine E.if_ne C dX2_off_5 (tgt := 14) (by decide) (fun cz => ?_) (fun c => absurd c (by decide))
    clear cz
    refine E.iload_n C dX2_off_14 rfl ?_
    refine E.iconst C dX2_off_15 (v := nI 0) (by decide) ?_
    refine E.ldc C dX2_off_16 q2169 ?_
    refine E.ri (show _ = nI 1000000 from rfl) ?_
    refine E.callS C (m_X2_in) dX2_off_18 q2146 q2147 q76 q2148 mh_X2_in (by decide) (by decide) rfl (Nat.le_of_ble_eq_true rfl) (by omega) (fun _ _ hx => hx.elim) ?_
    rintro v u (⟨rfl, q18, rfl⟩ | ⟨rfl, q18, rfl⟩)
    · refine E.if_eq C dX2_off_21 (tgt := 37) (by decide) (fun c => absurd c (by decide)) (fun cz => ?_)
      clear cz
      refine E.aload_n C dX2_off_24 rfl ?_
      refine E.aload_n C dX2_off_25 rfl ?_
      refine E.iload_n C dX2_off_26 rfl ?_
      refine E.iload_n C dX2_off_27 rfl ?_
      refine E.callV C (m_X2_offOf hM hW0 (by omega)) dX2_off_28 q2308 q2310 qs47 q76 q2311 mh_X2_offOf (by decide) (by decide) hM.rv rfl (Nat.le_of_ble_eq_true rfl) (by omega) (fun _ _ hx => hx.elim) ?_
      rintro v u ⟨rfl, rfl⟩
      refine E.callV C (m_X2_tells hM) dX2_off_31 q2153 q2155 qs33 q76 q2156 mh_X2_tells (by decide) (by decide) hM.rv rfl (Nat.le_of_ble_eq_true rfl) (by omega) (fun _ _ hx => hx.elim) ?_
      rintro v u ⟨rfl, hM, g9⟩
      replace hg := hg.tr g9
      refine E.goto C dX2_off_34 (tgt := 42) (by decide) ?_
      refine E.endI C N dX2_off_42 (by omega) ?_
      exact MR.mk (by simp [o_off, oF, oT, *] <;> rfl) hM hg
    · refine E.if_eq C dX2_off_21 (tgt := 37) (by decide) (fun cz => ?_) (fun c => absurd c (by decide))
      clear cz
      refine E.aload_n C dX2_off_37 rfl ?_
      refine E.iconst C dX2_off_38 (v := nI 2) (by decide) ?_
      refine E.callV C (m_X2_fails hM) dX2_off_39 q2149 q2151 qs32 q76 q2152 mh_X2_fails (by decide) (by decide) hM.rv rfl (Nat.le_of_ble_eq_true rfl) (by omega) (fun _ _ hx => hx.elim) ?_
      rintro v u ⟨rfl, hM, g9⟩
      replace hg := hg.tr g9
      refine E.endI C N dX2_off_42 (by omega) ?_
      exact MR.mk (by simp [o_off, oF, oT, *] <;> rfl) hM hg
  · refine E.if_ne C dX2_off_5 (tgt := 14) (by decide) (fun c => absurd c (by decide)) (fun cz => ?_)
    clear cz
    refine E.aload_n C dX2_off_8 rfl ?_
    refine E.iconst C dX2_off_9 (v := nI 1) (by decide) ?_
    refine E.callV C (m_X2_fails hM) dX2_off_10 q2149 q2151 qs32 q76 q2152 mh_X2_fails (by decide) (by decide) hM.rv rfl (Nat.le_of_ble_eq_true rfl) (by omega) (fun _ _ hx => hx.elim) ?_
    rintro v u ⟨rfl, hM, g9⟩
    replace hg := hg.tr g9
    refine E.endI C N dX2_off_13 (by omega) ?_
    exact MR.mk (by simp [o_off, oF, oT, *] <;> rfl) hM hg
theorem m_X2_points (hM : MP G h m ad σ) (hW : Wb σ) {p x : Int32} : gMet 3 yX2_points cX2_points 4 (some .int) G h [.ref m, .int p, .int x] (MR G h m ad (o_points σ p x)) gNo 0 := by
  refine gMet.of (by decide) (Nat.le_of_ble_eq_true rfl) (fun K C N hG hn hin => ?_)
  subst hG
  have kn_ : ∀ j : Nat, j < 4 → j < kn K := fun j hj => by rw [hn]; exact hj
  have hg : gfr 1 h h := gfr.rf
  have hW0 := hW
  obtain ⟨b0, b1, b2, b3, b4, b5, b6, b7, b8, b9, b10, b11⟩ := hW
  refine E.aload_n C dX2_points_0 rfl ?_
  refine E.iload_n C dX2_points_1 rfl ?_
  refine E.callV C (m_X2_isVersion hM b3) dX2_points_2 q2230 q2232 qs38 q76 q2233 mh_X2_isVersion (by decide) (by decide) hM.rv rfl (Nat.le_of_ble_eq_true rfl) (by omega) (fun _ _ hx => hx.elim) ?_
  rintro v u (⟨rfl, q2, ⟨i2, hi2, rfl⟩, rfl⟩ | ⟨rfl, q2, rfl⟩)
  · have e2 := nI_clamp (show i2 < 2 ^ 31 by omega)
    refine E.if_ne C dX2_points_5 (tgt := 14) (by decide) (fun cz => ?_) (fun c => absurd c (by decide))
    clear cz
    refine E.iload_n C dX2_points_14 rfl ?_
    refine E.iconst C dX2_points_15 (v := nI 0) (by decide) ?_
    refine E.bipush C dX2_points_16 (v := nI 100) (by decide) ?_
    refine E.callS C (m_X2_in) dX2_points_18 q2146 q2147 q76 q2148 mh_X2_in (by decide) (by decide) rfl (Nat.le_of_ble_eq_true rfl) (by omega) (fun _ _ hx => hx.elim) ?_
    rintro v u (⟨rfl, q18, rfl⟩ | ⟨rfl, q18, rfl⟩)
    · refine E.if_ne C dX2_points_21 (tgt := 30) (by decide) (fun cz => ?_) (fun c => absurd c (by decide))
      clear cz
      refine E.aload_n C dX2_points_30 rfl ?_
      refine E.getf C dX2_points_31 hM.cell rfl 26 q2058 (by decide) rfl rfl ?_
      refine E.iload_n C dX2_points_34 rfl ?_
      refine E.iald C dX2_points_35 hM.a26 (nI_in (by omega) (by omega)) (congrArg (σ.2 10) (nI_clamp (by omega))) ?_
      refine E.istore_n C dX2_points_36 (kn_ _ (by decide)) ?_
      refine E.aload_n C dX2_points_37 rfl ?_
      refine E.getf C dX2_points_38 hM.cell rfl 26 q2058 (by decide) rfl rfl ?_
      refine E.iload_n C dX2_points_41 rfl ?_
      refine E.iload_n C dX2_points_42 rfl ?_
      refine E.mast26 C hM dX2_points_43 (by omega) ?_
      intro u hM g9
      replace hg := hg.tr g9
      refine E.aload_n C dX2_points_44 rfl ?_
      refine E.iload_n C dX2_points_45 rfl ?_
      refine E.callV C (m_X2_tells hM) dX2_points_46 q2153 q2155 qs33 q76 q2156 mh_X2_tells (by decide) (by decide) hM.rv rfl (Nat.le_of_ble_eq_true rfl) (by omega) (fun _ _ hx => hx.elim) ?_
      rintro v u ⟨rfl, hM, g9⟩
      replace hg := hg.tr g9
      refine E.endI C N dX2_points_49 (by omega) ?_
      exact MR.mk (by simp [o_points, oF, oT, *] <;> rfl) hM hg
    · refine E.if_ne C dX2_points_21 (tgt := 30) (by decide) (fun c => absurd c (by decide)) (fun cz => ?_)
      clear cz
      refine E.aload_n C dX2_points_24 rfl ?_
      refine E.iconst C dX2_points_25 (v := nI 2) (by decide) ?_
      refine E.callV C (m_X2_fails hM) dX2_points_26 q2149 q2151 qs32 q76 q2152 mh_X2_fails (by decide) (by decide) hM.rv rfl (Nat.le_of_ble_eq_true rfl) (by omega) (fun _ _ hx => hx.elim) ?_
      rintro v u ⟨rfl, hM, g9⟩
      replace hg := hg.tr g9
      refine E.endI C N dX2_points_29 (by omega) ?_
      exact MR.mk (by simp [o_points, oF, oT, *] <;> rfl) hM hg
  · refine E.if_ne C dX2_points_5 (tgt := 14) (by decide) (fun c => absurd c (by decide)) (fun cz => ?_)
    clear cz
    refine E.aload_n C dX2_points_8 rfl ?_
    refine E.iconst C dX2_points_9 (v := nI 1) (by decide) ?_
    refine E.callV C (m_X2_fails hM) dX2_points_10 q2149 q2151 qs32 q76 q2152 mh_X2_fails (by decide) (by decide) hM.rv rfl (Nat.le_of_ble_eq_true rfl) (by omega) (fun _ _ hx => hx.elim) ?_
    rintro v u ⟨rfl, hM, g9⟩
    replace hg := hg.tr g9
    refine E.endI C N dX2_points_13 (by omega) ?_
    exact MR.mk (by simp [o_points, oF, oT, *] <;> rfl) hM hg
theorem m_X2_mark (hM : MP G h m ad σ) (hW : Wb σ) {p t : Int32} : gMet 5 yX2_mark cX2_mark 3 (some .int) G h [.ref m, .int p, .int t] (MR G h m ad (o_mark σ p t)) gNo 0 := by
  refine gMet.of (by decide) (Nat.le_of_ble_eq_true rfl) (fun K C N hG hn hin => ?_)
  subst hG
  have kn_ : ∀ j : Nat, j < 3 → j < kn K := fun j hj => by rw [hn]; exact hj
  have hg : gfr 1 h h := gfr.rf
  have hW0 := hW
  obtain ⟨b0, b1, b2, b3, b4, b5, b6, b7, b8, b9, b10, b11⟩ := hW
  refine E.aload_n C dX2_mark_0 rfl ?_
  refine E.iload_n C dX2_mark_1 rfl ?_
  refine E.callV C (m_X2_isPupil hM b1) dX2_mark_2 q2222 q2224 qs36 q76 q2225 mh_X2_isPupil (by decide) (by decide) hM.rv rfl (Nat.le_of_ble_eq_true rfl) (by omega) (fun _ _ hx => hx.elim) ?_
  rintro v u (⟨rfl, q2, ⟨i2, hi2, rfl⟩, rfl⟩ | ⟨rfl, q2, rfl⟩)
  · have e2 := nI_clamp (show i2 < 2 ^ 31 by omega)
    refine E.if_eq C dX2_mark_5 (tgt := 16) (by decide) (fun c => absurd c (by decide)) (fun cz => ?_)
    clear cz
    refine E.aload_n C dX2_mark_8 rfl ?_
    refine E.iload_n C dX2_mark_9 rfl ?_
    refine E.callV C (m_X2_isTask hM b2) dX2_mark_10 q2226 q2228 qs37 q76 q2229 mh_X2_isTask (by decide) (by decide) hM.rv rfl (Nat.le_of_ble_eq_true rfl) (by omega) (fun _ _ hx => hx.elim) ?_
    rintro v u (⟨rfl, q10, ⟨i10, hi10, rfl⟩, rfl⟩ | ⟨rfl, q10, rfl⟩)
    · have e10 := nI_clamp (show i10 < 2 ^ 31 by omega)
      refine E.if_ne C dX2_mark_13 (tgt := 22) (by decide) (fun cz => ?_) (fun c => absurd c (by decide))
      clear cz
      refine E.aload_n C dX2_mark_22 rfl ?_
      refine E.iload_n C dX2_mark_23 rfl ?_
      refine E.iload_n C dX2_mark_24 rfl ?_
      refine E.callV C (m_X2_isFrozenOf hM hW0 (by omega) (by omega)) dX2_mark_25 q2324 q2326 qs48 q76 q2327 mh_X2_isFrozenOf (by decide) (by decide) hM.rv rfl (Nat.le_of_ble_eq_true rfl) (by omega) (fun _ _ hx => hx.elim) ?_
      rintro v u (⟨rfl, q25, rfl⟩ | ⟨rfl, q25, rfl⟩)
      · refine E.if_eq C dX2_mark_28 (tgt := 39) (by decide) (fun c => absurd c (by decide)) (fun cz => ?_)
        clear cz
        refine E.aload_n C dX2_mark_31 rfl ?_
        refine E.iconst C dX2_mark_32 (v := nI 2) (by decide) ?_
        refine E.callV C (m_X2_fails hM) dX2_mark_33 q2149 q2151 qs32 q76 q2152 mh_X2_fails (by decide) (by decide) hM.rv rfl (Nat.le_of_ble_eq_true rfl) (by omega) (fun _ _ hx => hx.elim) ?_
        rintro v u ⟨rfl, hM, g9⟩
        replace hg := hg.tr g9
        refine E.goto C dX2_mark_36 (tgt := 49) (by decide) ?_
        refine E.endI C N dX2_mark_49 (by omega) ?_
        exact MR.mk (by simp [o_mark, oF, oT, *] <;> rfl) hM hg
      · refine E.if_eq C dX2_mark_28 (tgt := 39) (by decide) (fun cz => ?_) (fun c => absurd c (by decide))
        clear cz
        refine E.aload_n C dX2_mark_39 rfl ?_
        refine E.aload_n C dX2_mark_40 rfl ?_
        refine E.iload_n C dX2_mark_41 rfl ?_
        refine E.iload_n C dX2_mark_42 rfl ?_
        refine E.callV C (m_X2_markOf hM hW0 (by omega) (by omega)) dX2_mark_43 q2328 q2330 qs49 q76 q2331 mh_X2_markOf (by decide) (by decide) hM.rv rfl (Nat.le_of_ble_eq_true rfl) (by omega) (fun _ _ hx => hx.elim) ?_
        rintro v u ⟨rfl, rfl⟩
        refine E.callV C (m_X2_tells hM) dX2_mark_46 q2153 q2155 qs33 q76 q2156 mh_X2_tells (by decide) (by decide) hM.rv rfl (Nat.le_of_ble_eq_true rfl) (by omega) (fun _ _ hx => hx.elim) ?_
        rintro v u ⟨rfl, hM, g9⟩
        replace hg := hg.tr g9
        refine E.endI C N dX2_mark_49 (by omega) ?_
        exact MR.mk (by simp [o_mark, oF, oT, *] <;> rfl) hM hg
    · refine E.if_ne C dX2_mark_13 (tgt := 22) (by decide) (fun c => absurd c (by decide)) (fun cz => ?_)
      clear cz
      refine E.aload_n C dX2_mark_16 rfl ?_
      refine E.iconst C dX2_mark_17 (v := nI 1) (by decide) ?_
      refine E.callV C (m_X2_fails hM) dX2_mark_18 q2149 q2151 qs32 q76 q2152 mh_X2_fails (by decide) (by decide) hM.rv rfl (Nat.le_of_ble_eq_true rfl) (by omega) (fun _ _ hx => hx.elim) ?_
      rintro v u ⟨rfl, hM, g9⟩
      replace hg := hg.tr g9
      refine E.endI C N dX2_mark_21 (by omega) ?_
      exact MR.mk (by simp [o_mark, oF, oT, *] <;> rfl) hM hg
  · refine E.if_eq C dX2_mark_5 (tgt := 16) (by decide) (fun cz => ?_) (fun c => absurd c (by decide))
    clear cz
    refine E.aload_n C dX2_mark_16 rfl ?_
    refine E.iconst C dX2_mark_17 (v := nI 1) (by decide) ?_
    refine E.callV C (m_X2_fails hM) dX2_mark_18 q2149 q2151 qs32 q76 q2152 mh_X2_fails (by decide) (by decide) hM.rv rfl (Nat.le_of_ble_eq_true rfl) (by omega) (fun _ _ hx => hx.elim) ?_
    rintro v u ⟨rfl, hM, g9⟩
    replace hg := hg.tr g9
    refine E.endI C N dX2_mark_21 (by omega) ?_
    exact MR.mk (by simp [o_mark, oF, oT, *] <;> rfl) hM hg
theorem frz_14 {σ : Sg} {x : Int32} {p t : Nat} : frz (sI σ 14 0 x) p t = frz σ p t := anyN_congr _ (fun k _ => rfl)
theorem m_X2_isFrozen (hM : MP G h m ad σ) (hW : Wb σ) {p t : Int32} : gMet 3 yX2_isFrozen cX2_isFrozen 3 (some .boolean) G h [.ref m, .int p, .int t] (MR G h m ad (o_isFrozen σ p t)) gNo 0 := by
  refine gMet.of (by decide) (Nat.le_of_ble_eq_true rfl) (fun K C N hG hn hin => ?_)
  subst hG
  have kn_ : ∀ j : Nat, j < 3 → j < kn K := fun j hj => by rw [hn]; exact hj
  have hg : gfr 1 h h := gfr.rf
  have hW0 := hW
  obtain ⟨b0, b1, b2, b3, b4, b5, b6, b7, b8, b9, b10, b11⟩ := hW
  refine E.aload_n C dX2_isFrozen_0 rfl ?_
  refine E.aload_n C dX2_isFrozen_1 rfl ?_
  refine E.iload_n C dX2_isFrozen_2 rfl ?_
  refine E.callV C (m_X2_isPupil hM b1) dX2_isFrozen_3 q2222 q2224 qs36 q76 q2225 mh_X2_isPupil (by decide) (by decide) hM.rv rfl (Nat.le_of_ble_eq_true rfl) (by omega) (fun _ _ hx => hx.elim) ?_
  rintro v u (⟨rfl, q3, ⟨i3, hi3, rfl⟩, rfl⟩ | ⟨rfl, q3, rfl⟩)
  · have e3 := nI_clamp (show i3 < 2 ^ 31 by omega)
    refine E.if_eq C dX2_isFrozen_6 (tgt := 21) (by decide) (fun c => absurd c (by decide)) (fun cz => ?_)
    clear cz
    refine E.aload_n C dX2_isFrozen_9 rfl ?_
    refine E.iload_n C dX2_isFrozen_10 rfl ?_
    refine E.callV C (m_X2_isTask hM b2) dX2_isFrozen_11 q2226 q2228 qs37 q76 q2229 mh_X2_isTask (by decide) (by decide) hM.rv rfl (Nat.le_of_ble_eq_true rfl) (by omega) (fun _ _ hx => hx.elim) ?_
    rintro v u (⟨rfl, q11, ⟨i11, hi11, rfl⟩, rfl⟩ | ⟨rfl, q11, rfl⟩)
    · have e11 := nI_clamp (show i11 < 2 ^ 31 by omega)
      refine E.if_eq C dX2_isFrozen_14 (tgt := 21) (by decide) (fun c => absurd c (by decide)) (fun cz => ?_)
      clear cz
      refine E.iconst C dX2_isFrozen_17 (v := nI 0) (by decide) ?_
      refine E.goto C dX2_isFrozen_18 (tgt := 22) (by decide) ?_
      refine E.mputI9 C hM dX2_isFrozen_22 q2041 ?_
      intro u hM g9
      replace hg := hg.tr g9
      refine E.aload_n C dX2_isFrozen_25 rfl ?_
      refine E.getf C dX2_isFrozen_26 hM.cell rfl 9 q2041 (by decide) rfl rfl ?_
      refine E.ri (show _ = nI 0 from rfl) ?_
      refine E.if_ne C dX2_isFrozen_29 (tgt := 45) (by decide) (fun c => absurd c (by decide)) (fun cz => ?_)
      clear cz
      refine E.aload_n C dX2_isFrozen_32 rfl ?_
      refine E.iload_n C dX2_isFrozen_33 rfl ?_
      refine E.iload_n C dX2_isFrozen_34 rfl ?_
      refine E.callV C (m_X2_isFrozenOf hM hW0 (by omega) (by omega)) dX2_isFrozen_35 q2324 q2326 qs48 q76 q2327 mh_X2_isFrozenOf (by decide) (by decide) hM.rv rfl (Nat.le_of_ble_eq_true rfl) (by omega) (fun _ _ hx => hx.elim) ?_
      rintro v u (⟨rfl, q35, rfl⟩ | ⟨rfl, q35, rfl⟩)
      · rw [frz_14] at q35
        refine E.if_eq C dX2_isFrozen_38 (tgt := 45) (by decide) (fun c => absurd c (by decide)) (fun cz => ?_)
        clear cz
        refine E.iconst C dX2_isFrozen_41 (v := nI 1) (by decide) ?_
        refine E.goto C dX2_isFrozen_42 (tgt := 46) (by decide) ?_
        refine E.endZ C N dX2_isFrozen_46 (by first | rfl | assumption) (by omega) ?_
        exact MR.mk (by simp [o_isFrozen, oF, oT, bN, *] <;> rfl) hM hg
      · rw [frz_14] at q35
        refine E.if_eq C dX2_isFrozen_38 (tgt := 45) (by decide) (fun cz => ?_) (fun c => absurd c (by decide))
        clear cz
        refine E.iconst C dX2_isFrozen_45 (v := nI 0) (by decide) ?_
        refine E.endZ C N dX2_isFrozen_46 (by first | rfl | assumption) (by omega) ?_
        exact MR.mk (by simp [o_isFrozen, oF, oT, bN, *] <;> rfl) hM hg
    · refine E.if_eq C dX2_isFrozen_14 (tgt := 21) (by decide) (fun cz => ?_) (fun c => absurd c (by decide))
      clear cz
      refine E.iconst C dX2_isFrozen_21 (v := nI 1) (by decide) ?_
      refine E.mputI9 C hM dX2_isFrozen_22 q2041 ?_
      intro u hM g9
      replace hg := hg.tr g9
      refine E.aload_n C dX2_isFrozen_25 rfl ?_
      refine E.getf C dX2_isFrozen_26 hM.cell rfl 9 q2041 (by decide) rfl rfl ?_
      refine E.ri (show _ = nI 1 from rfl) ?_
      refine E.if_ne C dX2_isFrozen_29 (tgt := 45) (by decide) (fun cz => ?_) (fun c => absurd c (by decide))
      clear cz
      refine E.iconst C dX2_isFrozen_45 (v := nI 0) (by decide) ?_
      refine E.endZ C N dX2_isFrozen_46 (by first | rfl | assumption) (by omega) ?_
      exact MR.mk (by simp [o_isFrozen, oF, oT, bN, *] <;> rfl) hM hg
  · refine E.if_eq C dX2_isFrozen_6 (tgt := 21) (by decide) (fun cz => ?_) (fun c => absurd c (by decide))
    clear cz
    refine E.iconst C dX2_isFrozen_21 (v := nI 1) (by decide) ?_
    refine E.mputI9 C hM dX2_isFrozen_22 q2041 ?_
    intro u hM g9
    replace hg := hg.tr g9
    refine E.aload_n C dX2_isFrozen_25 rfl ?_
    refine E.getf C dX2_isFrozen_26 hM.cell rfl 9 q2041 (by decide) rfl rfl ?_
    refine E.ri (show _ = nI 1 from rfl) ?_
    refine E.if_ne C dX2_isFrozen_29 (tgt := 45) (by decide) (fun cz => ?_) (fun c => absurd c (by decide))
    clear cz
    refine E.iconst C dX2_isFrozen_45 (v := nI 0) (by decide) ?_
    refine E.endZ C N dX2_isFrozen_46 (by first | rfl | assumption) (by omega) ?_
    exact MR.mk (by simp [o_isFrozen, oF, oT, bN, *] <;> rfl) hM hg
theorem m_X2_shared (hM : MP G h m ad σ) (hW : Wb σ) {p t : Int32} : gMet 3 yX2_shared cX2_shared 3 (some .int) G h [.ref m, .int p, .int t] (MR G h m ad (o_shared σ p t)) gNo 0 := by
  refine gMet.of (by decide) (Nat.le_of_ble_eq_true rfl) (fun K C N hG hn hin => ?_)
  subst hG
  have kn_ : ∀ j : Nat, j < 3 → j < kn K := fun j hj => by rw [hn]; exact hj
  have hg : gfr 1 h h := gfr.rf
  have hW0 := hW
  obtain ⟨b0, b1, b2, b3, b4, b5, b6, b7, b8, b9, b10, b11⟩ := hW
  refine E.aload_n C dX2_shared_0 rfl ?_
  refine E.iload_n C dX2_shared_1 rfl ?_
  refine E.callV C (m_X2_isVersion hM b3) dX2_shared_2 q2230 q2232 qs38 q76 q2233 mh_X2_isVersion (by decide) (by decide) hM.rv rfl (Nat.le_of_ble_eq_true rfl) (by omega) (fun _ _ hx => hx.elim) ?_
  rintro v u (⟨rfl, q2, ⟨i2, hi2, rfl⟩, rfl⟩ | ⟨rfl, q2, rfl⟩)
  · have e2 := nI_clamp (show i2 < 2 ^ 31 by omega)
    refine E.if_eq C dX2_shared_5 (tgt := 29) (by decide) (fun c => absurd c (by decide)) (fun cz => ?_)
    clear cz
    refine E.aload_n C dX2_shared_8 rfl ?_
    refine E.iload_n C dX2_shared_9 rfl ?_
    refine E.callV C (m_X2_isVersion hM b3) dX2_shared_10 q2230 q2232 qs38 q76 q2233 mh_X2_isVersion (by decide) (by decide) hM.rv rfl (Nat.le_of_ble_eq_true rfl) (by omega) (fun _ _ hx => hx.elim) ?_
    rintro v u (⟨rfl, q10, ⟨i10, hi10, rfl⟩, rfl⟩ | ⟨rfl, q10, rfl⟩)
    · have e10 := nI_clamp (show i10 < 2 ^ 31 by omega)
      refine E.if_eq C dX2_shared_13 (tgt := 29) (by decide) (fun c => absurd c (by decide)) (fun cz => ?_)
      clear cz
      have z2 := b9 i2 hi2
      have z10 := b9 i10 hi10
      refine E.aload_n C dX2_shared_16 rfl ?_
      refine E.aload_n C dX2_shared_17 rfl ?_
      refine E.iload_n C dX2_shared_18 rfl ?_
      refine E.iload_n C dX2_shared_19 rfl ?_
      refine E.callV C (m_X2_common hM (by omega) (by omega) (by omega) (by omega)) dX2_shared_20 q2266 q2268 qs42 q76 q2269 mh_X2_common (by decide) (by decide) hM.rv rfl (Nat.le_of_ble_eq_true rfl) (by omega) (fun _ _ hx => hx.elim) ?_
      rintro v u ⟨rfl, rfl⟩
      refine E.callV C (m_X2_tells hM) dX2_shared_23 q2153 q2155 qs33 q76 q2156 mh_X2_tells (by decide) (by decide) hM.rv rfl (Nat.le_of_ble_eq_true rfl) (by omega) (fun _ _ hx => hx.elim) ?_
      rintro v u ⟨rfl, hM, g9⟩
      replace hg := hg.tr g9
      refine E.goto C dX2_shared_26 (tgt := 34) (by decide) ?_
      refine E.endI C N dX2_shared_34 (by omega) ?_
      exact MR.mk (by simp [o_shared, oF, oT, *] <;> rfl) hM hg
    · refine E.if_eq C dX2_shared_13 (tgt := 29) (by decide) (fun cz => ?_) (fun c => absurd c (by decide))
      clear cz
      refine E.aload_n C dX2_shared_29 rfl ?_
      refine E.iconst C dX2_shared_30 (v := nI 1) (by decide) ?_
      refine E.callV C (m_X2_fails hM) dX2_shared_31 q2149 q2151 qs32 q76 q2152 mh_X2_fails (by decide) (by decide) hM.rv rfl (Nat.le_of_ble_eq_true rfl) (by omega) (fun _ _ hx => hx.elim) ?_
      rintro v u ⟨rfl, hM, g9⟩
      replace hg := hg.tr g9
      refine E.endI C N dX2_shared_34 (by omega) ?_
      exact MR.mk (by simp [o_shared, oF, oT, *] <;> rfl) hM hg
  · refine E.if_eq C dX2_shared_5 (tgt := 29) (by decide) (fun cz => ?_) (fun c => absurd c (by decide))
    clear cz
    refine E.aload_n C dX2_shared_29 rfl ?_
    refine E.iconst C dX2_shared_30 (v := nI 1) (by decide) ?_
    refine E.callV C (m_X2_fails hM) dX2_shared_31 q2149 q2151 qs32 q76 q2152 mh_X2_fails (by decide) (by decide) hM.rv rfl (Nat.le_of_ble_eq_true rfl) (by omega) (fun _ _ hx => hx.elim) ?_
    rintro v u ⟨rfl, hM, g9⟩
    replace hg := hg.tr g9
    refine E.endI C N dX2_shared_34 (by omega) ?_
    exact MR.mk (by simp [o_shared, oF, oT, *] <;> rfl) hM hg
theorem m_X2_shingle (hM : MP G h m ad σ) (hW : Wb σ) {p x : Int32} : gMet 3 yX2_shingle cX2_shingle 3 (some .int) G h [.ref m, .int p, .int x] (MR G h m ad (o_shingle σ p x)) gNo 0 := by
  refine gMet.of (by decide) (Nat.le_of_ble_eq_true rfl) (fun K C N hG hn hin => ?_)
  subst hG
  have kn_ : ∀ j : Nat, j < 3 → j < kn K := fun j hj => by rw [hn]; exact hj
  have hg : gfr 1 h h := gfr.rf
  have hW0 := hW
  obtain ⟨b0, b1, b2, b3, b4, b5, b6, b7, b8, b9, b10, b11⟩ := hW
  refine E.aload_n C dX2_shingle_0 rfl ?_
  refine E.iload_n C dX2_shingle_1 rfl ?_
  refine E.callV C (m_X2_isVersion hM b3) dX2_shingle_2 q2230 q2232 qs38 q76 q2233 mh_X2_isVersion (by decide) (by decide) hM.rv rfl (Nat.le_of_ble_eq_true rfl) (by omega) (fun _ _ hx => hx.elim) ?_
  rintro v u (⟨rfl, q2, ⟨i2, hi2, rfl⟩, rfl⟩ | ⟨rfl, q2, rfl⟩)
  · have e2 := nI_clamp (show i2 < 2 ^ 31 by omega)
    refine E.if_ne C dX2_shingle_5 (tgt := 14) (by decide) (fun cz => ?_) (fun c => absurd c (by decide))
    clear cz
    have z2 := b9 i2 hi2
    refine E.iload_n C dX2_shingle_14 rfl ?_
    refine E.iconst C dX2_shingle_15 (v := nI 0) (by decide) ?_
    refine E.aload_n C dX2_shingle_16 rfl ?_
    refine E.getf C dX2_shingle_17 hM.cell rfl 29 q2061 (by decide) rfl rfl ?_
    refine E.iload_n C dX2_shingle_20 rfl ?_
    refine E.iald C dX2_shingle_21 hM.a29 (nI_in (by omega) (by omega)) (congrArg (fun k => nI (σ.1 15 k)) (nI_clamp (by omega))) ?_
    refine E.iconst C dX2_shingle_22 (v := nI 1) (by decide) ?_
    refine E.isub C dX2_shingle_23 ?_
    refine E.callS C (m_X2_in) dX2_shingle_24 q2146 q2147 q76 q2148 mh_X2_in (by decide) (by decide) rfl (Nat.le_of_ble_eq_true rfl) (by omega) (fun _ _ hx => hx.elim) ?_
    rintro v u (⟨rfl, q24, rfl⟩ | ⟨rfl, q24, rfl⟩)
    · obtain ⟨i24, hi24, rfl⟩ := bt_ix (by omega) q24
      have e24 := nI_clamp (show i24 < 2 ^ 31 by omega)
      refine E.if_eq C dX2_shingle_27 (tgt := 48) (by decide) (fun c => absurd c (by decide)) (fun cz => ?_)
      clear cz
      refine E.aload_n C dX2_shingle_30 rfl ?_
      refine E.aload_n C dX2_shingle_31 rfl ?_
      refine E.getf C dX2_shingle_32 hM.cell rfl 28 q2060 (by decide) rfl rfl ?_
      refine E.bipush C dX2_shingle_35 (v := nI 40) (by decide) ?_
      refine E.iload_n C dX2_shingle_37 rfl ?_
      refine E.imulN C dX2_shingle_38 ?_
      refine E.iload_n C dX2_shingle_39 rfl ?_
      refine E.iaddN C dX2_shingle_40 ?_
      refine E.iald C dX2_shingle_41 hM.a28 (nI_in (by omega) (by omega)) (congrArg (σ.2 12) (nI_clamp (by omega))) ?_
      refine E.callV C (m_X2_tells hM) dX2_shingle_42 q2153 q2155 qs33 q76 q2156 mh_X2_tells (by decide) (by decide) hM.rv rfl (Nat.le_of_ble_eq_true rfl) (by omega) (fun _ _ hx => hx.elim) ?_
      rintro v u ⟨rfl, hM, g9⟩
      replace hg := hg.tr g9
      refine E.goto C dX2_shingle_45 (tgt := 53) (by decide) ?_
      refine E.endI C N dX2_shingle_53 (by omega) ?_
      exact MR.mk (by simp [o_shingle, oF, oT, *] <;> rfl) hM hg
    · refine E.if_eq C dX2_shingle_27 (tgt := 48) (by decide) (fun cz => ?_) (fun c => absurd c (by decide))
      clear cz
      refine E.aload_n C dX2_shingle_48 rfl ?_
      refine E.iconst C dX2_shingle_49 (v := nI 2) (by decide) ?_
      refine E.callV C (m_X2_fails hM) dX2_shingle_50 q2149 q2151 qs32 q76 q2152 mh_X2_fails (by decide) (by decide) hM.rv rfl (Nat.le_of_ble_eq_true rfl) (by omega) (fun _ _ hx => hx.elim) ?_
      rintro v u ⟨rfl, hM, g9⟩
      replace hg := hg.tr g9
      refine E.endI C N dX2_shingle_53 (by omega) ?_
      exact MR.mk (by simp [o_shingle, oF, oT, *] <;> rfl) hM hg
  · refine E.if_ne C dX2_shingle_5 (tgt := 14) (by decide) (fun c => absurd c (by decide)) (fun cz => ?_)
    clear cz
    refine E.aload_n C dX2_shingle_8 rfl ?_
    refine E.iconst C dX2_shingle_9 (v := nI 1) (by decide) ?_
    refine E.callV C (m_X2_fails hM) dX2_shingle_10 q2149 q2151 qs32 q76 q2152 mh_X2_fails (by decide) (by decide) hM.rv rfl (Nat.le_of_ble_eq_true rfl) (by omega) (fun _ _ hx => hx.elim) ?_
    rintro v u ⟨rfl, hM, g9⟩
    replace hg := hg.tr g9
    refine E.endI C N dX2_shingle_13 (by omega) ?_
    exact MR.mk (by simp [o_shingle, oF, oT, *] <;> rfl) hM hg
theorem m_X2_holders (hM : MP G h m ad σ) (hW : Wb σ) {p : Int32} : gMet 2 yX2_holders cX2_holders 2 (some .int) G h [.ref m, .int p] (MR G h m ad (o_holders σ p)) gNo 0 := by
  refine gMet.of (by decide) (Nat.le_of_ble_eq_true rfl) (fun K C N hG hn hin => ?_)
  subst hG
  have kn_ : ∀ j : Nat, j < 2 → j < kn K := fun j hj => by rw [hn]; exact hj
  have hg : gfr 1 h h := gfr.rf
  have hW0 := hW
  obtain ⟨b0, b1, b2, b3, b4, b5, b6, b7, b8, b9, b10, b11⟩ := hW
  refine E.aload_n C dX2_holders_0 rfl ?_
  refine E.aload_n C dX2_holders_1 rfl ?_
  refine E.iload_n C dX2_holders_2 rfl ?_
  refine E.aload_n C dX2_holders_3 rfl ?_
  refine E.getf C dX2_holders_4 hM.cell rfl 4 q2036 (by decide) rfl rfl ?_
  refine E.callV C (m_X2_holdersOf hM hW0 (by omega)) dX2_holders_7 q2348 q2350 qs50 q76 q2351 mh_X2_holdersOf (by decide) (by decide) hM.rv rfl (Nat.le_of_ble_eq_true rfl) (by omega) (fun _ _ hx => hx.elim) ?_
  rintro v u ⟨rfl, rfl⟩
  refine E.callV C (m_X2_tells hM) dX2_holders_10 q2153 q2155 qs33 q76 q2156 mh_X2_tells (by decide) (by decide) hM.rv rfl (Nat.le_of_ble_eq_true rfl) (by omega) (fun _ _ hx => hx.elim) ?_
  rintro v u ⟨rfl, hM, g9⟩
  replace hg := hg.tr g9
  refine E.endI C N dX2_holders_13 (by omega) ?_
  exact MR.mk rfl hM hg
end M5
