/-! JDK: TreeMap's rotations -/
set_option maxRecDepth 100000
abbrev rotL (Θ : gT) (p r : Nat) : gT := (tS Θ, tK Θ, tX Θ, tV Θ, rLl (tL Θ) (tP Θ) p r, rLr (tL Θ) (tR Θ) (tP Θ) p r, rLp (tL Θ) (tP Θ) p r, tC Θ)
abbrev rotR (Θ : gT) (p r : Nat) : gT := (tS Θ, tK Θ, tX Θ, tV Θ, rRl (tL Θ) (tR Θ) (tP Θ) p r, rRr (tR Θ) (tP Θ) p r, rRp (tR Θ) (tP Θ) p r, tC Θ)
theorem rot_ne {A B P : Nat → Option Nat} {p r g : Nat} (eg : P p = some g) (c : ¬ A g = some p) (n1 : g ≠ r) (n2 : g ≠ p) : va_up A r (some p) = rLl A P p r ∧ va_up (va_up B p (A r)) g (some r) = rLr A B P p r := by
  constructor <;> funext q <;> simp only [va_up, rLl, rLr, eg, Option.some.injEq] <;> grind
theorem rot_eq {A B P : Nat → Option Nat} {p r g : Nat} (eg : P p = some g) (c : A g = some p) (n1 : g ≠ r) (n2 : g ≠ p) : va_up (va_up A g (some r)) r (some p) = rLl A P p r ∧ va_up B p (A r) = rLr A B P p r := by
  constructor <;> funext q <;> simp only [va_up, rLl, rLr, eg, Option.some.injEq] <;> grind
theorem rot_ro {A B P : Nat → Option Nat} {p r : Nat} (eg : P p = none) : va_up A r (some p) = rLl A P p r ∧ va_up B p (A r) = rLr A B P p r := by
  constructor <;> funext q <;> simp only [va_up, rLl, rLr, eg] <;> grind
theorem rot_p {A P : Nat → Option Nat} {p r : Nat} : va_up (va_up (fun q => if A r = some q then some p else P q) r (P p)) p (some r) = rLp A P p r := by
  funext q
  simp only [va_up, rLp]
section TROT
variable {G : gG} {h : gH} {t a : Nat} {Θ : gT} {root : Option Nat} {sz md : Int32}
set_option maxHeartbeats 1000000 in
theorem m_rotateLeft (T : TH h t a Θ root sz md) (ht : t ≠ 0) {gk : Nat → Int} {lq hq : Nat → Option Nat} {lo hi : Nat → Int} (I : TI (tS Θ) gk (tL Θ) (tR Θ) (tP Θ) root lq hq lo hi) (p r : Nat) (hp : tS Θ p) (hr : tR Θ p = some r) :
    gMet 1 yJ19_rotateLeft cJ19_rotateLeft 3 none G h [.ref a, .ref p] (fun v u => v = none ∧ TH u t a (rotL Θ p r) (rLo (tP Θ) root p r) sz md ∧ gfr t h u) gNo 0 := by
  obtain ⟨h1, h2, h3, h4, h5, h6, h7, h8, h9, h10, h11, h12, h13⟩ := I
  have hrr := h3 p r hp hr
  have hpr : p ≠ r := by grind
  have hb : ∀ b, tL Θ r = some b → tS Θ b ∧ b ≠ p ∧ b ≠ r := by grind
  have hg : ∀ g, tP Θ p = some g → tS Θ g ∧ g ≠ p ∧ g ≠ r ∧ (tL Θ g = some p ∨ tR Θ g = some p) ∧ ¬ (tL Θ g = some p ∧ tR Θ g = some p) := by grind
  have hbp : ¬ tL Θ r = some p := fun e => (hb p e).2.1 rfl
  have hbr : ¬ tL Θ r = some r := fun e => (hb r e).2.2 rfl
  refine gMet.of (by decide) (Nat.le_of_ble_eq_true rfl) (fun K C N hG hn hin => ?_)
  subst hG
  have kn_ : ∀ j : Nat, j < 3 → j < kn K := fun j hj => by rw [hn]; exact hj
  have k85 : ∀ (u : gH) (L4 R4 : Nat → Option Nat) (root4 : Option Nat), TH u t a (tS Θ, tK Θ, tX Θ, tV Θ, L4, R4, va_up (fun q => if tL Θ r = some q then some p else tP Θ q) r (tP Θ p), tC Θ) root4 sz md → gfr t h u → va_up L4 r (some p) = rLl (tL Θ) (tP Θ) p r → R4 = rLr (tL Θ) (tR Θ) (tP Θ) p r → root4 = rLo (tP Θ) root p r → E K 85 [(0, .ref a), (1, .ref p), (2, .ref r)] [] u 0 := by
    intro u L4 R4 root4 Tu fu e1 e2 e3
    subst e3
    refine E.aload_n C dJ19_rotateLeft_85 rfl ?_
    refine E.aload_n C dJ19_rotateLeft_86 rfl ?_
    refine E.tputL C Tu (ht := ht) (d := dJ19_rotateLeft_87) (w := q1128) (hq := hrr.1) (v := some p) ?_
    intro u2 T2 f2
    refine E.aload_n C dJ19_rotateLeft_90 rfl ?_
    refine E.aload_n C dJ19_rotateLeft_91 rfl ?_
    refine E.tputP C T2 (ht := ht) (d := dJ19_rotateLeft_92) (w := q1131) (hq := hp) (v := some r) ?_
    intro u3 T3 f3
    refine E.endV C N dJ19_rotateLeft_95 (by omega) ?_
    refine ⟨rfl, ?_, fu.tr (f2.tr f3)⟩
    have eP : va_up (va_up (fun q => if tL Θ r = some q then some p else tP Θ q) r (tP Θ p)) p (some r) = rLp (tL Θ) (tP Θ) p r := rot_p
    unfold rotL
    rw [← e1, ← e2, ← eP]
    exact T3
  have k32 : ∀ u : gH, TH u t a (tS Θ, tK Θ, tX Θ, tV Θ, tL Θ, va_up (tR Θ) p (tL Θ r), fun q => if tL Θ r = some q then some p else tP Θ q, tC Θ) root sz md → gfr t h u → E K 32 [(0, .ref a), (1, .ref p), (2, .ref r)] [] u 0 := by
    intro u Tu fu
    refine E.aload_n C dJ19_rotateLeft_32 rfl ?_
    refine E.aload_n C dJ19_rotateLeft_33 rfl ?_
    refine E.getf C dJ19_rotateLeft_34 ((Tu.en hp)) rfl 4 q1131 (by decide) rfl rfl ?_
    refine E.rv (congrArg va_rf (show _ = tP Θ p from if_neg hbp)) ?_
    refine E.tputP C Tu (ht := ht) (d := dJ19_rotateLeft_37) (w := q1131) (hq := hrr.1) ?_
    intro u2 T2 f2
    have f2 := fu.tr f2
    have hPp : va_up (fun q => if tL Θ r = some q then some p else tP Θ q) r (tP Θ p) p = tP Θ p := by simp only [va_up, if_neg hpr, if_neg hbp]
    refine E.aload_n C dJ19_rotateLeft_40 rfl ?_
    refine E.getf C dJ19_rotateLeft_41 ((T2.en hp)) rfl 4 q1131 (by decide) rfl rfl ?_
    refine E.rv (congrArg va_rf (show _ = tP Θ p from hPp)) ?_
    refine E.ifnonnull C dJ19_rotateLeft_44 (tgt := 55) (by decide) (fun g eg => ?_) (fun eg => ?_)
    · obtain ⟨g1, g2, g3, g4, g5⟩ := hg g eg
      refine E.aload_n C dJ19_rotateLeft_55 rfl ?_
      refine E.getf C dJ19_rotateLeft_56 ((T2.en hp)) rfl 4 q1131 (by decide) rfl rfl ?_
      refine E.rv (congrArg va_rf (show _ = some g from hPp.trans eg)) ?_
      refine E.getf C dJ19_rotateLeft_59 ((T2.en g1)) rfl 2 q1128 (by decide) rfl rfl ?_
      refine E.aload_n C dJ19_rotateLeft_62 rfl ?_
      refine E.acmp_ne (x := tL Θ g) (y := some p) C dJ19_rotateLeft_63 (tgt := 77) (by decide) (fun c => ?_) (fun c => ?_)
      · refine E.aload_n C dJ19_rotateLeft_77 rfl ?_
        refine E.getf C dJ19_rotateLeft_78 ((T2.en hp)) rfl 4 q1131 (by decide) rfl rfl ?_
        refine E.rv (congrArg va_rf (show _ = some g from hPp.trans eg)) ?_
        refine E.aload_n C dJ19_rotateLeft_81 rfl ?_
        refine E.tputR C T2 (ht := ht) (d := dJ19_rotateLeft_82) (w := q1129) (hq := g1) (v := some r) ?_
        intro u3 T3 f3
        refine k85 u3 _ _ _ T3 (f2.tr f3) (rot_ne (B := tR Θ) eg c g3 g2).1 (rot_ne (B := tR Θ) eg c g3 g2).2 (by unfold rLo; rw [if_neg (by rw [eg]; simp)])
      · refine E.aload_n C dJ19_rotateLeft_66 rfl ?_
        refine E.getf C dJ19_rotateLeft_67 ((T2.en hp)) rfl 4 q1131 (by decide) rfl rfl ?_
        refine E.rv (congrArg va_rf (show _ = some g from hPp.trans eg)) ?_
        refine E.aload_n C dJ19_rotateLeft_70 rfl ?_
        refine E.tputL C T2 (ht := ht) (d := dJ19_rotateLeft_71) (w := q1128) (hq := g1) (v := some r) ?_
        intro u3 T3 f3
        refine E.goto C dJ19_rotateLeft_74 (tgt := 85) (by decide) ?_
        refine k85 u3 _ _ _ T3 (f2.tr f3) (rot_eq (B := tR Θ) eg c g3 g2).1 (rot_eq (B := tR Θ) eg c g3 g2).2 (by unfold rLo; rw [if_neg (by rw [eg]; simp)])
    · refine E.aload_n C dJ19_rotateLeft_47 rfl ?_
      refine E.aload_n C dJ19_rotateLeft_48 rfl ?_
      refine E.tputRoot C T2 (ht := ht) (d := dJ19_rotateLeft_49) (w := q469) (v := some r) ?_
      intro u3 T3 f3
      refine E.goto C dJ19_rotateLeft_52 (tgt := 85) (by decide) ?_
      refine k85 u3 _ _ _ T3 (f2.tr f3) (rot_ro (B := tR Θ) eg).1 (rot_ro (B := tR Θ) eg).2 (by unfold rLo; rw [if_pos eg])
  refine E.aload_n C dJ19_rotateLeft_0 rfl ?_
  refine E.ifnull1 C dJ19_rotateLeft_1 ?_
  refine E.aload_n C dJ19_rotateLeft_4 rfl ?_
  refine E.getf C dJ19_rotateLeft_5 ((T.en hp)) rfl 3 q1129 (by decide) rfl rfl ?_
  rw [hr]
  refine E.astore_n C dJ19_rotateLeft_8 (kn_ _ (by decide)) ?_
  refine E.aload_n C dJ19_rotateLeft_9 rfl ?_
  refine E.aload_n C dJ19_rotateLeft_10 rfl ?_
  refine E.getf C dJ19_rotateLeft_11 ((T.en hrr.1)) rfl 2 q1128 (by decide) rfl rfl ?_
  refine E.tputR C T (ht := ht) (d := dJ19_rotateLeft_14) (w := q1129) (hq := hp) ?_
  intro u Tu fu
  refine E.aload_n C dJ19_rotateLeft_17 rfl ?_
  refine E.getf C dJ19_rotateLeft_18 ((Tu.en hrr.1)) rfl 2 q1128 (by decide) rfl rfl ?_
  refine E.ifnull (r := tL Θ r) C dJ19_rotateLeft_21 (tgt := 32) (by decide) (fun eb => ?_) (fun b eb => ?_)
  · refine k32 u ?_ fu
    have : (fun q => if tL Θ r = some q then some p else tP Θ q) = tP Θ := by funext q; rw [eb]; simp
    rw [this]
    exact Tu
  · obtain ⟨b1, b2, b3⟩ := hb b eb
    refine E.aload_n C dJ19_rotateLeft_24 rfl ?_
    refine E.getf C dJ19_rotateLeft_25 ((Tu.en hrr.1)) rfl 2 q1128 (by decide) rfl rfl ?_
    refine E.rv (congrArg va_rf (show _ = some b from eb)) ?_
    refine E.aload_n C dJ19_rotateLeft_28 rfl ?_
    refine E.tputP C Tu (ht := ht) (d := dJ19_rotateLeft_29) (w := q1131) (hq := b1) (v := some p) ?_
    intro u2 T2 f2
    refine k32 u2 ?_ (fu.tr f2)
    have : (fun q => if tL Θ r = some q then some p else tP Θ q) = va_up (tP Θ) b (some p) := by
      funext q
      rw [eb]
      simp only [va_up, Option.some.injEq]
      by_cases z : q = b
      · rw [if_pos z, if_pos z.symm]
      · rw [if_neg z, if_neg (fun y => z y.symm)]
    rw [this]
    exact T2
set_option maxHeartbeats 1000000 in
theorem m_rotateRight (T : TH h t a Θ root sz md) (ht : t ≠ 0) {gk : Nat → Int} {lq hq : Nat → Option Nat} {lo hi : Nat → Int} (I : TI (tS Θ) gk (tL Θ) (tR Θ) (tP Θ) root lq hq lo hi) (p r : Nat) (hp : tS Θ p) (hr : tL Θ p = some r) :
    gMet 1 yJ19_rotateRight cJ19_rotateRight 3 none G h [.ref a, .ref p] (fun v u => v = none ∧ TH u t a (rotR Θ p r) (rLo (tP Θ) root p r) sz md ∧ gfr t h u) gNo 0 := by
  obtain ⟨h1, h2, h3, h4, h5, h6, h7, h8, h9, h10, h11, h12, h13⟩ := I
  have hrr := h2 p r hp hr
  have hpr : p ≠ r := by grind
  have hb : ∀ b, tR Θ r = some b → tS Θ b ∧ b ≠ p ∧ b ≠ r := by grind
  have hg : ∀ g, tP Θ p = some g → tS Θ g ∧ g ≠ p ∧ g ≠ r ∧ (tL Θ g = some p ∨ tR Θ g = some p) ∧ ¬ (tL Θ g = some p ∧ tR Θ g = some p) := by grind
  have hbp : ¬ tR Θ r = some p := fun e => (hb p e).2.1 rfl
  have hbr : ¬ tR Θ r = some r := fun e => (hb r e).2.2 rfl
  refine gMet.of (by decide) (Nat.le_of_ble_eq_true rfl) (fun K C N hG hn hin => ?_)
  subst hG
  have kn_ : ∀ j : Nat, j < 3 → j < kn K := fun j hj => by rw [hn]; exact hj
  have k85 : ∀ (u : gH) (L4 R4 : Nat → Option Nat) (root4 : Option Nat), TH u t a (tS Θ, tK Θ, tX Θ, tV Θ, L4, R4, va_up (fun q => if tR Θ r = some q then some p else tP Θ q) r (tP Θ p), tC Θ) root4 sz md → gfr t h u → va_up R4 r (some p) = rRr (tR Θ) (tP Θ) p r → L4 = rRl (tL Θ) (tR Θ) (tP Θ) p r → root4 = rLo (tP Θ) root p r → E K 85 [(0, .ref a), (1, .ref p), (2, .ref r)] [] u 0 := by
    intro u L4 R4 root4 Tu fu e1 e2 e3
    subst e3
    refine E.aload_n C dJ19_rotateRight_85 rfl ?_
    refine E.aload_n C dJ19_rotateRight_86 rfl ?_
    refine E.tputR C Tu (ht := ht) (d := dJ19_rotateRight_87) (w := q1129) (hq := hrr.1) (v := some p) ?_
    intro u2 T2 f2
    refine E.aload_n C dJ19_rotateRight_90 rfl ?_
    refine E.aload_n C dJ19_rotateRight_91 rfl ?_
    refine E.tputP C T2 (ht := ht) (d := dJ19_rotateRight_92) (w := q1131) (hq := hp) (v := some r) ?_
    intro u3 T3 f3
    refine E.endV C N dJ19_rotateRight_95 (by omega) ?_
    refine ⟨rfl, ?_, fu.tr (f2.tr f3)⟩
    have eP : va_up (va_up (fun q => if tR Θ r = some q then some p else tP Θ q) r (tP Θ p)) p (some r) = rRp (tR Θ) (tP Θ) p r := rot_p
    unfold rotR
    rw [← e1, ← e2, ← eP]
    exact T3
  have k32 : ∀ u : gH, TH u t a (tS Θ, tK Θ, tX Θ, tV Θ, va_up (tL Θ) p (tR Θ r), tR Θ, fun q => if tR Θ r = some q then some p else tP Θ q, tC Θ) root sz md → gfr t h u → E K 32 [(0, .ref a), (1, .ref p), (2, .ref r)] [] u 0 := by
    intro u Tu fu
    refine E.aload_n C dJ19_rotateRight_32 rfl ?_
    refine E.aload_n C dJ19_rotateRight_33 rfl ?_
    refine E.getf C dJ19_rotateRight_34 ((Tu.en hp)) rfl 4 q1131 (by decide) rfl rfl ?_
    refine E.rv (congrArg va_rf (show _ = tP Θ p from if_neg hbp)) ?_
    refine E.tputP C Tu (ht := ht) (d := dJ19_rotateRight_37) (w := q1131) (hq := hrr.1) ?_
    intro u2 T2 f2
    have f2 := fu.tr f2
    have hPp : va_up (fun q => if tR Θ r = some q then some p else tP Θ q) r (tP Θ p) p = tP Θ p := by simp only [va_up, if_neg hpr, if_neg hbp]
    refine E.aload_n C dJ19_rotateRight_40 rfl ?_
    refine E.getf C dJ19_rotateRight_41 ((T2.en hp)) rfl 4 q1131 (by decide) rfl rfl ?_
    refine E.rv (congrArg va_rf (show _ = tP Θ p from hPp)) ?_
    refine E.ifnonnull C dJ19_rotateRight_44 (tgt := 55) (by decide) (fun g eg => ?_) (fun eg => ?_)
    · obtain ⟨g1, g2, g3, g4, g5⟩ := hg g eg
      refine E.aload_n C dJ19_rotateRight_55 rfl ?_
      refine E.getf C dJ19_rotateRight_56 ((T2.en hp)) rfl 4 q1131 (by decide) rfl rfl ?_
      refine E.rv (congrArg va_rf (show _ = some g from hPp.trans eg)) ?_
      refine E.getf C dJ19_rotateRight_59 ((T2.en g1)) rfl 3 q1129 (by decide) rfl rfl ?_
      refine E.aload_n C dJ19_rotateRight_62 rfl ?_
      refine E.acmp_ne (x := tR Θ g) (y := some p) C dJ19_rotateRight_63 (tgt := 77) (by decide) (fun c => ?_) (fun c => ?_)
      · refine E.aload_n C dJ19_rotateRight_77 rfl ?_
        refine E.getf C dJ19_rotateRight_78 ((T2.en hp)) rfl 4 q1131 (by decide) rfl rfl ?_
        refine E.rv (congrArg va_rf (show _ = some g from hPp.trans eg)) ?_
        refine E.aload_n C dJ19_rotateRight_81 rfl ?_
        refine E.tputL C T2 (ht := ht) (d := dJ19_rotateRight_82) (w := q1128) (hq := g1) (v := some r) ?_
        intro u3 T3 f3
        refine k85 u3 _ _ _ T3 (f2.tr f3) (rot_ne (B := tL Θ) eg c g3 g2).1 (rot_ne (B := tL Θ) eg c g3 g2).2 (by unfold rLo; rw [if_neg (by rw [eg]; simp)])
      · refine E.aload_n C dJ19_rotateRight_66 rfl ?_
        refine E.getf C dJ19_rotateRight_67 ((T2.en hp)) rfl 4 q1131 (by decide) rfl rfl ?_
        refine E.rv (congrArg va_rf (show _ = some g from hPp.trans eg)) ?_
        refine E.aload_n C dJ19_rotateRight_70 rfl ?_
        refine E.tputR C T2 (ht := ht) (d := dJ19_rotateRight_71) (w := q1129) (hq := g1) (v := some r) ?_
        intro u3 T3 f3
        refine E.goto C dJ19_rotateRight_74 (tgt := 85) (by decide) ?_
        refine k85 u3 _ _ _ T3 (f2.tr f3) (rot_eq (B := tL Θ) eg c g3 g2).1 (rot_eq (B := tL Θ) eg c g3 g2).2 (by unfold rLo; rw [if_neg (by rw [eg]; simp)])
    · refine E.aload_n C dJ19_rotateRight_47 rfl ?_
      refine E.aload_n C dJ19_rotateRight_48 rfl ?_
      refine E.tputRoot C T2 (ht := ht) (d := dJ19_rotateRight_49) (w := q469) (v := some r) ?_
      intro u3 T3 f3
      refine E.goto C dJ19_rotateRight_52 (tgt := 85) (by decide) ?_
      refine k85 u3 _ _ _ T3 (f2.tr f3) (rot_ro (B := tL Θ) eg).1 (rot_ro (B := tL Θ) eg).2 (by unfold rLo; rw [if_pos eg])
  refine E.aload_n C dJ19_rotateRight_0 rfl ?_
  refine E.ifnull1 C dJ19_rotateRight_1 ?_
  refine E.aload_n C dJ19_rotateRight_4 rfl ?_
  refine E.getf C dJ19_rotateRight_5 ((T.en hp)) rfl 2 q1128 (by decide) rfl rfl ?_
  rw [hr]
  refine E.astore_n C dJ19_rotateRight_8 (kn_ _ (by decide)) ?_
  refine E.aload_n C dJ19_rotateRight_9 rfl ?_
  refine E.aload_n C dJ19_rotateRight_10 rfl ?_
  refine E.getf C dJ19_rotateRight_11 ((T.en hrr.1)) rfl 3 q1129 (by decide) rfl rfl ?_
  refine E.tputL C T (ht := ht) (d := dJ19_rotateRight_14) (w := q1128) (hq := hp) ?_
  intro u Tu fu
  refine E.aload_n C dJ19_rotateRight_17 rfl ?_
  refine E.getf C dJ19_rotateRight_18 ((Tu.en hrr.1)) rfl 3 q1129 (by decide) rfl rfl ?_
  refine E.ifnull (r := tR Θ r) C dJ19_rotateRight_21 (tgt := 32) (by decide) (fun eb => ?_) (fun b eb => ?_)
  · refine k32 u ?_ fu
    have : (fun q => if tR Θ r = some q then some p else tP Θ q) = tP Θ := by funext q; rw [eb]; simp
    rw [this]
    exact Tu
  · obtain ⟨b1, b2, b3⟩ := hb b eb
    refine E.aload_n C dJ19_rotateRight_24 rfl ?_
    refine E.getf C dJ19_rotateRight_25 ((Tu.en hrr.1)) rfl 3 q1129 (by decide) rfl rfl ?_
    refine E.rv (congrArg va_rf (show _ = some b from eb)) ?_
    refine E.aload_n C dJ19_rotateRight_28 rfl ?_
    refine E.tputP C Tu (ht := ht) (d := dJ19_rotateRight_29) (w := q1131) (hq := b1) (v := some p) ?_
    intro u2 T2 f2
    refine k32 u2 ?_ (fu.tr f2)
    have : (fun q => if tR Θ r = some q then some p else tP Θ q) = va_up (tP Θ) b (some p) := by
      funext q
      rw [eb]
      simp only [va_up, Option.some.injEq]
      by_cases z : q = b
      · rw [if_pos z, if_pos z.symm]
      · rw [if_neg z, if_neg (fun y => z y.symm)]
    rw [this]
    exact T2
end TROT
