/-! JDK: TreeMap's deletion -/
set_option maxRecDepth 100000
theorem TI.void {S : Nat → Prop} {gk : Nat → Int} {L R P : Nat → Option Nat} {lq hq : Nat → Option Nat} {lo hi : Nat → Int} (h : ∀ q, ¬ S q) : TI S gk L R P none lq hq lo hi := by
  refine ⟨?_, ?_, ?_, ?_, ?_, ?_, ?_, ?_, ?_, ?_, ?_, ?_, ?_⟩ <;> grind
theorem TH.sub {h : gH} {t a : Nat} {Θ Θ2 : gT} {root : Option Nat} {sz md : Int32} (T : TH h t a Θ root sz md) (k : ∀ q, tS Θ2 q → tS Θ q ∧ tK Θ2 q = tK Θ q ∧ tX Θ2 q = tX Θ q ∧ tV Θ2 q = tV Θ q ∧ tL Θ2 q = tL Θ q ∧ tR Θ2 q = tR Θ q ∧ tP Θ2 q = tP Θ q ∧ tC Θ2 q = tC Θ q) : TH h t a Θ2 root sz md := by
  obtain ⟨T1, T2, T3⟩ := T
  refine ⟨T1, fun q hq => ?_, fun q hq => ?_⟩
  · obtain ⟨k0, k1, k2, k3, k4, k5, k6, k7⟩ := k q hq
    unfold ent
    rw [k1, k2, k3, k4, k5, k6, k7]
    exact T2 q k0
  · obtain ⟨k0, k1, k2, k3, k4, k5, k6, k7⟩ := k q hq
    rw [k7]; exact T3 q k0
section TDEL
variable {G : gG} {h : gH} {t a : Nat} {Θ : gT} {root : Option Nat} {sz md : Int32} {gk : Nat → Int} {lq hq : Nat → Option Nat} {lo hi : Nat → Int}
/-- what deleteEntry leaves -/
def dPost (h : gH) (t a : Nat) (Θ : gT) (sz md : Int32) (k : Int32) (u : gH) : Prop := gfr t h u ∧ ∃ Θ', TT u t a Θ' (sz - 1) (md + 1) ∧ ∀ k' w', Ct Θ' k' w' ↔ (Ct Θ k' w' ∧ k' ≠ k)
set_option maxHeartbeats 8000000 in
theorem m_deleteEntry (T : TH h t a Θ root sz md) (ht : t ≠ 0) (I : TI (tS Θ) gk (tL Θ) (tR Θ) (tP Θ) root lq hq lo hi) (g : tG Θ gk) {p : Nat} (hp : tS Θ p) :
    gMet 3 yJ19_deleteEntry cJ19_deleteEntry 3 none G h [.ref a, .ref p] (fun v u => v = none ∧ dPost h t a Θ sz md (tK Θ p) u) gNo 0 := by
  refine gMet.of (by decide) (Nat.le_of_ble_eq_true rfl) (fun K C N hG hn hin => ?_)
  subst hG
  have kn_ : ∀ j : Nat, j < 3 → j < kn K := fun j hj => by rw [hn]; exact hj
  have kend : ∀ (u : gH) (l : List (Nat × Value)) (Θ2 : gT) (root2 : Option Nat) (lq2 hq2 : Nat → Option Nat) (lo2 hi2 : Nat → Int) (gk2 : Nat → Int), gfr t h u → TH u t a Θ2 root2 (sz - 1) (md + 1) → (TI (tS Θ2) gk2 (tL Θ2) (tR Θ2) (tP Θ2) root2 lq2 hq2 lo2 hi2) → (TI (tS Θ2) gk2 (tL Θ2) (tR Θ2) (tP Θ2) root2 lq2 hq2 lo2 hi2 → (∃ gk3 lq3 hq3 lo3 hi3, TI (tS Θ2) gk3 (tL Θ2) (tR Θ2) (tP Θ2) root2 lq3 hq3 lo3 hi3 ∧ tG Θ2 gk3) ∧ ∀ k' w', Ct Θ2 k' w' ↔ (Ct Θ k' w' ∧ k' ≠ tK Θ p)) → E K 245 l [] u 0 := by
    intro u l Θ2 root2 lq2 hq2 lo2 hi2 gk2 f2 T2 I2 fin
    refine E.endV C N dJ19_deleteEntry_245 (by omega) ?_
    obtain ⟨⟨gk3, lq3, hq3, lo3, hi3, I3, g3⟩, c⟩ := fin I2
    exact ⟨rfl, f2, Θ2, ⟨root2, gk3, lq3, hq3, lo3, hi3, T2, I3, g3⟩, c⟩
  have k57 : ∀ (u : gH) (Θ1 : gT) (root1 : Option Nat) (gk1 : Nat → Int) (lq1 hq1 : Nat → Option Nat) (lo1 hi1 : Nat → Int) (x : Nat), gfr t h u → TH u t a Θ1 root1 (sz - 1) (md + 1) → TI (tS Θ1) gk1 (tL Θ1) (tR Θ1) (tP Θ1) root1 lq1 hq1 lo1 hi1 → (∀ q, tS Θ1 q → gk1 q < tB ∧ -tB < gk1 q) → tS Θ1 x → (tL Θ1 x = none ∨ tR Θ1 x = none) →
      (∀ (Θ2 : gT) (root2 : Option Nat) (lq2 hq2 : Nat → Option Nat) (lo2 hi2 : Nat → Int), tS Θ2 = (fun q => tS Θ1 q ∧ q ≠ x) → tK Θ2 = tK Θ1 → tV Θ2 = tV Θ1 → TI (tS Θ2) gk1 (tL Θ2) (tR Θ2) (tP Θ2) root2 lq2 hq2 lo2 hi2 → (∃ gk3 lq3 hq3 lo3 hi3, TI (tS Θ2) gk3 (tL Θ2) (tR Θ2) (tP Θ2) root2 lq3 hq3 lo3 hi3 ∧ tG Θ2 gk3) ∧ ∀ k' w', Ct Θ2 k' w' ↔ (Ct Θ k' w' ∧ k' ≠ tK Θ p)) →
      E K 57 [(0, .ref a), (1, .ref x)] [] u 0 := by
    intro u Θ1 root1 gk1 lq1 hq1 lo1 hi1 x fu Tu Iu hB sx hlr fin
    have iv : ∀ q, tS Θ1 q → lo1 q < gk1 q ∧ gk1 q < hi1 q := Iu.1
    -- with a child r
    have k76 : ∀ r : Nat, ((tL Θ1 x = some r ∧ tR Θ1 x = none) ∨ (tL Θ1 x = none ∧ tR Θ1 x = some r)) → E K 76 [(0, .ref a), (1, .ref x), (2, .ref r)] [] u 0 := by
      intro r hr
      have rr : tS Θ1 r ∧ tP Θ1 r = some x ∧ r ≠ x := by
        rcases hr with ⟨e, -⟩ | ⟨-, e⟩
        · have z := Iu.2.1 x r sx e
          have z1 := iv x sx
          exact ⟨z.1, z.2.1, fun c => by rw [c] at z; omega⟩
        · have z := Iu.2.2.1 x r sx e
          have z1 := iv x sx
          exact ⟨z.1, z.2.1, fun c => by rw [c] at z; omega⟩
      obtain ⟨sr, pr, nrx⟩ := rr
      have I2 := TI.splice Iu sx hB hr
      have k133 : ∀ (u2 : gH) (L2 R2 : Nat → Option Nat), gfr t h u2 → TH u2 t a (tS Θ1, tK Θ1, tX Θ1, tV Θ1, L2, R2, va_up (tP Θ1) r (tP Θ1 x), tC Θ1) (if tP Θ1 x = none then some r else root1) (sz - 1) (md + 1) → (∀ q, L2 q = if tP Θ1 x = some q ∧ tL Θ1 q = some x then some r else tL Θ1 q) → (∀ q, R2 q = if tP Θ1 x = some q ∧ ¬ tL Θ1 q = some x then some r else tR Θ1 q) → E K 133 [(0, .ref a), (1, .ref x), (2, .ref r)] [] u2 0 := by
        intro u2 L2 R2 f2 T2 eL eR
        refine E.aload_n C dJ19_deleteEntry_133 rfl ?_
        refine E.aload_n C dJ19_deleteEntry_134 rfl ?_
        refine E.aload_n C dJ19_deleteEntry_135 rfl ?_
        refine E.null C dJ19_deleteEntry_136 ?_
        refine E.dup_x1 C dJ19_deleteEntry_137 (by first | rfl | assumption) (by first | rfl | assumption) ?_
        refine E.tputP C T2 (ht := ht) (d := dJ19_deleteEntry_138) (w := q1131) (hq := sx) (v := none) ?_
        intro u3 T3 f3
        refine E.dup_x1 C dJ19_deleteEntry_141 (by first | rfl | assumption) (by first | rfl | assumption) ?_
        refine E.tputR C T3 (ht := ht) (d := dJ19_deleteEntry_142) (w := q1129) (hq := sx) (v := none) ?_
        intro u4 T4 f4
        refine E.tputL C T4 (ht := ht) (d := dJ19_deleteEntry_145) (w := q1128) (hq := sx) (v := none) ?_
        intro u5 T5 f5
        have T6 : TH u5 t a (fun q => tS Θ1 q ∧ q ≠ x, tK Θ1, tX Θ1, tV Θ1, (fun q => if tP Θ1 x = some q ∧ tL Θ1 q = some x then some r else tL Θ1 q), (fun q => if tP Θ1 x = some q ∧ ¬ tL Θ1 q = some x then some r else tR Θ1 q), (fun q => if q = r then tP Θ1 x else tP Θ1 q), tC Θ1) (if tP Θ1 x = none then some r else root1) (sz - 1) (md + 1) := by
          refine T5.sub (fun q hq => ⟨hq.1, rfl, rfl, rfl, ?_, ?_, ?_, rfl⟩)
          · exact (eL q).symm.trans (up_n hq.2).symm
          · exact (eR q).symm.trans (up_n hq.2).symm
          · exact (show _ = va_up (tP Θ1) r (tP Θ1 x) q from rfl).trans (up_n hq.2).symm
        have ff := f2.tr (f3.tr (f4.tr f5))
        refine E.aload_n C dJ19_deleteEntry_148 rfl ?_
        refine E.getf C dJ19_deleteEntry_149 ((T5.en sx)) rfl 5 q1133 (by decide) rfl rfl ?_
        refine E.iconst C dJ19_deleteEntry_152 (v := 1) (by decide) ?_
        refine E.icmp_ne C dJ19_deleteEntry_153 (tgt := 245) (by decide) (fun c => ?_) (fun c => ?_)
        · exact kend u5 _ _ _ _ _ _ _ _ ff T6 I2 (fin _ _ _ _ _ _ rfl rfl rfl)
        · refine E.aload_n C dJ19_deleteEntry_156 rfl ?_
          refine E.aload_n C dJ19_deleteEntry_157 rfl ?_
          refine E.callV C (m_fixAfterDeletion T6 ht I2 (fun q hq => hB q hq.1) (x0 := r) ⟨sr, nrx⟩ (fun _ => False) (fun z hz => hz.elim)) dJ19_deleteEntry_158 q1750 q1752 qs26 q75 q1753 mh_J19_fixAfterDeletion (by decide) (by decide) (TH.rv T6) rfl (Nat.le_of_ble_eq_true rfl) (by omega) (fun _ _ hx => hx.elim) ?_
          rintro v u6 ⟨rfl, f6, Θ3, r3, lq3, hq3, lo3, hi3, T7, e7, I7, -⟩
          refine E.goto C dJ19_deleteEntry_161 (tgt := 245) (by decide) ?_
          exact kend u6 _ Θ3 r3 lq3 hq3 lo3 hi3 gk1 (ff.tr f6) T7 I7 (fin Θ3 r3 lq3 hq3 lo3 hi3 e7.1 e7.2.1 e7.2.2.2)
      have hxr : x ≠ r := fun e => nrx e.symm
      have hPx : va_up (tP Θ1) r (tP Θ1 x) x = tP Θ1 x := up_n hxr
      have hcs : tP Θ1 x = none ∨ ∃ g, tP Θ1 x = some g := by cases tP Θ1 x <;> simp
      refine E.aload_n C dJ19_deleteEntry_76 rfl ?_
      refine E.ifnull1 C dJ19_deleteEntry_77 ?_
      refine E.aload_n C dJ19_deleteEntry_80 rfl ?_
      refine E.aload_n C dJ19_deleteEntry_81 rfl ?_
      refine E.getf C dJ19_deleteEntry_82 ((Tu.en sx)) rfl 4 q1131 (by decide) rfl rfl ?_
      refine E.tputP C Tu (ht := ht) (d := dJ19_deleteEntry_85) (w := q1131) (hq := sr) (v := tP Θ1 x) ?_
      intro u2 T2 f2
      refine E.aload_n C dJ19_deleteEntry_88 rfl ?_
      refine E.getf C dJ19_deleteEntry_89 ((T2.en sx)) rfl 4 q1131 (by decide) rfl rfl ?_
      rcases hcs with hP | ⟨g9, hP⟩
      · refine E.rv (congrArg va_rf (show _ = none from hPx.trans hP)) ?_
        refine E.ifnonnull0 C dJ19_deleteEntry_92 ?_
        refine E.aload_n C dJ19_deleteEntry_95 rfl ?_
        refine E.aload_n C dJ19_deleteEntry_96 rfl ?_
        refine E.tputRoot C T2 (ht := ht) (d := dJ19_deleteEntry_97) (w := q469) (v := some r) ?_
        intro u3 T3 f3
        refine E.goto C dJ19_deleteEntry_100 (tgt := 133) (by decide) ?_
        refine k133 u3 (tL Θ1) (tR Θ1) (fu.tr (f2.tr f3)) ?_ (fun q => ?_) (fun q => ?_)
        · rw [if_pos hP]; exact T3
        · rw [hP, if_neg (fun e => by cases e.1)]
        · rw [hP, if_neg (fun e => by cases e.1)]
      · have ug := Iu.up sx hP
        have sg := ug.1
        have hgr : g9 ≠ r := fun e => by
          have z1 := ug.2.1
          have z2 := (Iu.up sr pr).2.1
          rw [e] at z1; omega
        have hgx : g9 ≠ x := fun e => by
          have z1 := ug.2.1
          rw [e] at z1; omega
        refine E.rv (congrArg va_rf (show _ = some g9 from hPx.trans hP)) ?_
        refine E.ifnonnull1 C dJ19_deleteEntry_92 (tgt := 103) (by decide) ?_
        refine E.aload_n C dJ19_deleteEntry_103 rfl ?_
        refine E.aload_n C dJ19_deleteEntry_104 rfl ?_
        refine E.getf C dJ19_deleteEntry_105 ((T2.en sx)) rfl 4 q1131 (by decide) rfl rfl ?_
        refine E.rv (congrArg va_rf (show _ = some g9 from hPx.trans hP)) ?_
        refine E.getf C dJ19_deleteEntry_108 ((T2.en sg)) rfl 2 q1128 (by decide) rfl rfl ?_
        refine E.acmp_ne (x := some x) (y := tL Θ1 g9) C dJ19_deleteEntry_111 (tgt := 125) (by decide) (fun c => ?_) (fun c => ?_)
        · refine E.aload_n C dJ19_deleteEntry_125 rfl ?_
          refine E.getf C dJ19_deleteEntry_126 ((T2.en sx)) rfl 4 q1131 (by decide) rfl rfl ?_
          refine E.rv (congrArg va_rf (show _ = some g9 from hPx.trans hP)) ?_
          refine E.aload_n C dJ19_deleteEntry_129 rfl ?_
          refine E.tputR C T2 (ht := ht) (d := dJ19_deleteEntry_130) (w := q1129) (hq := sg) (v := some r) ?_
          intro u3 T3 f3
          refine k133 u3 (tL Θ1) (va_up (tR Θ1) g9 (some r)) (fu.tr (f2.tr f3)) ?_ (fun q => ?_) (fun q => ?_)
          · rw [if_neg (by rw [hP]; exact fun e => by cases e)]
            exact T3
          · rw [hP]
            refine (if_neg ?_).symm
            rintro ⟨e1, e2⟩
            cases e1
            exact c e2.symm
          · rw [hP]
            by_cases e : q = g9
            · subst e
              rw [if_pos ⟨rfl, fun e2 => c e2.symm⟩]; exact up_s
            · rw [if_neg (fun e1 => e (by have := e1.1; injection this with e3; exact e3.symm))]; exact up_n e
        · refine E.aload_n C dJ19_deleteEntry_114 rfl ?_
          refine E.getf C dJ19_deleteEntry_115 ((T2.en sx)) rfl 4 q1131 (by decide) rfl rfl ?_
          refine E.rv (congrArg va_rf (show _ = some g9 from hPx.trans hP)) ?_
          refine E.aload_n C dJ19_deleteEntry_118 rfl ?_
          refine E.tputL C T2 (ht := ht) (d := dJ19_deleteEntry_119) (w := q1128) (hq := sg) (v := some r) ?_
          intro u3 T3 f3
          refine E.goto C dJ19_deleteEntry_122 (tgt := 133) (by decide) ?_
          refine k133 u3 (va_up (tL Θ1) g9 (some r)) (tR Θ1) (fu.tr (f2.tr f3)) ?_ (fun q => ?_) (fun q => ?_)
          · rw [if_neg (by rw [hP]; exact fun e => by cases e)]
            exact T3
          · rw [hP]
            by_cases e : q = g9
            · subst e
              rw [if_pos ⟨rfl, c.symm⟩]; exact up_s
            · rw [if_neg (fun e1 => e (by have := e1.1; injection this with e3; exact e3.symm))]; exact up_n e
          · rw [hP]
            refine (if_neg ?_).symm
            rintro ⟨e1, e2⟩
            cases e1
            exact e2 c.symm
    -- a leaf
    have k192 : ∀ (u2 : gH) (Θ2 : gT) (root2 : Option Nat) (lq2 hq2 : Nat → Option Nat) (lo2 hi2 : Nat → Int), gfr t h u2 → TH u2 t a Θ2 root2 (sz - 1) (md + 1) → tEq Θ1 Θ2 → TI (tS Θ2) gk1 (tL Θ2) (tR Θ2) (tP Θ2) root2 lq2 hq2 lo2 hi2 → tL Θ2 x = none → tR Θ2 x = none → (∃ g9, tS Θ2 g9 ∧ g9 ≠ x) → E K 192 [(0, .ref a), (1, .ref x), (2, .null)] [] u2 0 := by
      rintro u2 Θ2 root2 lq2 hq2 lo2 hi2 f2 T2 e2 I2 l2 r2 ⟨g8, s8, n8⟩
      have sx2 : tS Θ2 x := by rw [e2.1]; exact sx
      have hB2 : ∀ q, tS Θ2 q → gk1 q < tB ∧ -tB < gk1 q := fun q hq => hB q (by rw [e2.1] at hq; exact hq)
      obtain ⟨g9, hP⟩ : ∃ g9, tP Θ2 x = some g9 := by
        cases e : tP Θ2 x with
        | none => exact absurd (TI.last I2 sx2 l2 r2 e hB2 g8 s8) n8
        | some z => exact ⟨z, rfl⟩
      have ug := I2.up sx2 hP
      have sg := ug.1
      have hgx : g9 ≠ x := fun e => by
        have z1 := ug.2.1
        rw [e] at z1; omega
      have I3 := TI.leaf I2 sx2 l2 r2 hP
      have k240 : ∀ (u3 : gH) (L3 R3 : Nat → Option Nat), gfr t h u3 → TH u3 t a (tS Θ2, tK Θ2, tX Θ2, tV Θ2, L3, R3, tP Θ2, tC Θ2) root2 (sz - 1) (md + 1) → (∀ q, L3 q = if q = g9 ∧ tL Θ2 g9 = some x then none else tL Θ2 q) → (∀ q, R3 q = if q = g9 ∧ ¬ tL Θ2 g9 = some x then none else tR Θ2 q) → E K 240 [(0, .ref a), (1, .ref x), (2, .null)] [] u3 0 := by
        intro u3 L3 R3 f3 T3 eL eR
        refine E.aload_n C dJ19_deleteEntry_240 rfl ?_
        refine E.null C dJ19_deleteEntry_241 ?_
        refine E.tputP C T3 (ht := ht) (d := dJ19_deleteEntry_242) (w := q1131) (hq := sx2) (v := none) ?_
        intro u4 T4 f4
        have T6 : TH u4 t a (fun q => tS Θ2 q ∧ q ≠ x, tK Θ2, tX Θ2, tV Θ2, (fun q => if q = g9 ∧ tL Θ2 g9 = some x then none else tL Θ2 q), (fun q => if q = g9 ∧ ¬ tL Θ2 g9 = some x then none else tR Θ2 q), tP Θ2, tC Θ2) root2 (sz - 1) (md + 1) := by
          refine T4.sub (fun q hq => ⟨hq.1, rfl, rfl, rfl, ?_, ?_, ?_, rfl⟩)
          · exact (eL q).symm
          · exact (eR q).symm
          · exact (up_n hq.2).symm
        exact kend u4 _ _ _ _ _ _ _ _ (f3.tr f4) T6 I3 (fin _ _ _ _ _ _ (by rw [e2.1.symm]) e2.2.1 e2.2.2.2)
      refine E.aload_n C dJ19_deleteEntry_192 rfl ?_
      refine E.getf C dJ19_deleteEntry_193 ((T2.en sx2)) rfl 4 q1131 (by decide) rfl rfl ?_
      refine E.rv (congrArg va_rf hP) ?_
      refine E.ifnull1 C dJ19_deleteEntry_196 ?_
      refine E.aload_n C dJ19_deleteEntry_199 rfl ?_
      refine E.aload_n C dJ19_deleteEntry_200 rfl ?_
      refine E.getf C dJ19_deleteEntry_201 ((T2.en sx2)) rfl 4 q1131 (by decide) rfl rfl ?_
      refine E.rv (congrArg va_rf hP) ?_
      refine E.getf C dJ19_deleteEntry_204 ((T2.en sg)) rfl 2 q1128 (by decide) rfl rfl ?_
      refine E.acmp_ne (x := some x) (y := tL Θ2 g9) C dJ19_deleteEntry_207 (tgt := 221) (by decide) (fun c => ?_) (fun c => ?_)
      · have hr9 : tR Θ2 g9 = some x := ug.2.2.resolve_left (fun z => c z.symm)
        refine E.aload_n C dJ19_deleteEntry_221 rfl ?_
        refine E.aload_n C dJ19_deleteEntry_222 rfl ?_
        refine E.getf C dJ19_deleteEntry_223 ((T2.en sx2)) rfl 4 q1131 (by decide) rfl rfl ?_
        refine E.rv (congrArg va_rf hP) ?_
        refine E.getf C dJ19_deleteEntry_226 ((T2.en sg)) rfl 3 q1129 (by decide) rfl rfl ?_
        refine E.acmp_ne (x := some x) (y := tR Θ2 g9) C dJ19_deleteEntry_229 (tgt := 240) (by decide) (fun c2 => ?_) (fun c2 => ?_)
        · exact absurd hr9.symm c2
        · refine E.aload_n C dJ19_deleteEntry_232 rfl ?_
          refine E.getf C dJ19_deleteEntry_233 ((T2.en sx2)) rfl 4 q1131 (by decide) rfl rfl ?_
          refine E.rv (congrArg va_rf hP) ?_
          refine E.null C dJ19_deleteEntry_236 ?_
          refine E.tputR C T2 (ht := ht) (d := dJ19_deleteEntry_237) (w := q1129) (hq := sg) (v := none) ?_
          intro u3 T3 f3
          refine k240 u3 (tL Θ2) (va_up (tR Θ2) g9 none) (f2.tr f3) T3 (fun q => ?_) (fun q => ?_)
          · exact (if_neg (fun e => c e.2.symm)).symm
          · by_cases e : q = g9
            · subst e
              rw [if_pos ⟨rfl, fun e2 => c e2.symm⟩]; exact up_s
            · rw [if_neg (fun e1 => e e1.1)]; exact up_n e
      · refine E.aload_n C dJ19_deleteEntry_210 rfl ?_
        refine E.getf C dJ19_deleteEntry_211 ((T2.en sx2)) rfl 4 q1131 (by decide) rfl rfl ?_
        refine E.rv (congrArg va_rf hP) ?_
        refine E.null C dJ19_deleteEntry_214 ?_
        refine E.tputL C T2 (ht := ht) (d := dJ19_deleteEntry_215) (w := q1128) (hq := sg) (v := none) ?_
        intro u3 T3 f3
        refine E.goto C dJ19_deleteEntry_218 (tgt := 240) (by decide) ?_
        refine k240 u3 (va_up (tL Θ2) g9 none) (tR Θ2) (f2.tr f3) T3 (fun q => ?_) (fun q => ?_)
        · by_cases e : q = g9
          · subst e
            rw [if_pos ⟨rfl, c.symm⟩]; exact up_s
          · rw [if_neg (fun e1 => e e1.1)]; exact up_n e
        · exact (if_neg (fun e => e.2 c.symm)).symm
    have k164 : tL Θ1 x = none → tR Θ1 x = none → E K 164 [(0, .ref a), (1, .ref x), (2, .null)] [] u 0 := by
      intro l2 r2
      have hcs : tP Θ1 x = none ∨ ∃ g, tP Θ1 x = some g := by cases tP Θ1 x <;> simp
      refine E.aload_n C dJ19_deleteEntry_164 rfl ?_
      refine E.getf C dJ19_deleteEntry_165 ((Tu.en sx)) rfl 4 q1131 (by decide) rfl rfl ?_
      rcases hcs with hP | ⟨g9, hP⟩
      · refine E.rv (congrArg va_rf hP) ?_
        refine E.ifnonnull0 C dJ19_deleteEntry_168 ?_
        refine E.aload_n C dJ19_deleteEntry_171 rfl ?_
        refine E.null C dJ19_deleteEntry_172 ?_
        refine E.tputRoot C Tu (ht := ht) (d := dJ19_deleteEntry_173) (w := q469) (v := none) ?_
        intro u2 T2 f2
        refine E.goto C dJ19_deleteEntry_176 (tgt := 245) (by decide) ?_
        have hl := TI.last Iu sx l2 r2 hP hB
        have hv : ∀ q, ¬ (tS Θ1 q ∧ q ≠ x) := fun q hq => hq.2 (hl q hq.1)
        have T6 : TH u2 t a (fun q => tS Θ1 q ∧ q ≠ x, tK Θ1, tX Θ1, tV Θ1, tL Θ1, tR Θ1, tP Θ1, tC Θ1) none (sz - 1) (md + 1) := T2.sub (fun q hq => absurd hq (hv q))
        exact kend u2 _ _ none lq1 hq1 lo1 hi1 gk1 (fu.tr f2) T6 (TI.void hv) (fin _ _ _ _ _ _ rfl rfl rfl)
      · have ug := Iu.up sx hP
        have hgx : g9 ≠ x := fun e => by
          have z1 := ug.2.1
          rw [e] at z1; omega
        refine E.rv (congrArg va_rf hP) ?_
        refine E.ifnonnull1 C dJ19_deleteEntry_168 (tgt := 179) (by decide) ?_
        refine E.aload_n C dJ19_deleteEntry_179 rfl ?_
        refine E.getf C dJ19_deleteEntry_180 ((Tu.en sx)) rfl 5 q1133 (by decide) rfl rfl ?_
        refine E.iconst C dJ19_deleteEntry_183 (v := 1) (by decide) ?_
        refine E.icmp_ne C dJ19_deleteEntry_184 (tgt := 192) (by decide) (fun c => ?_) (fun c => ?_)
        · exact k192 u Θ1 root1 lq1 hq1 lo1 hi1 fu Tu tEq.rf Iu l2 r2 ⟨g9, ug.1, hgx⟩
        · refine E.aload_n C dJ19_deleteEntry_187 rfl ?_
          refine E.aload_n C dJ19_deleteEntry_188 rfl ?_
          refine E.callV C (m_fixAfterDeletion Tu ht Iu hB (x0 := x) sx (fun z => z = x) (fun z hz => by subst hz; exact ⟨l2, r2, iv z sx⟩)) dJ19_deleteEntry_189 q1750 q1752 qs26 q75 q1753 mh_J19_fixAfterDeletion (by decide) (by decide) (TH.rv Tu) rfl (Nat.le_of_ble_eq_true rfl) (by omega) (fun _ _ hx => hx.elim) ?_
          rintro v u6 ⟨rfl, f6, Θ3, r3, lq3, hq3, lo3, hi3, T7, e7, I7, lf⟩
          obtain ⟨l3, r9⟩ := lf x rfl
          exact k192 u6 Θ3 r3 lq3 hq3 lo3 hi3 (fu.tr f6) T7 e7 I7 l3 r9 ⟨g9, by rw [e7.1]; exact ug.1, hgx⟩
    have hcl : tL Θ1 x = none ∨ ∃ g, tL Θ1 x = some g := by cases tL Θ1 x <;> simp
    have hcr : tR Θ1 x = none ∨ ∃ g, tR Θ1 x = some g := by cases tR Θ1 x <;> simp
    refine E.aload_n C dJ19_deleteEntry_57 rfl ?_
    refine E.getf C dJ19_deleteEntry_58 ((Tu.en sx)) rfl 2 q1128 (by decide) rfl rfl ?_
    rcases hcl with hl | ⟨b, hl⟩
    · refine E.rv (congrArg va_rf hl) ?_
      refine E.ifnull0 C dJ19_deleteEntry_61 (tgt := 71) (by decide) ?_
      refine E.aload_n C dJ19_deleteEntry_71 rfl ?_
      refine E.getf C dJ19_deleteEntry_72 ((Tu.en sx)) rfl 3 q1129 (by decide) rfl rfl ?_
      rcases hcr with hr | ⟨b, hr⟩
      · refine E.rv (congrArg va_rf hr) ?_
        refine E.astore_n C dJ19_deleteEntry_75 (kn_ _ (by decide)) ?_
        refine E.aload_n C dJ19_deleteEntry_76 rfl ?_
        refine E.ifnull0 C dJ19_deleteEntry_77 (tgt := 164) (by decide) ?_
        exact k164 hl hr
      · refine E.rv (congrArg va_rf hr) ?_
        refine E.astore_n C dJ19_deleteEntry_75 (kn_ _ (by decide)) ?_
        exact k76 b (Or.inr ⟨hl, hr⟩)
    · refine E.rv (congrArg va_rf hl) ?_
      refine E.ifnull1 C dJ19_deleteEntry_61 ?_
      refine E.aload_n C dJ19_deleteEntry_64 rfl ?_
      refine E.getf C dJ19_deleteEntry_65 ((Tu.en sx)) rfl 2 q1128 (by decide) rfl rfl ?_
      refine E.rv (congrArg va_rf hl) ?_
      refine E.goto C dJ19_deleteEntry_68 (tgt := 75) (by decide) ?_
      refine E.astore_n C dJ19_deleteEntry_75 (kn_ _ (by decide)) ?_
      exact k76 b (Or.inl ⟨hl, hlr.resolve_left (fun z => by rw [hl] at z; cases z)⟩)
  have hB := g.B
  have hcl : tL Θ p = none ∨ ∃ g, tL Θ p = some g := by cases tL Θ p <;> simp
  have hcr : tR Θ p = none ∨ ∃ g, tR Θ p = some g := by cases tR Θ p <;> simp
  have finp : ∀ (Θ2 : gT) (root2 : Option Nat) (lq2 hq2 : Nat → Option Nat) (lo2 hi2 : Nat → Int), tS Θ2 = (fun q => tS Θ q ∧ q ≠ p) → tK Θ2 = tK Θ → tV Θ2 = tV Θ → TI (tS Θ2) gk (tL Θ2) (tR Θ2) (tP Θ2) root2 lq2 hq2 lo2 hi2 → (∃ gk3 lq3 hq3 lo3 hi3, TI (tS Θ2) gk3 (tL Θ2) (tR Θ2) (tP Θ2) root2 lq3 hq3 lo3 hi3 ∧ tG Θ2 gk3) ∧ ∀ k' w', Ct Θ2 k' w' ↔ (Ct Θ k' w' ∧ k' ≠ tK Θ p) := by
    intro Θ2 root2 lq2 hq2 lo2 hi2 e1 e2 e3 I2
    have inj : ∀ y, tS Θ y → tK Θ y = tK Θ p → y = p := fun y hy hk => I.2.2.2.2.2.2.2.2.2.1 y p hy hp (by rw [g y hy, g p hp, hk])
    refine ⟨⟨gk, lq2, hq2, lo2, hi2, I2, fun q hq => ?_⟩, fun k' w' => ?_⟩
    · rw [e1] at hq; rw [e2]; exact g q hq.1
    · unfold Ct
      rw [e1, e2, e3]
      constructor
      · rintro ⟨q, ⟨q1, q2⟩, q3, q4⟩
        exact ⟨⟨q, q1, q3, q4⟩, fun e => q2 (inj q q1 (q3.trans e))⟩
      · rintro ⟨⟨q, q1, q3, q4⟩, n9⟩
        exact ⟨q, ⟨q1, fun e => n9 (by rw [← q3, e])⟩, q3, q4⟩
  refine E.aload_n C dJ19_deleteEntry_0 rfl ?_
  refine E.dup C dJ19_deleteEntry_1 (by first | rfl | assumption) ?_
  refine E.tgetMod C T dJ19_deleteEntry_2 q471 ?_
  refine E.iconst C dJ19_deleteEntry_5 (v := 1) (by decide) ?_
  refine E.iadd C dJ19_deleteEntry_6 ?_
  refine E.tputMod C T (ht := ht) (d := dJ19_deleteEntry_7) (w := q471)  ?_
  intro u1 T1 f1
  refine E.aload_n C dJ19_deleteEntry_10 rfl ?_
  refine E.dup C dJ19_deleteEntry_11 (by first | rfl | assumption) ?_
  refine E.tgetSize C T1 dJ19_deleteEntry_12 q470 ?_
  refine E.iconst C dJ19_deleteEntry_15 (v := 1) (by decide) ?_
  refine E.isub C dJ19_deleteEntry_16 ?_
  refine E.tputSize C T1 (ht := ht) (d := dJ19_deleteEntry_17) (w := q470)  ?_
  intro u2 T2 f2
  have f12 := f1.tr f2
  refine E.aload_n C dJ19_deleteEntry_20 rfl ?_
  refine E.getf C dJ19_deleteEntry_21 ((T2.en hp)) rfl 2 q1128 (by decide) rfl rfl ?_
  rcases hcl with hl | ⟨b, hl⟩
  · refine E.rv (congrArg va_rf hl) ?_
    refine E.ifnull0 C dJ19_deleteEntry_24 (tgt := 57) (by decide) ?_
    exact k57 u2 Θ root gk lq hq lo hi p f12 T2 I hB hp (Or.inl hl) finp
  · refine E.rv (congrArg va_rf hl) ?_
    refine E.ifnull1 C dJ19_deleteEntry_24 ?_
    refine E.aload_n C dJ19_deleteEntry_27 rfl ?_
    refine E.getf C dJ19_deleteEntry_28 ((T2.en hp)) rfl 3 q1129 (by decide) rfl rfl ?_
    rcases hcr with hr | ⟨b2, hr⟩
    · refine E.rv (congrArg va_rf hr) ?_
      refine E.ifnull0 C dJ19_deleteEntry_31 (tgt := 57) (by decide) ?_
      exact k57 u2 Θ root gk lq hq lo hi p f12 T2 I hB hp (Or.inr hr) finp
    · refine E.rv (congrArg va_rf hr) ?_
      refine E.ifnull1 C dJ19_deleteEntry_31 ?_
      refine E.aload_n C dJ19_deleteEntry_34 rfl ?_
      refine E.callS C (m_successor T2 I hB hp) dJ19_deleteEntry_35 q1749 q1022 q75 q1023 mh_J19_successor (by decide) (by decide) rfl (Nat.le_of_ble_eq_true rfl) (by omega) (fun _ _ hx => hx.elim) ?_
      rintro v u9 ⟨rfl, r9, rfl, nx, hx⟩
      obtain ⟨s9, rfl, ls, -⟩ := hx b2 hr
      obtain ⟨ss, gs, ns⟩ := nx.1 s9 rfl
      have hps : p ≠ s9 := fun e => by rw [e] at gs; omega
      have gp9 := g p hp
      have gs9 := g s9 ss
      refine E.astore_n C dJ19_deleteEntry_38 (kn_ _ (by decide)) ?_
      refine E.aload_n C dJ19_deleteEntry_39 rfl ?_
      refine E.aload_n C dJ19_deleteEntry_40 rfl ?_
      refine E.getf C dJ19_deleteEntry_41 ((T2.en ss)) rfl 0 q1125 (by decide) rfl rfl ?_
      refine E.tputK C T2 (ht := ht) (d := dJ19_deleteEntry_44) (w := q1125) (hq := hp) (hx := T2.bx ss) ?_
      intro u3 T3 f3
      refine E.aload_n C dJ19_deleteEntry_47 rfl ?_
      refine E.aload_n C dJ19_deleteEntry_48 rfl ?_
      refine E.getf C dJ19_deleteEntry_49 ((T3.en ss)) rfl 1 q1127 (by decide) rfl rfl ?_
      refine E.rv (congrArg va_rf (show _ = tV Θ s9 from rfl)) ?_
      refine E.tputV C T3 (ht := ht) (d := dJ19_deleteEntry_52) (w := q1127) (hq := hp) (v := tV Θ s9) ?_
      intro u4 T4 f4
      refine E.aload_n C dJ19_deleteEntry_55 rfl ?_
      refine E.astore_n C dJ19_deleteEntry_56 (kn_ _ (by decide)) ?_
      have hno : ∀ c, tS Θ c → c ≠ p → ¬ (gk p < gk c ∧ gk c ≤ 2 * (tK Θ s9).toInt - 1) := fun c hc hcp hx9 => ns c hc ⟨hx9.1, by omega⟩
      have I4 := TI.rekey I hp (v := 2 * (tK Θ s9).toInt - 1) (by omega) hno (by have := (hB s9 ss).1; omega) hB
      have B4 : ∀ q, tS Θ q → (if q = p then 2 * (tK Θ s9).toInt - 1 else gk q) < tB ∧ -tB < (if q = p then 2 * (tK Θ s9).toInt - 1 else gk q) := by
        intro q hq9
        by_cases e : q = p
        · rw [if_pos e]; have := hB s9 ss; have := hB p hp; omega
        · rw [if_neg e]; exact hB q hq9
      refine E.sub (l' := [(0, .ref a), (1, .ref s9)]) [0, 1] rfl ?_
      refine k57 u4 _ root _ _ _ _ _ s9 (f12.tr (f3.tr f4)) T4 I4 B4 ss (Or.inl ls) (fun Θ2 root2 lq2 hq2 lo2 hi2 e1 e2 e3 I2 => ?_)
      have sp2 : tS Θ2 p := by rw [e1]; exact ⟨hp, hps⟩
      have B5 : ∀ q, tS Θ2 q → (if q = p then 2 * (tK Θ s9).toInt - 1 else gk q) < tB ∧ -tB < (if q = p then 2 * (tK Θ s9).toInt - 1 else gk q) := fun q hq9 => B4 q (by rw [e1] at hq9; exact hq9.1)
      have I5 := TI.rekey I2 sp2 (v := 2 * (tK Θ s9).toInt) (by rw [if_pos rfl]; omega) (fun c hc hcp hx9 => by
        rw [if_pos rfl, if_neg hcp] at hx9
        rw [e1] at hc
        have z1 : gk c = gk s9 := by omega
        exact hc.2 (I.2.2.2.2.2.2.2.2.2.1 c s9 hc.1 ss z1)) (by have := (hB s9 ss).1; omega) B5
      refine ⟨⟨_, _, _, _, _, I5, fun q hq9 => ?_⟩, fun k' w' => ?_⟩
      · rw [e1] at hq9
        rw [e2]
        show (if q = p then 2 * (tK Θ s9).toInt else if q = p then _ else gk q) = 2 * (va_up (tK Θ) p (tK Θ s9) q).toInt
        by_cases e : q = p
        · subst e; rw [if_pos rfl, up_s]
        · rw [if_neg e, if_neg e, up_n e]; exact g q hq9.1
      · unfold Ct
        rw [e1, e2, e3]
        have inj : ∀ y z, tS Θ y → tS Θ z → tK Θ y = tK Θ z → y = z := fun y z hy hz hk => I.2.2.2.2.2.2.2.2.2.1 y z hy hz (by rw [g y hy, g z hz, hk])
        constructor
        · rintro ⟨q, ⟨q1, q2⟩, q3, q4⟩
          by_cases e : q = p
          · subst e
            have q3 := up_s.symm.trans q3
            have q4 := up_s.symm.trans q4
            exact ⟨⟨s9, ss, q3, q4⟩, fun e9 => hps (inj q s9 hp ss (by rw [← e9]; exact q3.symm))⟩
          · have q3 := (up_n e).symm.trans q3
            have q4 := (up_n e).symm.trans q4
            exact ⟨⟨q, q1, q3, q4⟩, fun e9 => e (inj q p q1 hp (q3.trans e9))⟩
        · rintro ⟨⟨q, q1, q3, q4⟩, n9⟩
          by_cases e : q = s9
          · subst e
            exact ⟨p, ⟨hp, hps⟩, up_s.trans q3, up_s.trans q4⟩
          · have ep : q ≠ p := fun e9 => n9 (by rw [← q3, e9])
            exact ⟨q, ⟨q1, e⟩, (up_n ep).trans q3, (up_n ep).trans q4⟩
theorem m_remove (T : TT h t a Θ sz md) (ht : t ≠ 0) {bx : Nat} {k : Int32} (hb : h bx = some (gbox k)) :
    gMet 5 yJ19_remove cJ19_remove 4 (some (.object "java/lang/Object")) G h [.ref a, .ref bx] (fun v u => (∃ r, v = some (va_rf r)) ∧ (((∃ w, Ct Θ k w) ∧ dPost h t a Θ sz md k u) ∨ ((∀ w, ¬ Ct Θ k w) ∧ u = h))) gNo 0 := by
  obtain ⟨root, gk, lq, hq, lo, hi, T, I, g⟩ := T
  refine gMet.of (by decide) (Nat.le_of_ble_eq_true rfl) (fun K C N hG hn hin => ?_)
  subst hG
  have kn_ : ∀ j : Nat, j < 4 → j < kn K := fun j hj => by rw [hn]; exact hj
  refine E.aload_n C dJ19_remove_0 rfl ?_
  refine E.aload_n C dJ19_remove_1 rfl ?_
  refine E.callV C (m_getEntry T I g hb) dJ19_remove_2 q701 q702 q703 q75 q704 mh_J19_getEntry (by decide) (by decide) (TH.rv T) rfl (Nat.le_of_ble_eq_true rfl) (by omega) (fun _ _ hx => hx.elim) ?_
  rintro v u ⟨rfl, r, rfl, r1, r2⟩
  cases r with
  | none =>
    refine E.astore_n C dJ19_remove_5 (kn_ _ (by decide)) ?_
    refine E.aload_n C dJ19_remove_6 rfl ?_
    refine E.ifnonnull0 C dJ19_remove_7 ?_
    refine E.null C dJ19_remove_10 ?_
    refine E.endA C N dJ19_remove_11 (by omega) ?_
    exact ⟨⟨none, rfl⟩, Or.inr ⟨fun w z => by obtain ⟨q, q1, q2, -⟩ := z; exact r2 rfl q q1 q2, rfl⟩⟩
  | some q =>
    obtain ⟨q1, q2⟩ := r1 q rfl
    refine E.astore_n C dJ19_remove_5 (kn_ _ (by decide)) ?_
    refine E.aload_n C dJ19_remove_6 rfl ?_
    refine E.ifnonnull1 C dJ19_remove_7 (tgt := 12) (by decide) ?_
    refine E.aload_n C dJ19_remove_12 rfl ?_
    refine E.getf C dJ19_remove_13 ((T.en q1)) rfl 1 q1127 (by decide) rfl rfl ?_
    refine E.astore_n C dJ19_remove_16 (kn_ _ (by decide)) ?_
    refine E.loc (l' := [(0, .ref a), (1, .ref bx), (2, .ref q), (3, va_rf (tV Θ q))]) (by cases tV Θ q <;> rfl) ?_
    refine E.aload_n C dJ19_remove_17 rfl ?_
    refine E.aload_n C dJ19_remove_18 rfl ?_
    refine E.callV C (m_deleteEntry T ht I g q1) dJ19_remove_19 q1745 q1747 qs25 q75 q1748 mh_J19_deleteEntry (by decide) (by decide) (TH.rv T) rfl (Nat.le_of_ble_eq_true rfl) (by omega) (fun _ _ hx => hx.elim) ?_
    rintro v u2 ⟨rfl, P⟩
    refine E.aload_n C dJ19_remove_22 rfl ?_
    refine E.endA C N dJ19_remove_23 (by omega) ?_ (hv := by show va_rf (tV Θ q) = .null ∨ ∃ z, va_rf (tV Θ q) = .ref z; cases tV Θ q with | none => exact Or.inl rfl | some z => exact Or.inr ⟨z, rfl⟩)
    exact ⟨⟨tV Θ q, rfl⟩, Or.inl ⟨⟨tV Θ q, q, q1, q2, rfl⟩, q2 ▸ P⟩⟩
end TDEL
