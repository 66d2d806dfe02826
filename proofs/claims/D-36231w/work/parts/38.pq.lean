/-! JDK: PriorityQueue of hits -/
set_option maxRecDepth 100000
/-- a hit's cell: number nu, common co -/
def gHt (h : gH) (y : Nat) (nu co : Nat) : Prop := ∃ (th : Nat) (a b : Value) (he : Int32), h y = some (th, .inr (4, [.int (nI nu), a, b, .int (nI co), .int he]))
/-- the lesser is heard first -/
def rkH (nu co : Nat) : Int := 64 * (64 - (co : Int)) + nu
theorem nI_sub {a b : Nat} (ha : a < 64) (hb : b < 64) : (nI a - nI b).toInt = (a : Int) - b := by
  rw [Int32.toInt_sub, nI_toInt (by omega), nI_toInt (by omega)]
  have : ((a : Int) - b).bmod (2 ^ 32) = (a : Int) - b := Int.bmod_eq_of_le (by omega) (by omega)
  exact this
theorem gHt.rv {h : gH} {y nu co : Nat} (q : gHt h y nu co) : gRv h y RX5 := by
  obtain ⟨th, a, b, he, e⟩ := q
  exact gRv.of e (by decide)
section PQ
variable {G : gG} {h : gH}
theorem m_hcmp {x y nx cx ny cy : Nat} (hx : gHt h x nx cx) (hy : gHt h y ny cy) (b1 : nx < 64) (b2 : cx < 64) (b3 : ny < 64) (b4 : cy < 64) : gMet 1 yX5_compareTo_2 cX5_compareTo_2 2 (some .int) G h [.ref x, .ref y] (fun v u => u = h ∧ ∃ r : Int32, v = some (.int r) ∧ (r < 0 ↔ rkH nx cx < rkH ny cy) ∧ (r ≤ 0 ↔ rkH nx cx ≤ rkH ny cy)) gNo 0 := by
  obtain ⟨t1, a1, d1, e1, hx⟩ := hx
  obtain ⟨t2, a2, d2, e2, hy⟩ := hy
  refine gMet.of (by decide) (Nat.le_of_ble_eq_true rfl) (fun K C N hG hn hin => ?_)
  subst hG
  have kn_ : ∀ j : Nat, j < 2 → j < kn K := fun j hj => by rw [hn]; exact hj
  refine E.aload_n C dX5_compareTo_2_0 rfl ?_
  refine E.getf C dX5_compareTo_2_1 hx rfl 3 q1722 (by decide) rfl rfl ?_
  refine E.aload_n C dX5_compareTo_2_4 rfl ?_
  refine E.getf C dX5_compareTo_2_5 hy rfl 3 q1722 (by decide) rfl rfl ?_
  refine E.icmp_eq C dX5_compareTo_2_8 (tgt := 23) (by decide) (fun c => ?_) (fun c => ?_)
  · rw [nI_eq (by omega) (by omega)] at c
    refine E.aload_n C dX5_compareTo_2_23 rfl ?_
    refine E.getf C dX5_compareTo_2_24 hx rfl 0 q1716 (by decide) rfl rfl ?_
    refine E.aload_n C dX5_compareTo_2_27 rfl ?_
    refine E.getf C dX5_compareTo_2_28 hy rfl 0 q1716 (by decide) rfl rfl ?_
    refine E.isub C dX5_compareTo_2_31 ?_
    refine E.endI C N dX5_compareTo_2_32 (by omega) ?_
    refine ⟨rfl, _, rfl, ?_, ?_⟩
    · rw [Int32.lt_iff_toInt_lt, nI_sub b1 b3]; unfold rkH; show _ < (0 : Int) ↔ _; omega
    · rw [Int32.le_iff_toInt_le, nI_sub b1 b3]; unfold rkH; show _ ≤ (0 : Int) ↔ _; omega
  · rw [nI_eq (by omega) (by omega)] at c
    refine E.aload_n C dX5_compareTo_2_11 rfl ?_
    refine E.getf C dX5_compareTo_2_12 hy rfl 3 q1722 (by decide) rfl rfl ?_
    refine E.aload_n C dX5_compareTo_2_15 rfl ?_
    refine E.getf C dX5_compareTo_2_16 hx rfl 3 q1722 (by decide) rfl rfl ?_
    refine E.isub C dX5_compareTo_2_19 ?_
    refine E.goto C dX5_compareTo_2_20 (tgt := 32) (by decide) ?_
    refine E.endI C N dX5_compareTo_2_32 (by omega) ?_
    refine ⟨rfl, _, rfl, ?_, ?_⟩
    · rw [Int32.lt_iff_toInt_lt, nI_sub b4 b2]; unfold rkH; show _ < (0 : Int) ↔ _; omega
    · rw [Int32.le_iff_toInt_le, nI_sub b4 b2]; unfold rkH; show _ ≤ (0 : Int) ↔ _; omega
theorem m_hcmp0 {x y nx cx ny cy : Nat} (hx : gHt h x nx cx) (hy : gHt h y ny cy) (b1 : nx < 64) (b2 : cx < 64) (b3 : ny < 64) (b4 : cy < 64) : gMet 2 yX5_compareTo cX5_compareTo 2 (some .int) G h [.ref x, .ref y] (fun v u => u = h ∧ ∃ r : Int32, v = some (.int r) ∧ (r < 0 ↔ rkH nx cx < rkH ny cy) ∧ (r ≤ 0 ↔ rkH nx cx ≤ rkH ny cy)) gNo 0 := by
  refine gMet.of (by decide) (Nat.le_of_ble_eq_true rfl) (fun K C N hG hn hin => ?_)
  subst hG
  have kn_ : ∀ j : Nat, j < 2 → j < kn K := fun j hj => by rw [hn]; exact hj
  refine E.aload_n C dX5_compareTo_0 rfl ?_
  refine E.aload_n C dX5_compareTo_1 rfl ?_
  refine E.castS C q727 (gHt.rv hy) dX5_compareTo_2 ?_
  refine E.callV C (m_hcmp hx hy b1 b2 b3 b4) dX5_compareTo_5 q728 q729 q730 q98 q731 mh_X5_compareTo_2 (by decide) (by decide) (gHt.rv hx) rfl (Nat.le_of_ble_eq_true rfl) (by omega) (fun _ _ hx => hx.elim) ?_
  rintro v u ⟨rfl, r, rfl, q⟩
  refine E.endI C N dX5_compareTo_8 (by omega) ?_
  exact ⟨rfl, r, rfl, q⟩
end PQ
