/-! JDK: PriorityQueue: size, grow, offer, add, constructors -/
set_option maxRecDepth 100000
/-- a queue at p: its array arr (cap), n hits A 0 .. -/
def gQu (G : gG) (h : gH) (t p : Nat) (n : Nat) (R : Nat → Int) (A : Nat → Nat) : Prop := ∃ (arr cap : Nat) (f : Nat → Option Nat) (md : Int32), h p = some (t, .inr (12, [.ref arr, .int (nI n), .null, .int md])) ∧ h arr = some (t, oar G cap f) ∧ n ≤ cap ∧ 1 ≤ cap ∧ cap < 2 ^ 12 ∧ (∀ i, i < n → f i = some (A i)) ∧ (∀ i, i < n → PH h t R (A i)) ∧ HO n R A
theorem nI_subN {a b : Nat} (h : b ≤ a) : nI a - nI b = nI (a - b) := by
  have e : nI a = nI (a - b) + nI b := by rw [nI_add, Nat.sub_add_cancel h]
  rw [e, Int32.add_sub_cancel]
theorem nI_half {a : Nat} (h : a < 2 ^ 31) : nI a >>> ((1 : Int32) &&& 31) = nI (a / 2) := by
  have := pk_shrN h ((1 : Int32) &&& 31) 1 (by decide)
  simpa using this
section PQO
variable {G : gG} {h : gH} {t p n : Nat} {R : Nat → Int} {A : Nat → Nat} {x : Nat}
theorem m_qsize {arr : Nat} {md : Int32} (h1 : h p = some (t, .inr (12, [.ref arr, .int (nI n), .null, .int md]))) : gMet 1 yJ38_size cJ38_size 1 (some .int) G h [.ref p] (fun v u => u = h ∧ v = some (.int (nI n))) gNo 0 := by
  refine gMet.of (by decide) (Nat.le_of_ble_eq_true rfl) (fun K C N hG hn hin => ?_)
  subst hG
  have kn_ : ∀ j : Nat, j < 1 → j < kn K := fun j hj => by rw [hn]; exact hj
  refine E.aload_n C dJ38_size_0 rfl ?_
  refine E.getf C dJ38_size_1 h1 rfl 1 q1878 (by decide) rfl rfl ?_
  refine E.endI C N dJ38_size_4 (by omega) ?_
  exact ⟨rfl, rfl⟩
theorem m_siftUp {arr cap : Nat} {md : Int32} {f : Nat → Option Nat} (ht : t ≠ 0) (h1 : h p = some (t, .inr (12, [.ref arr, .int (nI n), .null, .int md]))) (ha : h arr = some (t, oar G cap f)) (hnc : n < cap) (hcap : cap < 2 ^ 20) (hf : ∀ i, i < n → f i = some (A i)) (hA : ∀ i, i < n → PH h t R (A i)) (hx : PH h t R x) (hO : HO n R A) :
    gMet 4 yJ38_siftUp cJ38_siftUp 3 none G h [.ref p, .int (nI n), .ref x] (fun v u => v = none ∧ ∃ f' B, u = gu h arr (t, oar G cap f') ∧ (∀ i, i < n + 1 → f' i = some (B i)) ∧ HO (n + 1) R B ∧ ∀ y, (∃ i, i < n + 1 ∧ B i = y) ↔ ((∃ i, i < n ∧ A i = y) ∨ y = x)) gNo 0 := by
  refine gMet.of (by decide) (Nat.le_of_ble_eq_true rfl) (fun K C N hG hn hin => ?_)
  subst hG
  have kn_ : ∀ j : Nat, j < 3 → j < kn K := fun j hj => by rw [hn]; exact hj
  refine E.aload_n C dJ38_siftUp_0 rfl ?_
  refine E.getf C dJ38_siftUp_1 h1 rfl 2 q1879 (by decide) rfl rfl ?_
  refine E.ifnull0 C dJ38_siftUp_4 (tgt := 23) (by decide) ?_
  refine E.iload_n C dJ38_siftUp_23 rfl ?_
  refine E.aload_n C dJ38_siftUp_24 rfl ?_
  refine E.aload_n C dJ38_siftUp_25 rfl ?_
  refine E.getf C dJ38_siftUp_26 h1 rfl 0 q1877 (by decide) rfl rfl ?_
  refine E.callS C (m_siftUpC ht ha hnc hcap hf hA hx hO) dJ38_siftUp_29 q1913 q1914 q100 q1915 mh_J38_siftUpComparable (by decide) (by decide) rfl (Nat.le_of_ble_eq_true rfl) (by omega) (fun _ _ hx => hx.elim) ?_
  rintro v u ⟨rfl, q⟩
  refine E.endV C N dJ38_siftUp_32 (by omega) ?_
  exact ⟨rfl, q⟩
theorem m_grow {arr cap : Nat} {md : Int32} {f : Nat → Option Nat} (ht : t ≠ 0) (h1 : h p = some (t, .inr (12, [.ref arr, .int (nI n), .null, .int md]))) (ha : h arr = some (t, oar G cap f)) (h0 : 1 ≤ cap) (hcap : cap < 2 ^ 12) (hel : ∀ i, i < cap → ∀ y, f i = some y → gRv h y RX5) :
    gMet 4 yJ38_grow cJ38_grow 4 none G h [.ref p, .int (nI (cap + 1))] (fun v u => v = none ∧ ∃ b cap', cap < cap' ∧ cap' ≤ 2 * cap + 2 ∧ h b = none ∧ u = gu (gu h b (t, oar G cap' (va_cpy f (fun _ => none) 0 0 cap))) p (t, .inr (12, [.ref b, .int (nI n), .null, .int md]))) gNo (cap + 1) := by
  refine gMet.of (by decide) (Nat.le_of_ble_eq_true rfl) (fun K C N hG hn hin => ?_)
  subst hG
  have kn_ : ∀ j : Nat, j < 4 → j < kn K := fun j hj => by rw [hn]; exact hj
  refine E.aload_n C dJ38_grow_0 rfl ?_
  refine E.getf C dJ38_grow_1 h1 rfl 0 q1877 (by decide) rfl rfl ?_
  refine E.alen C dJ38_grow_4 ha (ti := 6) rfl rfl ?_
  refine E.ri (show _ = nI cap from rfl) ?_
  refine E.istore_n C dJ38_grow_5 (kn_ _ (by decide)) ?_
  refine E.iload_n C dJ38_grow_6 rfl ?_
  refine E.iload_n C dJ38_grow_7 rfl ?_
  refine E.iload_n C dJ38_grow_8 rfl ?_
  refine E.isub C dJ38_grow_9 ?_
  refine E.ri (show _ = nI 1 from ?_) ?_
  · rw [nI_subN (by omega)]; congr 1; omega
  have k25 : ∀ z : Nat, 1 ≤ z → z ≤ cap + 2 → E K 25 [(0, .ref p), (1, .int (nI (cap + 1))), (2, .int (nI cap))] [.int (nI z), .int (nI 1), .int (nI cap)] h 0 := by
    intro z z1 z2
    refine E.callS C (m_newLength (a := cap) (b := 1) (c := z) (by omega) (by omega) (by omega) (by omega)) dJ38_grow_25 q1902 q226 q66 q227 mh_J11_newLength (by decide) (by decide) rfl (Nat.le_of_ble_eq_true rfl) (by omega) (fun _ _ hx => hx.elim) ?_
    rintro v u ⟨rfl, rfl⟩
    have hz : (if 1 < z then z else 1) = z := by split <;> omega
    rw [hz]
    refine E.istore_n C dJ38_grow_28 (kn_ _ (by decide)) ?_
    refine E.aload_n C dJ38_grow_29 rfl ?_
    refine E.aload_n C dJ38_grow_30 rfl ?_
    refine E.getf C dJ38_grow_31 h1 rfl 0 q1877 (by decide) rfl rfl ?_
    refine E.iload_n C dJ38_grow_34 rfl ?_
    refine E.callS C (m_copyOf2 (cap + 1) ht ha (fun i hi y hy => hel i hi y hy) nq2452 (by omega) (by omega) (by omega)) dJ38_grow_35 q1903 q1367 q68 q1368 mh_J13_copyOf_2 (by decide) (by decide) rfl (Nat.le_of_ble_eq_true rfl) (by omega) (fun _ _ hx => hx.elim) ?_
    rintro v u ⟨b, rfl, hb, rfl⟩
    have hpb : p ≠ b := ne_of_none hb h1
    have h1' : (gu u b (t, oar (kG K) (cap + z) (va_cpy f (fun _ => none) 0 0 cap))) p = some (t, .inr (12, [.ref arr, .int (nI n), .null, .int md])) := by rw [gu_n hpb]; exact h1
    refine E.put C dJ38_grow_38 h1' (by first | decide | assumption) rfl 0 q1877 (by decide) rfl rfl (by first | rfl | exact nar_rf _ _ | assumption) (by first | rfl | exact fit_rf _ _ | assumption) (Nat.le_of_ble_eq_true rfl) ?_
    refine E.endV C N dJ38_grow_41 (by omega) ?_
    exact ⟨rfl, b, cap + z, by omega, by omega, hb, rfl⟩
  refine E.iload_n C dJ38_grow_10 rfl ?_
  refine E.bipush C dJ38_grow_11 (v := 64) (by decide) ?_
  refine E.icmp_ge C dJ38_grow_13 (tgt := 22) (by decide) (fun c => ?_) (fun c => ?_)
  · refine E.iload_n C dJ38_grow_22 rfl ?_
    refine E.iconst C dJ38_grow_23 (v := 1) (by decide) ?_
    refine E.ishr C dJ38_grow_24 ?_
    refine E.ri (nI_half (by omega)) ?_
    refine k25 (cap / 2) ?_ (by omega)
    have c : nI 64 ≤ nI cap := c
    rw [nI_leI (by decide) (by omega)] at c
    omega
  · refine E.iload_n C dJ38_grow_16 rfl ?_
    refine E.iconst C dJ38_grow_17 (v := 2) (by decide) ?_
    refine E.iadd C dJ38_grow_18 ?_
    refine E.goto C dJ38_grow_19 (tgt := 25) (by decide) ?_
    refine E.ri (nI_add cap 2) ?_
    exact k25 (cap + 2) (by omega) (by omega)
end PQO
