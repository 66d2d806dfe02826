/-! JDK: PriorityQueue.siftUp, walked -/
set_option maxRecDepth 100000
theorem sh1 {m : Nat} (h : m < 2 ^ 31) : ((nI m).toUInt32 >>> ((1 : Int32).toUInt32 &&& Int32.toUInt32 31)).toInt32 = nI (m / 2) := by
  have := pk_ushrN (n := m) (by omega) 1 1 (by decide)
  simpa using this
section PQW
variable {G : gG} {h : gH} {t arr cap n : Nat} {R : Nat → Int} {A : Nat → Nat} {f : Nat → Option Nat} {x : Nat}
/-- an array of references -/
abbrev oar (G : gG) (cap : Nat) (f : Nat → Option Nat) : va_E := .inl (gci G 6, cap, .inr (.inr (.inr (.inr f))))
set_option maxHeartbeats 1000000 in
theorem m_siftUpC (ht : t ≠ 0) (ha : h arr = some (t, oar G cap f)) (hn : n < cap) (hcap : cap < 2 ^ 20) (hf : ∀ i, i < n → f i = some (A i)) (hA : ∀ i, i < n → PH h t R (A i)) (hx : PH h t R x) (hO : HO n R A) :
    gMet 3 yJ38_siftUpComparable cJ38_siftUpComparable 6 none G h [.int (nI n), .ref x, .ref arr] (fun v u => v = none ∧ ∃ f' B, u = gu h arr (t, oar G cap f') ∧ (∀ i, i < n + 1 → f' i = some (B i)) ∧ HO (n + 1) R B ∧ ∀ y, (∃ i, i < n + 1 ∧ B i = y) ↔ ((∃ i, i < n ∧ A i = y) ∨ y = x)) gNo 0 := by
  refine gMet.of (by decide) (Nat.le_of_ble_eq_true rfl) (fun K C N hG hn hin => ?_)
  subst hG
  have kn_ : ∀ j : Nat, j < 6 → j < kn K := fun j hj => by rw [hn]; exact hj
  have hP : ∀ y, ((∃ i, i < n ∧ A i = y) ∨ y = x) → PH h t R y := by
    rintro y (⟨i, hi, rfl⟩ | rfl)
    · exact hA i hi
    · exact hx
  have fin : ∀ (k : Nat) (B : Nat → Nat) (f1 : Nat → Option Nat), k < n + 1 → B k = x → (∀ i, i < n + 1 → i ≠ k → f1 i = some (B i)) → HO (n + 1) R B → (∀ y, (∃ i, i < n + 1 ∧ B i = y) ↔ ((∃ i, i < n ∧ A i = y) ∨ y = x)) → E K 47 [(0, .int (nI k)), (1, .ref x), (2, .ref arr), (3, .ref x)] [] (gu h arr (t, oar (kG K) cap f1)) 0 := by
    intro k B f1 hk hB h1 hH hm
    have hxr : gRv (gu h arr (t, oar (kG K) cap f1)) x RX5 := (hx.fr (gfr.up ha rfl)).rv
    have ek : (nI k).toNatClampNeg = k := nI_clamp (by omega)
    refine E.aload_n C dJ38_siftUpComparable_47 rfl ?_
    refine E.iload_n C dJ38_siftUpComparable_48 rfl ?_
    refine E.aload_n C dJ38_siftUpComparable_49 rfl ?_
    refine E.aast C dJ38_siftUpComparable_50 gu_s ht hxr nq2452 (nI_in (by omega) (by omega)) ?_
    refine E.endV C N dJ38_siftUpComparable_51 (by omega) ?_
    refine ⟨rfl, _, B, gu_uu, fun i hi => ?_, hH, hm⟩
    rw [ek]
    by_cases c : i = k
    · rw [c, up_s, hB]
    · rw [up_n c]; exact h1 i hi c
  have lp : ∀ (m k : Nat) (B : Nat → Nat) (f1 : Nat → Option Nat) (x4 : List (Nat × Value)), k < m → k < n + 1 → B k = x → (∀ i, i < n + 1 → i ≠ k → f1 i = some (B i)) → HI (n + 1) R B k → (∀ y, (∃ i, i < n + 1 ∧ B i = y) ↔ ((∃ i, i < n ∧ A i = y) ∨ y = x)) → E K 5 [(0, .int (nI k)), (1, .ref x), (2, .ref arr), (3, .ref x)] [] (gu h arr (t, oar (kG K) cap f1)) 0 := by
    intro m
    induction m with
    | zero => intro k _ _ _ c; exact absurd c (Nat.not_lt_zero _)
    | succ m ih =>
      intro k B f1 x4 c1 hk hB h1 hH hm
      refine E.iload_n C dJ38_siftUpComparable_5 rfl ?_
      refine E.if_le C dJ38_siftUpComparable_6 (tgt := 47) (by decide) (fun c => ?_) (fun c => ?_)
      · have k0 : k = 0 := by
          rcases Nat.eq_zero_or_pos k with z | z
          · exact z
          · exact absurd c (nI_nle z (by omega))
        exact fin k B f1 hk hB h1 (hH.fin (fun z => by omega)) hm
      · have k0 : 0 < k := by
          rcases Nat.eq_zero_or_pos k with z | z
          · rw [z] at c; exact absurd (by decide) c
          · exact z
        have ep : nI k - 1 = nI (k - 1) := by
          have := nI_pred (k - 1)
          rw [show k - 1 + 1 = k by omega] at this
          exact this
        have hpk : (k - 1) / 2 < k := by omega
        have hfp := h1 ((k - 1) / 2) (by omega) (by omega)
        have hPe : PH (gu h arr (t, oar (kG K) cap f1)) t R (B ((k - 1) / 2)) := (hP _ ((hm _).mp ⟨_, by omega, rfl⟩)).fr (gfr.up ha rfl)
        have hPx : PH (gu h arr (t, oar (kG K) cap f1)) t R x := hx.fr (gfr.up ha rfl)
        generalize hpe : (k - 1) / 2 = p at *
        have epn : (nI p).toNatClampNeg = p := nI_clamp (by omega)
        refine E.iload_n C dJ38_siftUpComparable_9 rfl ?_
        refine E.iconst C dJ38_siftUpComparable_10 (v := 1) (by decide) ?_
        refine E.isub C dJ38_siftUpComparable_11 ?_
        refine E.ri ep ?_
        refine E.iconst C dJ38_siftUpComparable_12 (v := 1) (by decide) ?_
        refine E.iushr C dJ38_siftUpComparable_13 ?_
        refine E.ri ((sh1 (by omega)).trans (by rw [hpe])) ?_
        refine E.istore C dJ38_siftUpComparable_14 (kn_ _ (by decide)) ?_
        refine E.aload_n C dJ38_siftUpComparable_16 rfl ?_
        refine E.iload C dJ38_siftUpComparable_17 rfl ?_
        refine E.aald C dJ38_siftUpComparable_19 gu_s (nI_in (by omega) (by omega)) (v := .ref (B p)) (by rw [epn, hfp]; rfl) ?_
        refine E.astore C dJ38_siftUpComparable_20 (kn_ _ (by decide)) ?_
        refine E.aload_n C dJ38_siftUpComparable_22 rfl ?_
        refine E.aload C dJ38_siftUpComparable_23 rfl ?_
        have hPe9 := hPe
        obtain ⟨nu, co, th, a9, b9, he, q1, q2, q3, q4, q5⟩ := hPe
        obtain ⟨nu2, co2, th2, a2, b2, he2, r1, r2, r3, r4, r5⟩ := id hPx
        refine E.callF C (Cn := RX5) (m_hcmp0 ⟨th2, a2, b2, he2, r3⟩ ⟨th, a9, b9, he, q3⟩ r1 r2 q1 q2) dJ38_siftUpComparable_25 nf_X5_Comparable_compareTo q1918 q722 q724 q98 q726 mhf_Comparable_compareTo (by decide) (by decide) (PH.rv hPx) rfl (Nat.le_of_ble_eq_true rfl) (by omega) (C.cat (ci := 4) rfl) (fun _ _ hx => hx.elim) ?_
        rintro v u ⟨rfl, r, rfl, cm1, cm2⟩
        refine E.if_lt C dJ38_siftUpComparable_30 (tgt := 36) (by decide) (fun c9 => ?_) (fun c9 => ?_)
        · refine E.aload_n C dJ38_siftUpComparable_36 rfl ?_
          refine E.iload_n C dJ38_siftUpComparable_37 rfl ?_
          refine E.aload C dJ38_siftUpComparable_38 rfl ?_
          refine E.aast C dJ38_siftUpComparable_40 gu_s ht hPe9.rv nq2452 (nI_in (by omega) (by omega)) ?_
          rw [gu_uu, nI_clamp (show k < 2 ^ 31 by omega)]
          refine E.iload C dJ38_siftUpComparable_41 rfl ?_
          refine E.istore_n C dJ38_siftUpComparable_43 (kn_ _ (by decide)) ?_
          refine E.goto C dJ38_siftUpComparable_44 (tgt := 5) (by decide) ?_
          refine E.sub (l' := [(0, .int (nI p)), (1, .ref x), (2, .ref arr), (3, .ref x)]) [0, 1, 2, 3] rfl ?_
          have hlt : R (B k) < R (B p) := by rw [hB, r5, q5]; exact cm1.mp c9
          have st := hH.step k0 hk (by rw [hpe]; exact hlt)
          rw [hpe] at st
          refine ih p (swB B k p) _ [] (by omega) (by omega) (by simp [va_up, hB]) (fun i hi hip => ?_) st (fun y => (swB.mem hk (by omega) (by omega) y).trans (hm y))
          by_cases c8 : i = k
          · subst c8
            simp [va_up, hip]
          · simp only [va_up, c8, hip, if_false]
            exact h1 i hi c8
        · refine E.goto C dJ38_siftUpComparable_33 (tgt := 47) (by decide) ?_
          refine E.sub (l' := [(0, .int (nI k)), (1, .ref x), (2, .ref arr), (3, .ref x)]) [0, 1, 2, 3] rfl ?_
          refine fin k B f1 hk hB h1 (hH.fin (fun _ => ?_)) hm
          rw [hpe, hB, r5, q5]
          have := mt cm1.mpr c9
          omega
  refine E.aload_n C dJ38_siftUpComparable_0 rfl ?_
  refine E.castY C q1916 nq721 (PH.rv hx) dJ38_siftUpComparable_1 ?_
  refine E.astore_n C dJ38_siftUpComparable_4 (kn_ _ (by decide)) ?_
  have e0 : gu h arr (t, oar (kG K) cap f) = h := gu_self ha
  have := lp (n + 1) n (fun i => if i = n then x else A i) f [] (Nat.lt_succ_self _) (Nat.lt_succ_self _) (if_pos rfl) (fun i hi hin => by rw [if_neg hin]; exact hf i (by omega)) ⟨fun i i0 i1 i2 => by show R (if (i - 1) / 2 = n then x else A ((i - 1) / 2)) ≤ R (if i = n then x else A i); rw [if_neg i2, if_neg (show ¬ (i - 1) / 2 = n by omega)]; exact hO i i0 (by omega), fun _ c c1 c0 c2 => by omega⟩ (fun y => ?_)
  · rw [e0] at this
    exact this
  · constructor
    · rintro ⟨i, hi, e⟩
      have e : (if i = n then x else A i) = y := e
      by_cases c : i = n
      · rw [if_pos c] at e; exact Or.inr e.symm
      · rw [if_neg c] at e; exact Or.inl ⟨i, by omega, e⟩
    · rintro (⟨i, hi, e⟩ | rfl)
      · exact ⟨i, by omega, (if_neg (by omega)).trans e⟩
      · exact ⟨n, by omega, if_pos rfl⟩
end PQW
