/-! JDK: PriorityQueue.siftUp -/
set_option maxRecDepth 100000
/-- a heap but for the place k -/
def HI (n : Nat) (R : Nat → Int) (B : Nat → Nat) (k : Nat) : Prop := (∀ i, 0 < i → i < n → i ≠ k → R (B ((i - 1) / 2)) ≤ R (B i)) ∧ (0 < k → ∀ c, c < n → 0 < c → (c - 1) / 2 = k → R (B ((k - 1) / 2)) ≤ R (B c))
def HO (n : Nat) (R : Nat → Int) (B : Nat → Nat) : Prop := ∀ i, 0 < i → i < n → R (B ((i - 1) / 2)) ≤ R (B i)
abbrev swB (B : Nat → Nat) (k p : Nat) : Nat → Nat := va_up (va_up B k (B p)) p (B k)
theorem HI.step {n : Nat} {R : Nat → Int} {B : Nat → Nat} {k : Nat} (h : HI n R B k) (h0 : 0 < k) (hk : k < n) (hx : R (B k) < R (B ((k - 1) / 2))) : HI n R (swB B k ((k - 1) / 2)) ((k - 1) / 2) := by
  obtain ⟨h1, h2⟩ := h
  have h2 := h2 h0
  have hp : (k - 1) / 2 < k := by omega
  generalize hpe : (k - 1) / 2 = p at *
  have e1 : ∀ z, z ≠ k → z ≠ p → swB B k p z = B z := fun z a b => by simp [va_up, a, b]
  have e2 : swB B k p k = B p := by simp [va_up, show k ≠ p by omega]
  have e3 : swB B k p p = B k := by simp [va_up]
  refine ⟨fun i i0 i1 i2 => ?_, fun p0 c c1 c0 c2 => ?_⟩
  · by_cases a : i = k
    · rw [a, hpe, e2, e3]; omega
    · rw [e1 i a i2]
      by_cases b : (i - 1) / 2 = k
      · rw [b, e2]; exact h2 i i1 i0 b
      · by_cases b2 : (i - 1) / 2 = p
        · rw [b2, e3]
          have := h1 i i0 i1 a
          rw [b2] at this
          omega
        · rw [e1 _ b b2]; exact h1 i i0 i1 a
  · have q1 := h1 p p0 (by omega) (by omega)
    rw [e1 ((p - 1) / 2) (by omega) (by omega)]
    by_cases a : c = k
    · rw [a, e2]; exact q1
    · rw [e1 c a (by omega)]
      have := h1 c c0 c1 a
      rw [c2] at this
      omega
theorem HI.fin {n : Nat} {R : Nat → Int} {B : Nat → Nat} {k : Nat} (h : HI n R B k) (hx : 0 < k → R (B ((k - 1) / 2)) ≤ R (B k)) : HO n R B := fun i i0 i1 => by
  by_cases a : i = k
  · subst a; exact hx i0
  · exact h.1 i i0 i1 a
theorem HO.min {n : Nat} {R : Nat → Int} {B : Nat → Nat} (h : HO n R B) : ∀ i, i < n → R (B 0) ≤ R (B i) := by
  intro i
  induction i using Nat.strongRecOn with
  | ind i ih =>
    intro hi
    rcases Nat.eq_zero_or_pos i with c | c
    · rw [c]; exact Int.le_refl _
    · exact Int.le_trans (ih ((i - 1) / 2) (by omega) (by omega)) (h i c hi)
theorem swB.mem {n k p : Nat} {B : Nat → Nat} (hk : k < n) (hp : p < n) (hkp : k ≠ p) (y : Nat) : (∃ i, i < n ∧ swB B k p i = y) ↔ ∃ i, i < n ∧ B i = y := by
  have e1 : ∀ z, z ≠ k → z ≠ p → swB B k p z = B z := fun z a b => by simp [va_up, a, b]
  have e2 : swB B k p k = B p := by simp [va_up, hkp]
  have e3 : swB B k p p = B k := by simp [va_up]
  constructor
  · rintro ⟨i, hi, e⟩
    by_cases a : i = k
    · subst a; exact ⟨p, hp, e2.symm.trans e⟩
    · by_cases b : i = p
      · subst b; exact ⟨k, hk, e3.symm.trans e⟩
      · exact ⟨i, hi, (e1 i a b).symm.trans e⟩
  · rintro ⟨i, hi, e⟩
    by_cases a : i = k
    · subst a; exact ⟨p, hp, e3.trans e⟩
    · by_cases b : i = p
      · subst b; exact ⟨k, hk, e2.trans e⟩
      · exact ⟨i, hi, (e1 i a b).trans e⟩
/-- y is a hit of the rank R y -/
def PH (h : gH) (t : Nat) (R : Nat → Int) (y : Nat) : Prop := ∃ nu co th a b he, nu < 64 ∧ co < 64 ∧ h y = some (th, .inr (4, [.int (nI nu), a, b, .int (nI co), .int he])) ∧ th ≠ t ∧ R y = rkH nu co
theorem PH.fr {h u : gH} {t : Nat} {R : Nat → Int} {y : Nat} (q : PH h t R y) (f : gfr t h u) : PH u t R y := by
  obtain ⟨nu, co, th, a, b, he, q1, q2, q3, q4, q5⟩ := q
  exact ⟨nu, co, th, a, b, he, q1, q2, f _ _ q3 q4, q4, q5⟩
theorem PH.rv {h : gH} {t : Nat} {R : Nat → Int} {y : Nat} (q : PH h t R y) : gRv h y RX5 := by
  obtain ⟨nu, co, th, a, b, he, q1, q2, q3, q4, q5⟩ := q
  exact gRv.of q3 (by decide)
