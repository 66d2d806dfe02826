/-! THE STATE of the reference (and of the component): numbers by field and place; the reference's cells (tag 1) -/
set_option maxRecDepth 100000
abbrev Sg : Type := (Nat → Nat → Nat) × (Nat → Nat → Int32)
def sN (σ : Sg) (q i n : Nat) : Sg := (va_up σ.1 q (va_up (σ.1 q) i n), σ.2)
def sI (σ : Sg) (q i : Nat) (x : Int32) : Sg := (σ.1, va_up σ.2 q (va_up (σ.2 q) i x))
theorem sN_1 (σ : Sg) (q i n a b : Nat) : (sN σ q i n).1 a b = if a = q ∧ b = i then n else σ.1 a b := by
  by_cases h1 : a = q <;> by_cases h2 : b = i <;> simp [sN, va_up, h1, h2]
theorem sN_2 (σ : Sg) (q i n : Nat) : (sN σ q i n).2 = σ.2 := rfl
theorem sI_1 (σ : Sg) (q i : Nat) (x : Int32) : (sI σ q i x).1 = σ.1 := rfl
theorem sI_2 (σ : Sg) (q i : Nat) (x : Int32) (a b : Nat) : (sI σ q i x).2 a b = if a = q ∧ b = i then x else σ.2 a b := by
  by_cases h1 : a = q <;> by_cases h2 : b = i <;> simp [sI, va_up, h1, h2]
def mtb (j : Nat) : Bool × Nat := match j with
  | 10 => (false, 2)
  | 11 => (true, 7)
  | 12 => (true, 8)
  | 13 => (false, 3)
  | 14 => (false, 4)
  | 15 => (false, 5)
  | 16 => (false, 6)
  | 17 => (false, 7)
  | 18 => (true, 9)
  | 19 => (true, 10)
  | 20 => (false, 15)
  | 21 => (false, 8)
  | 22 => (true, 12)
  | 23 => (true, 13)
  | 24 => (false, 9)
  | 25 => (true, 14)
  | 26 => (false, 10)
  | 27 => (false, 11)
  | 28 => (false, 12)
  | 29 => (true, 15)
  | 30 => (true, 16)
  | 31 => (true, 17)
  | 32 => (true, 18)
  | 33 => (false, 13)
  | 34 => (true, 19)
  | _ => (false, 99)
def mlen (j : Nat) : Nat := match j with
  | 10 => 4
  | 11 => 12
  | 12 => 10
  | 13 => 10
  | 14 => 10
  | 15 => 10
  | 16 => 10
  | 17 => 40
  | 18 => 60
  | 19 => 60
  | 20 => 60
  | 21 => 60
  | 22 => 60
  | 23 => 60
  | 24 => 60
  | 25 => 60
  | 26 => 60
  | 27 => 2400
  | 28 => 2400
  | 29 => 60
  | 30 => 40
  | 31 => 40
  | 32 => 40
  | 33 => 40
  | 34 => 120
  | _ => 0
def mty (j : Nat) : Nat := match j with
  | 16 => 1
  | 34 => 2
  | _ => 0
def mval (σ : Sg) (j : Nat) : Nat → Int32 := fun k => bif (mtb j).1 then nI (σ.1 (mtb j).2 k) else σ.2 (mtb j).2 k
def mcell (ad : Nat → Nat) (σ : Sg) : List Value := [.int (σ.2 0 0), .int (nI (σ.1 0 0)), .int (nI (σ.1 1 0)), .int (nI (σ.1 2 0)), .int (nI (σ.1 3 0)), .int (nI (σ.1 4 0)), .int (nI (σ.1 5 0)), .int (nI (σ.1 6 0)), .int (σ.2 1 0), .int (σ.2 14 0), .ref (ad 10), .ref (ad 11), .ref (ad 12), .ref (ad 13), .ref (ad 14), .ref (ad 15), .ref (ad 16), .ref (ad 17), .ref (ad 18), .ref (ad 19), .ref (ad 20), .ref (ad 21), .ref (ad 22), .ref (ad 23), .ref (ad 24), .ref (ad 25), .ref (ad 26), .ref (ad 27), .ref (ad 28), .ref (ad 29), .ref (ad 30), .ref (ad 31), .ref (ad 32), .ref (ad 33), .ref (ad 34)]
theorem mval_N {σ : Sg} {q i n a : Nat} (h : mtb a ≠ (true, q)) : mval (sN σ q i n) a = mval σ a := by
  funext k
  unfold mval
  rcases hb : mtb a with ⟨b, q2⟩
  cases b with
  | false => rfl
  | true =>
    have : q2 ≠ q := fun e => h (by rw [hb, e])
    simp [sN, va_up, this]
theorem mval_I {σ : Sg} {q i a : Nat} {x : Int32} (h : mtb a ≠ (false, q)) : mval (sI σ q i x) a = mval σ a := by
  funext k
  unfold mval
  rcases hb : mtb a with ⟨b, q2⟩
  cases b with
  | true => rfl
  | false =>
    have : q2 ≠ q := fun e => h (by rw [hb, e])
    simp [sI, va_up, this]
theorem mval_Ns {σ : Sg} {q i n a : Nat} (h : mtb a = (true, q)) : mval (sN σ q i n) a = upd (mval σ a) i (nI n) := by
  funext k
  unfold mval
  rw [h]
  by_cases e : k = i <;> simp [sN, va_up, upd, e]
theorem mval_Is {σ : Sg} {q i a : Nat} {x : Int32} (h : mtb a = (false, q)) : mval (sI σ q i x) a = upd (mval σ a) i x := by
  funext k
  unfold mval
  rw [h]
  by_cases e : k = i <;> simp [sI, va_up, upd, e]
theorem mcell_N {σ : Sg} {q i n : Nat} {ad : Nat → Nat} (h : 7 ≤ q) : mcell ad (sN σ q i n) = mcell ad σ := by
  have e : ∀ a, a < 7 → (sN σ q i n).1 a = σ.1 a := fun a ha => by
    show va_up σ.1 q _ a = _
    rw [va_up_ne _ _ (by omega)]
  simp only [mcell, e 0 (by decide), e 1 (by decide), e 2 (by decide), e 3 (by decide), e 4 (by decide), e 5 (by decide), e 6 (by decide), sN_2]
theorem mcell_I {σ : Sg} {q i : Nat} {x : Int32} {ad : Nat → Nat} (h0 : 2 ≤ q) (h : q ≠ 14) : mcell ad (sI σ q i x) = mcell ad σ := by
  have e : ∀ a, a ≠ q → (sI σ q i x).2 a = σ.2 a := fun a ha => by
    show va_up σ.2 q _ a = _
    rw [va_up_ne _ _ ha]
  simp only [mcell, e 0 (by omega), e 1 (by omega), e 14 (by omega), sI_1]
/-- the reference at m, its arrays at ad 10 .. ad 34 -/
def MP (G : gG) (h : gH) (m : Nat) (ad : Nat → Nat) (σ : Sg) : Prop := h m = some (1, .inr (1, mcell ad σ)) ∧ (∀ j, 10 ≤ j → j < 35 → h (ad j) = some (1, .inl (gci G (mty j), mlen j, .inl (mval σ j)))) ∧ (∀ i j, 10 ≤ i → i < 35 → 10 ≤ j → j < 35 → ad i = ad j → i = j)
theorem MP.cell {G : gG} {h : gH} {m : Nat} {ad : Nat → Nat} {σ : Sg} (hM : MP G h m ad σ) : h m = some (1, .inr (1, mcell ad σ)) := hM.1
theorem MP.fr {G : gG} {h u : gH} {m t : Nat} {ad : Nat → Nat} {σ : Sg} (hM : MP G h m ad σ) (k : gfr t h u) (ht : 1 ≠ t) : MP G u m ad σ := ⟨k _ _ hM.1 ht, fun j h1 h2 => k _ _ (hM.2.1 j h1 h2) ht, hM.2.2⟩
theorem MP.setA {G : gG} {h : gH} {m : Nat} {ad : Nat → Nat} {σ σ' : Sg} (hM : MP G h m ad σ) {j : Nat} (h1 : 10 ≤ j) (h2 : j < 35) {f : Nat → Int32} (hc : mcell ad σ' = mcell ad σ) (hs : mval σ' j = f) (ho : ∀ a, 10 ≤ a → a < 35 → a ≠ j → mval σ' a = mval σ a) : MP G (gu h (ad j) (1, .inl (gci G (mty j), mlen j, .inl f))) m ad σ' := by
  refine ⟨?_, ?_, hM.2.2⟩
  · rw [gu_n (ne_of_some hM.1 (hM.2.1 j h1 h2) (fun z => by cases z)), hc]
    exact hM.1
  · intro a a1 a2
    by_cases e : ad a = ad j
    · have e2 := hM.2.2 a j a1 a2 h1 h2 e
      subst e2
      rw [gu_s, hs]
    · rw [gu_n e, ho a a1 a2 (fun z => e (by rw [z]))]
      exact hM.2.1 a a1 a2
theorem MP.setS {G : gG} {h : gH} {m : Nat} {ad : Nat → Nat} {σ σ' : Sg} (hM : MP G h m ad σ) {fs : List Value} (hc : fs = mcell ad σ') (hv : ∀ a, 10 ≤ a → a < 35 → mval σ' a = mval σ a) : MP G (gu h m (1, .inr (1, fs))) m ad σ' := by
  refine ⟨by rw [gu_s, hc], ?_, hM.2.2⟩
  intro a a1 a2
  rw [gu_n (ne_of_some (hM.2.1 a a1 a2) hM.1 (fun z => by cases z)), hv a a1 a2]
  exact hM.2.1 a a1 a2
theorem MP.a10 {G : gG} {h : gH} {m : Nat} {ad : Nat → Nat} {σ : Sg} (hM : MP G h m ad σ) : h (ad 10) = some (1, .inl (gci G 0, 4, .inl (σ.2 2))) := hM.2.1 10 (by decide) (by decide)
theorem MP.a11 {G : gG} {h : gH} {m : Nat} {ad : Nat → Nat} {σ : Sg} (hM : MP G h m ad σ) : h (ad 11) = some (1, .inl (gci G 0, 12, .inl (fun k => nI (σ.1 7 k)))) := hM.2.1 11 (by decide) (by decide)
theorem MP.a12 {G : gG} {h : gH} {m : Nat} {ad : Nat → Nat} {σ : Sg} (hM : MP G h m ad σ) : h (ad 12) = some (1, .inl (gci G 0, 10, .inl (fun k => nI (σ.1 8 k)))) := hM.2.1 12 (by decide) (by decide)
theorem MP.a13 {G : gG} {h : gH} {m : Nat} {ad : Nat → Nat} {σ : Sg} (hM : MP G h m ad σ) : h (ad 13) = some (1, .inl (gci G 0, 10, .inl (σ.2 3))) := hM.2.1 13 (by decide) (by decide)
theorem MP.a14 {G : gG} {h : gH} {m : Nat} {ad : Nat → Nat} {σ : Sg} (hM : MP G h m ad σ) : h (ad 14) = some (1, .inl (gci G 0, 10, .inl (σ.2 4))) := hM.2.1 14 (by decide) (by decide)
theorem MP.a15 {G : gG} {h : gH} {m : Nat} {ad : Nat → Nat} {σ : Sg} (hM : MP G h m ad σ) : h (ad 15) = some (1, .inl (gci G 0, 10, .inl (σ.2 5))) := hM.2.1 15 (by decide) (by decide)
theorem MP.a16 {G : gG} {h : gH} {m : Nat} {ad : Nat → Nat} {σ : Sg} (hM : MP G h m ad σ) : h (ad 16) = some (1, .inl (gci G 1, 10, .inl (σ.2 6))) := hM.2.1 16 (by decide) (by decide)
theorem MP.a17 {G : gG} {h : gH} {m : Nat} {ad : Nat → Nat} {σ : Sg} (hM : MP G h m ad σ) : h (ad 17) = some (1, .inl (gci G 0, 40, .inl (σ.2 7))) := hM.2.1 17 (by decide) (by decide)
theorem MP.a18 {G : gG} {h : gH} {m : Nat} {ad : Nat → Nat} {σ : Sg} (hM : MP G h m ad σ) : h (ad 18) = some (1, .inl (gci G 0, 60, .inl (fun k => nI (σ.1 9 k)))) := hM.2.1 18 (by decide) (by decide)
theorem MP.a19 {G : gG} {h : gH} {m : Nat} {ad : Nat → Nat} {σ : Sg} (hM : MP G h m ad σ) : h (ad 19) = some (1, .inl (gci G 0, 60, .inl (fun k => nI (σ.1 10 k)))) := hM.2.1 19 (by decide) (by decide)
theorem MP.a20 {G : gG} {h : gH} {m : Nat} {ad : Nat → Nat} {σ : Sg} (hM : MP G h m ad σ) : h (ad 20) = some (1, .inl (gci G 0, 60, .inl (σ.2 15))) := hM.2.1 20 (by decide) (by decide)
theorem MP.a21 {G : gG} {h : gH} {m : Nat} {ad : Nat → Nat} {σ : Sg} (hM : MP G h m ad σ) : h (ad 21) = some (1, .inl (gci G 0, 60, .inl (σ.2 8))) := hM.2.1 21 (by decide) (by decide)
theorem MP.a22 {G : gG} {h : gH} {m : Nat} {ad : Nat → Nat} {σ : Sg} (hM : MP G h m ad σ) : h (ad 22) = some (1, .inl (gci G 0, 60, .inl (fun k => nI (σ.1 12 k)))) := hM.2.1 22 (by decide) (by decide)
theorem MP.a23 {G : gG} {h : gH} {m : Nat} {ad : Nat → Nat} {σ : Sg} (hM : MP G h m ad σ) : h (ad 23) = some (1, .inl (gci G 0, 60, .inl (fun k => nI (σ.1 13 k)))) := hM.2.1 23 (by decide) (by decide)
theorem MP.a24 {G : gG} {h : gH} {m : Nat} {ad : Nat → Nat} {σ : Sg} (hM : MP G h m ad σ) : h (ad 24) = some (1, .inl (gci G 0, 60, .inl (σ.2 9))) := hM.2.1 24 (by decide) (by decide)
theorem MP.a25 {G : gG} {h : gH} {m : Nat} {ad : Nat → Nat} {σ : Sg} (hM : MP G h m ad σ) : h (ad 25) = some (1, .inl (gci G 0, 60, .inl (fun k => nI (σ.1 14 k)))) := hM.2.1 25 (by decide) (by decide)
theorem MP.a26 {G : gG} {h : gH} {m : Nat} {ad : Nat → Nat} {σ : Sg} (hM : MP G h m ad σ) : h (ad 26) = some (1, .inl (gci G 0, 60, .inl (σ.2 10))) := hM.2.1 26 (by decide) (by decide)
theorem MP.a27 {G : gG} {h : gH} {m : Nat} {ad : Nat → Nat} {σ : Sg} (hM : MP G h m ad σ) : h (ad 27) = some (1, .inl (gci G 0, 2400, .inl (σ.2 11))) := hM.2.1 27 (by decide) (by decide)
theorem MP.a28 {G : gG} {h : gH} {m : Nat} {ad : Nat → Nat} {σ : Sg} (hM : MP G h m ad σ) : h (ad 28) = some (1, .inl (gci G 0, 2400, .inl (σ.2 12))) := hM.2.1 28 (by decide) (by decide)
theorem MP.a29 {G : gG} {h : gH} {m : Nat} {ad : Nat → Nat} {σ : Sg} (hM : MP G h m ad σ) : h (ad 29) = some (1, .inl (gci G 0, 60, .inl (fun k => nI (σ.1 15 k)))) := hM.2.1 29 (by decide) (by decide)
theorem MP.a30 {G : gG} {h : gH} {m : Nat} {ad : Nat → Nat} {σ : Sg} (hM : MP G h m ad σ) : h (ad 30) = some (1, .inl (gci G 0, 40, .inl (fun k => nI (σ.1 16 k)))) := hM.2.1 30 (by decide) (by decide)
theorem MP.a31 {G : gG} {h : gH} {m : Nat} {ad : Nat → Nat} {σ : Sg} (hM : MP G h m ad σ) : h (ad 31) = some (1, .inl (gci G 0, 40, .inl (fun k => nI (σ.1 17 k)))) := hM.2.1 31 (by decide) (by decide)
theorem MP.a32 {G : gG} {h : gH} {m : Nat} {ad : Nat → Nat} {σ : Sg} (hM : MP G h m ad σ) : h (ad 32) = some (1, .inl (gci G 0, 40, .inl (fun k => nI (σ.1 18 k)))) := hM.2.1 32 (by decide) (by decide)
theorem MP.a33 {G : gG} {h : gH} {m : Nat} {ad : Nat → Nat} {σ : Sg} (hM : MP G h m ad σ) : h (ad 33) = some (1, .inl (gci G 0, 40, .inl (σ.2 13))) := hM.2.1 33 (by decide) (by decide)
theorem MP.a34 {G : gG} {h : gH} {m : Nat} {ad : Nat → Nat} {σ : Sg} (hM : MP G h m ad σ) : h (ad 34) = some (1, .inl (gci G 2, 120, .inl (fun k => nI (σ.1 19 k)))) := hM.2.1 34 (by decide) (by decide)
section MROWS
variable {K : gK} {own : String} {cc : ByteArray} {ret : Option FieldType} {lev mc : Nat} {hh : List (Nat × Nat × Nat × Nat)}
variable {pc k : Nat} {l : List (Nat × Value)} {st : List Value} {h : gH} {m : Nat} {ad : Nat → Nat} {σ : Sg}
theorem E.mputI0 (C : gC K own cc ret lev mc hh) {x : Int32} {idx : Nat} (hM : MP (kG K) h m ad σ) (d : decode cc pc = .ok (.putfield idx, 3)) (w : Cond.fieldLink own idx "HomewatcherModel" "now" "I" ∈ lw_all) (e : ∀ u, MP (kG K) u m ad (sI σ 0 0 x) → gfr 1 h u → E K (pc + 3) l st u k) : E K pc l (.int (x) :: .ref m :: st) h k := by
  refine E.put C d hM.1 (by decide) (q := (RX2, TX2, 35)) rfl 0 w (by decide) rfl rfl rfl rfl (Nat.le_of_ble_eq_true rfl) (e _ (hM.setS ?_ (fun a a1 a2 => mval_I ?_)) (gfr.up hM.1 rfl))
  · simp [mcell, sI_1, sI_2, sN_2, sI_1]
  · exact (by decide : ∀ a, a < 35 → mtb a ≠ (false, 0)) a a2
theorem E.mputN1 (C : gC K own cc ret lev mc hh) {x : Nat} {idx : Nat} (hM : MP (kG K) h m ad σ) (d : decode cc pc = .ok (.putfield idx, 3)) (w : Cond.fieldLink own idx "HomewatcherModel" "classes" "I" ∈ lw_all) (e : ∀ u, MP (kG K) u m ad (sN σ 0 0 x) → gfr 1 h u → E K (pc + 3) l st u k) : E K pc l (.int (nI x) :: .ref m :: st) h k := by
  refine E.put C d hM.1 (by decide) (q := (RX2, TX2, 35)) rfl 1 w (by decide) rfl rfl rfl rfl (Nat.le_of_ble_eq_true rfl) (e _ (hM.setS ?_ (fun a a1 a2 => mval_N ?_)) (gfr.up hM.1 rfl))
  · simp [mcell, sN_1, sN_2, sN_2, sI_1]
  · exact (by decide : ∀ a, a < 35 → mtb a ≠ (true, 0)) a a2
theorem E.mputN2 (C : gC K own cc ret lev mc hh) {x : Nat} {idx : Nat} (hM : MP (kG K) h m ad σ) (d : decode cc pc = .ok (.putfield idx, 3)) (w : Cond.fieldLink own idx "HomewatcherModel" "pupils" "I" ∈ lw_all) (e : ∀ u, MP (kG K) u m ad (sN σ 1 0 x) → gfr 1 h u → E K (pc + 3) l st u k) : E K pc l (.int (nI x) :: .ref m :: st) h k := by
  refine E.put C d hM.1 (by decide) (q := (RX2, TX2, 35)) rfl 2 w (by decide) rfl rfl rfl rfl (Nat.le_of_ble_eq_true rfl) (e _ (hM.setS ?_ (fun a a1 a2 => mval_N ?_)) (gfr.up hM.1 rfl))
  · simp [mcell, sN_1, sN_2, sN_2, sI_1]
  · exact (by decide : ∀ a, a < 35 → mtb a ≠ (true, 1)) a a2
theorem E.mputN3 (C : gC K own cc ret lev mc hh) {x : Nat} {idx : Nat} (hM : MP (kG K) h m ad σ) (d : decode cc pc = .ok (.putfield idx, 3)) (w : Cond.fieldLink own idx "HomewatcherModel" "tasks" "I" ∈ lw_all) (e : ∀ u, MP (kG K) u m ad (sN σ 2 0 x) → gfr 1 h u → E K (pc + 3) l st u k) : E K pc l (.int (nI x) :: .ref m :: st) h k := by
  refine E.put C d hM.1 (by decide) (q := (RX2, TX2, 35)) rfl 3 w (by decide) rfl rfl rfl rfl (Nat.le_of_ble_eq_true rfl) (e _ (hM.setS ?_ (fun a a1 a2 => mval_N ?_)) (gfr.up hM.1 rfl))
  · simp [mcell, sN_1, sN_2, sN_2, sI_1]
  · exact (by decide : ∀ a, a < 35 → mtb a ≠ (true, 2)) a a2
theorem E.mputN4 (C : gC K own cc ret lev mc hh) {x : Nat} {idx : Nat} (hM : MP (kG K) h m ad σ) (d : decode cc pc = .ok (.putfield idx, 3)) (w : Cond.fieldLink own idx "HomewatcherModel" "versions" "I" ∈ lw_all) (e : ∀ u, MP (kG K) u m ad (sN σ 3 0 x) → gfr 1 h u → E K (pc + 3) l st u k) : E K pc l (.int (nI x) :: .ref m :: st) h k := by
  refine E.put C d hM.1 (by decide) (q := (RX2, TX2, 35)) rfl 4 w (by decide) rfl rfl rfl rfl (Nat.le_of_ble_eq_true rfl) (e _ (hM.setS ?_ (fun a a1 a2 => mval_N ?_)) (gfr.up hM.1 rfl))
  · simp [mcell, sN_1, sN_2, sN_2, sI_1]
  · exact (by decide : ∀ a, a < 35 → mtb a ≠ (true, 3)) a a2
theorem E.mputN5 (C : gC K own cc ret lev mc hh) {x : Nat} {idx : Nat} (hM : MP (kG K) h m ad σ) (d : decode cc pc = .ok (.putfield idx, 3)) (w : Cond.fieldLink own idx "HomewatcherModel" "signs" "I" ∈ lw_all) (e : ∀ u, MP (kG K) u m ad (sN σ 4 0 x) → gfr 1 h u → E K (pc + 3) l st u k) : E K pc l (.int (nI x) :: .ref m :: st) h k := by
  refine E.put C d hM.1 (by decide) (q := (RX2, TX2, 35)) rfl 5 w (by decide) rfl rfl rfl rfl (Nat.le_of_ble_eq_true rfl) (e _ (hM.setS ?_ (fun a a1 a2 => mval_N ?_)) (gfr.up hM.1 rfl))
  · simp [mcell, sN_1, sN_2, sN_2, sI_1]
  · exact (by decide : ∀ a, a < 35 → mtb a ≠ (true, 4)) a a2
theorem E.mputN6 (C : gC K own cc ret lev mc hh) {x : Nat} {idx : Nat} (hM : MP (kG K) h m ad σ) (d : decode cc pc = .ok (.putfield idx, 3)) (w : Cond.fieldLink own idx "HomewatcherModel" "hits" "I" ∈ lw_all) (e : ∀ u, MP (kG K) u m ad (sN σ 5 0 x) → gfr 1 h u → E K (pc + 3) l st u k) : E K pc l (.int (nI x) :: .ref m :: st) h k := by
  refine E.put C d hM.1 (by decide) (q := (RX2, TX2, 35)) rfl 6 w (by decide) rfl rfl rfl rfl (Nat.le_of_ble_eq_true rfl) (e _ (hM.setS ?_ (fun a a1 a2 => mval_N ?_)) (gfr.up hM.1 rfl))
  · simp [mcell, sN_1, sN_2, sN_2, sI_1]
  · exact (by decide : ∀ a, a < 35 → mtb a ≠ (true, 5)) a a2
theorem E.mputN7 (C : gC K own cc ret lev mc hh) {x : Nat} {idx : Nat} (hM : MP (kG K) h m ad σ) (d : decode cc pc = .ok (.putfield idx, 3)) (w : Cond.fieldLink own idx "HomewatcherModel" "handed" "I" ∈ lw_all) (e : ∀ u, MP (kG K) u m ad (sN σ 6 0 x) → gfr 1 h u → E K (pc + 3) l st u k) : E K pc l (.int (nI x) :: .ref m :: st) h k := by
  refine E.put C d hM.1 (by decide) (q := (RX2, TX2, 35)) rfl 7 w (by decide) rfl rfl rfl rfl (Nat.le_of_ble_eq_true rfl) (e _ (hM.setS ?_ (fun a a1 a2 => mval_N ?_)) (gfr.up hM.1 rfl))
  · simp [mcell, sN_1, sN_2, sN_2, sI_1]
  · exact (by decide : ∀ a, a < 35 → mtb a ≠ (true, 6)) a a2
theorem E.mputI8 (C : gC K own cc ret lev mc hh) {x : Int32} {idx : Nat} (hM : MP (kG K) h m ad σ) (d : decode cc pc = .ok (.putfield idx, 3)) (w : Cond.fieldLink own idx "HomewatcherModel" "threshold" "I" ∈ lw_all) (e : ∀ u, MP (kG K) u m ad (sI σ 1 0 x) → gfr 1 h u → E K (pc + 3) l st u k) : E K pc l (.int (x) :: .ref m :: st) h k := by
  refine E.put C d hM.1 (by decide) (q := (RX2, TX2, 35)) rfl 8 w (by decide) rfl rfl rfl rfl (Nat.le_of_ble_eq_true rfl) (e _ (hM.setS ?_ (fun a a1 a2 => mval_I ?_)) (gfr.up hM.1 rfl))
  · simp [mcell, sI_1, sI_2, sN_2, sI_1]
  · exact (by decide : ∀ a, a < 35 → mtb a ≠ (false, 1)) a a2
theorem E.mputI9 (C : gC K own cc ret lev mc hh) {x : Int32} {idx : Nat} (hM : MP (kG K) h m ad σ) (d : decode cc pc = .ok (.putfield idx, 3)) (w : Cond.fieldLink own idx "HomewatcherModel" "thrown" "I" ∈ lw_all) (e : ∀ u, MP (kG K) u m ad (sI σ 14 0 x) → gfr 1 h u → E K (pc + 3) l st u k) : E K pc l (.int (x) :: .ref m :: st) h k := by
  refine E.put C d hM.1 (by decide) (q := (RX2, TX2, 35)) rfl 9 w (by decide) rfl rfl rfl rfl (Nat.le_of_ble_eq_true rfl) (e _ (hM.setS ?_ (fun a a1 a2 => mval_I ?_)) (gfr.up hM.1 rfl))
  · simp [mcell, sI_1, sI_2, sN_2, sI_1]
  · exact (by decide : ∀ a, a < 35 → mtb a ≠ (false, 14)) a a2
theorem E.mast10 (C : gC K own cc ret lev mc hh) {x : Int32} {i : Nat} (hM : MP (kG K) h m ad σ) (d : decode cc pc = .ok (.iastore, 1)) (hi : i < 4) (e : ∀ u, MP (kG K) u m ad (sI σ 2 i x) → gfr 1 h u → E K (pc + 1) l st u k) : E K pc l (.int (x) :: .int (nI i) :: .ref (ad 10) :: st) h k := by
  refine E.iast C d hM.a10 (by decide) (nI_in hi (by decide)) (e _ (hM.setA (j := 10) (by decide) (by decide) (mcell_I (by decide) (by decide)) ?_ (fun a a1 a2 a3 => mval_I ?_)) (gfr.up hM.a10 rfl))
  · rw [mval_Is (show mtb 10 = (false, 2) from rfl), nI_clamp (by omega)]; rfl
  · exact (by decide : ∀ a, a < 35 → a ≠ 10 → mtb a ≠ (false, 2)) a a2 a3
theorem E.mast11 (C : gC K own cc ret lev mc hh) {x : Nat} {i : Nat} (hM : MP (kG K) h m ad σ) (d : decode cc pc = .ok (.iastore, 1)) (hi : i < 12) (e : ∀ u, MP (kG K) u m ad (sN σ 7 i x) → gfr 1 h u → E K (pc + 1) l st u k) : E K pc l (.int (nI x) :: .int (nI i) :: .ref (ad 11) :: st) h k := by
  refine E.iast C d hM.a11 (by decide) (nI_in hi (by decide)) (e _ (hM.setA (j := 11) (by decide) (by decide) (mcell_N (by decide)) ?_ (fun a a1 a2 a3 => mval_N ?_)) (gfr.up hM.a11 rfl))
  · rw [mval_Ns (show mtb 11 = (true, 7) from rfl), nI_clamp (by omega)]; rfl
  · exact (by decide : ∀ a, a < 35 → a ≠ 11 → mtb a ≠ (true, 7)) a a2 a3
theorem E.mast12 (C : gC K own cc ret lev mc hh) {x : Nat} {i : Nat} (hM : MP (kG K) h m ad σ) (d : decode cc pc = .ok (.iastore, 1)) (hi : i < 10) (e : ∀ u, MP (kG K) u m ad (sN σ 8 i x) → gfr 1 h u → E K (pc + 1) l st u k) : E K pc l (.int (nI x) :: .int (nI i) :: .ref (ad 12) :: st) h k := by
  refine E.iast C d hM.a12 (by decide) (nI_in hi (by decide)) (e _ (hM.setA (j := 12) (by decide) (by decide) (mcell_N (by decide)) ?_ (fun a a1 a2 a3 => mval_N ?_)) (gfr.up hM.a12 rfl))
  · rw [mval_Ns (show mtb 12 = (true, 8) from rfl), nI_clamp (by omega)]; rfl
  · exact (by decide : ∀ a, a < 35 → a ≠ 12 → mtb a ≠ (true, 8)) a a2 a3
theorem E.mast13 (C : gC K own cc ret lev mc hh) {x : Int32} {i : Nat} (hM : MP (kG K) h m ad σ) (d : decode cc pc = .ok (.iastore, 1)) (hi : i < 10) (e : ∀ u, MP (kG K) u m ad (sI σ 3 i x) → gfr 1 h u → E K (pc + 1) l st u k) : E K pc l (.int (x) :: .int (nI i) :: .ref (ad 13) :: st) h k := by
  refine E.iast C d hM.a13 (by decide) (nI_in hi (by decide)) (e _ (hM.setA (j := 13) (by decide) (by decide) (mcell_I (by decide) (by decide)) ?_ (fun a a1 a2 a3 => mval_I ?_)) (gfr.up hM.a13 rfl))
  · rw [mval_Is (show mtb 13 = (false, 3) from rfl), nI_clamp (by omega)]; rfl
  · exact (by decide : ∀ a, a < 35 → a ≠ 13 → mtb a ≠ (false, 3)) a a2 a3
theorem E.mast14 (C : gC K own cc ret lev mc hh) {x : Int32} {i : Nat} (hM : MP (kG K) h m ad σ) (d : decode cc pc = .ok (.iastore, 1)) (hi : i < 10) (e : ∀ u, MP (kG K) u m ad (sI σ 4 i x) → gfr 1 h u → E K (pc + 1) l st u k) : E K pc l (.int (x) :: .int (nI i) :: .ref (ad 14) :: st) h k := by
  refine E.iast C d hM.a14 (by decide) (nI_in hi (by decide)) (e _ (hM.setA (j := 14) (by decide) (by decide) (mcell_I (by decide) (by decide)) ?_ (fun a a1 a2 a3 => mval_I ?_)) (gfr.up hM.a14 rfl))
  · rw [mval_Is (show mtb 14 = (false, 4) from rfl), nI_clamp (by omega)]; rfl
  · exact (by decide : ∀ a, a < 35 → a ≠ 14 → mtb a ≠ (false, 4)) a a2 a3
theorem E.mast15 (C : gC K own cc ret lev mc hh) {x : Int32} {i : Nat} (hM : MP (kG K) h m ad σ) (d : decode cc pc = .ok (.iastore, 1)) (hi : i < 10) (e : ∀ u, MP (kG K) u m ad (sI σ 5 i x) → gfr 1 h u → E K (pc + 1) l st u k) : E K pc l (.int (x) :: .int (nI i) :: .ref (ad 15) :: st) h k := by
  refine E.iast C d hM.a15 (by decide) (nI_in hi (by decide)) (e _ (hM.setA (j := 15) (by decide) (by decide) (mcell_I (by decide) (by decide)) ?_ (fun a a1 a2 a3 => mval_I ?_)) (gfr.up hM.a15 rfl))
  · rw [mval_Is (show mtb 15 = (false, 5) from rfl), nI_clamp (by omega)]; rfl
  · exact (by decide : ∀ a, a < 35 → a ≠ 15 → mtb a ≠ (false, 5)) a a2 a3
theorem E.mast16 (C : gC K own cc ret lev mc hh) {x : Int32} {i : Nat} (hM : MP (kG K) h m ad σ) (d : decode cc pc = .ok (.castore, 1)) (hi : i < 10) (hx : vp_nar .char x = x) (e : ∀ u, MP (kG K) u m ad (sI σ 6 i x) → gfr 1 h u → E K (pc + 1) l st u k) : E K pc l (.int (x) :: .int (nI i) :: .ref (ad 16) :: st) h k := by
  refine E.cast C d hM.a16 (by decide) (nI_in hi (by decide)) (e _ (hM.setA (j := 16) (by decide) (by decide) (mcell_I (by decide) (by decide)) ?_ (fun a a1 a2 a3 => mval_I ?_)) (gfr.up hM.a16 rfl))
  · rw [mval_Is (show mtb 16 = (false, 6) from rfl), nI_clamp (by omega), hx]; rfl
  · exact (by decide : ∀ a, a < 35 → a ≠ 16 → mtb a ≠ (false, 6)) a a2 a3
theorem E.mast17 (C : gC K own cc ret lev mc hh) {x : Int32} {i : Nat} (hM : MP (kG K) h m ad σ) (d : decode cc pc = .ok (.iastore, 1)) (hi : i < 40) (e : ∀ u, MP (kG K) u m ad (sI σ 7 i x) → gfr 1 h u → E K (pc + 1) l st u k) : E K pc l (.int (x) :: .int (nI i) :: .ref (ad 17) :: st) h k := by
  refine E.iast C d hM.a17 (by decide) (nI_in hi (by decide)) (e _ (hM.setA (j := 17) (by decide) (by decide) (mcell_I (by decide) (by decide)) ?_ (fun a a1 a2 a3 => mval_I ?_)) (gfr.up hM.a17 rfl))
  · rw [mval_Is (show mtb 17 = (false, 7) from rfl), nI_clamp (by omega)]; rfl
  · exact (by decide : ∀ a, a < 35 → a ≠ 17 → mtb a ≠ (false, 7)) a a2 a3
theorem E.mast18 (C : gC K own cc ret lev mc hh) {x : Nat} {i : Nat} (hM : MP (kG K) h m ad σ) (d : decode cc pc = .ok (.iastore, 1)) (hi : i < 60) (e : ∀ u, MP (kG K) u m ad (sN σ 9 i x) → gfr 1 h u → E K (pc + 1) l st u k) : E K pc l (.int (nI x) :: .int (nI i) :: .ref (ad 18) :: st) h k := by
  refine E.iast C d hM.a18 (by decide) (nI_in hi (by decide)) (e _ (hM.setA (j := 18) (by decide) (by decide) (mcell_N (by decide)) ?_ (fun a a1 a2 a3 => mval_N ?_)) (gfr.up hM.a18 rfl))
  · rw [mval_Ns (show mtb 18 = (true, 9) from rfl), nI_clamp (by omega)]; rfl
  · exact (by decide : ∀ a, a < 35 → a ≠ 18 → mtb a ≠ (true, 9)) a a2 a3
theorem E.mast19 (C : gC K own cc ret lev mc hh) {x : Nat} {i : Nat} (hM : MP (kG K) h m ad σ) (d : decode cc pc = .ok (.iastore, 1)) (hi : i < 60) (e : ∀ u, MP (kG K) u m ad (sN σ 10 i x) → gfr 1 h u → E K (pc + 1) l st u k) : E K pc l (.int (nI x) :: .int (nI i) :: .ref (ad 19) :: st) h k := by
  refine E.iast C d hM.a19 (by decide) (nI_in hi (by decide)) (e _ (hM.setA (j := 19) (by decide) (by decide) (mcell_N (by decide)) ?_ (fun a a1 a2 a3 => mval_N ?_)) (gfr.up hM.a19 rfl))
  · rw [mval_Ns (show mtb 19 = (true, 10) from rfl), nI_clamp (by omega)]; rfl
  · exact (by decide : ∀ a, a < 35 → a ≠ 19 → mtb a ≠ (true, 10)) a a2 a3
theorem E.mast20 (C : gC K own cc ret lev mc hh) {x : Int32} {i : Nat} (hM : MP (kG K) h m ad σ) (d : decode cc pc = .ok (.iastore, 1)) (hi : i < 60) (e : ∀ u, MP (kG K) u m ad (sI σ 15 i x) → gfr 1 h u → E K (pc + 1) l st u k) : E K pc l (.int (x) :: .int (nI i) :: .ref (ad 20) :: st) h k := by
  refine E.iast C d hM.a20 (by decide) (nI_in hi (by decide)) (e _ (hM.setA (j := 20) (by decide) (by decide) (mcell_I (by decide) (by decide)) ?_ (fun a a1 a2 a3 => mval_I ?_)) (gfr.up hM.a20 rfl))
  · rw [mval_Is (show mtb 20 = (false, 15) from rfl), nI_clamp (by omega)]; rfl
  · exact (by decide : ∀ a, a < 35 → a ≠ 20 → mtb a ≠ (false, 15)) a a2 a3
theorem E.mast21 (C : gC K own cc ret lev mc hh) {x : Int32} {i : Nat} (hM : MP (kG K) h m ad σ) (d : decode cc pc = .ok (.iastore, 1)) (hi : i < 60) (e : ∀ u, MP (kG K) u m ad (sI σ 8 i x) → gfr 1 h u → E K (pc + 1) l st u k) : E K pc l (.int (x) :: .int (nI i) :: .ref (ad 21) :: st) h k := by
  refine E.iast C d hM.a21 (by decide) (nI_in hi (by decide)) (e _ (hM.setA (j := 21) (by decide) (by decide) (mcell_I (by decide) (by decide)) ?_ (fun a a1 a2 a3 => mval_I ?_)) (gfr.up hM.a21 rfl))
  · rw [mval_Is (show mtb 21 = (false, 8) from rfl), nI_clamp (by omega)]; rfl
  · exact (by decide : ∀ a, a < 35 → a ≠ 21 → mtb a ≠ (false, 8)) a a2 a3
theorem E.mast22 (C : gC K own cc ret lev mc hh) {x : Nat} {i : Nat} (hM : MP (kG K) h m ad σ) (d : decode cc pc = .ok (.iastore, 1)) (hi : i < 60) (e : ∀ u, MP (kG K) u m ad (sN σ 12 i x) → gfr 1 h u → E K (pc + 1) l st u k) : E K pc l (.int (nI x) :: .int (nI i) :: .ref (ad 22) :: st) h k := by
  refine E.iast C d hM.a22 (by decide) (nI_in hi (by decide)) (e _ (hM.setA (j := 22) (by decide) (by decide) (mcell_N (by decide)) ?_ (fun a a1 a2 a3 => mval_N ?_)) (gfr.up hM.a22 rfl))
  · rw [mval_Ns (show mtb 22 = (true, 12) from rfl), nI_clamp (by omega)]; rfl
  · exact (by decide : ∀ a, a < 35 → a ≠ 22 → mtb a ≠ (true, 12)) a a2 a3
theorem E.mast23 (C : gC K own cc ret lev mc hh) {x : Nat} {i : Nat} (hM : MP (kG K) h m ad σ) (d : decode cc pc = .ok (.iastore, 1)) (hi : i < 60) (e : ∀ u, MP (kG K) u m ad (sN σ 13 i x) → gfr 1 h u → E K (pc + 1) l st u k) : E K pc l (.int (nI x) :: .int (nI i) :: .ref (ad 23) :: st) h k := by
  refine E.iast C d hM.a23 (by decide) (nI_in hi (by decide)) (e _ (hM.setA (j := 23) (by decide) (by decide) (mcell_N (by decide)) ?_ (fun a a1 a2 a3 => mval_N ?_)) (gfr.up hM.a23 rfl))
  · rw [mval_Ns (show mtb 23 = (true, 13) from rfl), nI_clamp (by omega)]; rfl
  · exact (by decide : ∀ a, a < 35 → a ≠ 23 → mtb a ≠ (true, 13)) a a2 a3
theorem E.mast24 (C : gC K own cc ret lev mc hh) {x : Int32} {i : Nat} (hM : MP (kG K) h m ad σ) (d : decode cc pc = .ok (.iastore, 1)) (hi : i < 60) (e : ∀ u, MP (kG K) u m ad (sI σ 9 i x) → gfr 1 h u → E K (pc + 1) l st u k) : E K pc l (.int (x) :: .int (nI i) :: .ref (ad 24) :: st) h k := by
  refine E.iast C d hM.a24 (by decide) (nI_in hi (by decide)) (e _ (hM.setA (j := 24) (by decide) (by decide) (mcell_I (by decide) (by decide)) ?_ (fun a a1 a2 a3 => mval_I ?_)) (gfr.up hM.a24 rfl))
  · rw [mval_Is (show mtb 24 = (false, 9) from rfl), nI_clamp (by omega)]; rfl
  · exact (by decide : ∀ a, a < 35 → a ≠ 24 → mtb a ≠ (false, 9)) a a2 a3
theorem E.mast25 (C : gC K own cc ret lev mc hh) {x : Nat} {i : Nat} (hM : MP (kG K) h m ad σ) (d : decode cc pc = .ok (.iastore, 1)) (hi : i < 60) (e : ∀ u, MP (kG K) u m ad (sN σ 14 i x) → gfr 1 h u → E K (pc + 1) l st u k) : E K pc l (.int (nI x) :: .int (nI i) :: .ref (ad 25) :: st) h k := by
  refine E.iast C d hM.a25 (by decide) (nI_in hi (by decide)) (e _ (hM.setA (j := 25) (by decide) (by decide) (mcell_N (by decide)) ?_ (fun a a1 a2 a3 => mval_N ?_)) (gfr.up hM.a25 rfl))
  · rw [mval_Ns (show mtb 25 = (true, 14) from rfl), nI_clamp (by omega)]; rfl
  · exact (by decide : ∀ a, a < 35 → a ≠ 25 → mtb a ≠ (true, 14)) a a2 a3
theorem E.mast26 (C : gC K own cc ret lev mc hh) {x : Int32} {i : Nat} (hM : MP (kG K) h m ad σ) (d : decode cc pc = .ok (.iastore, 1)) (hi : i < 60) (e : ∀ u, MP (kG K) u m ad (sI σ 10 i x) → gfr 1 h u → E K (pc + 1) l st u k) : E K pc l (.int (x) :: .int (nI i) :: .ref (ad 26) :: st) h k := by
  refine E.iast C d hM.a26 (by decide) (nI_in hi (by decide)) (e _ (hM.setA (j := 26) (by decide) (by decide) (mcell_I (by decide) (by decide)) ?_ (fun a a1 a2 a3 => mval_I ?_)) (gfr.up hM.a26 rfl))
  · rw [mval_Is (show mtb 26 = (false, 10) from rfl), nI_clamp (by omega)]; rfl
  · exact (by decide : ∀ a, a < 35 → a ≠ 26 → mtb a ≠ (false, 10)) a a2 a3
theorem E.mast27 (C : gC K own cc ret lev mc hh) {x : Int32} {i : Nat} (hM : MP (kG K) h m ad σ) (d : decode cc pc = .ok (.iastore, 1)) (hi : i < 2400) (e : ∀ u, MP (kG K) u m ad (sI σ 11 i x) → gfr 1 h u → E K (pc + 1) l st u k) : E K pc l (.int (x) :: .int (nI i) :: .ref (ad 27) :: st) h k := by
  refine E.iast C d hM.a27 (by decide) (nI_in hi (by decide)) (e _ (hM.setA (j := 27) (by decide) (by decide) (mcell_I (by decide) (by decide)) ?_ (fun a a1 a2 a3 => mval_I ?_)) (gfr.up hM.a27 rfl))
  · rw [mval_Is (show mtb 27 = (false, 11) from rfl), nI_clamp (by omega)]; rfl
  · exact (by decide : ∀ a, a < 35 → a ≠ 27 → mtb a ≠ (false, 11)) a a2 a3
theorem E.mast28 (C : gC K own cc ret lev mc hh) {x : Int32} {i : Nat} (hM : MP (kG K) h m ad σ) (d : decode cc pc = .ok (.iastore, 1)) (hi : i < 2400) (e : ∀ u, MP (kG K) u m ad (sI σ 12 i x) → gfr 1 h u → E K (pc + 1) l st u k) : E K pc l (.int (x) :: .int (nI i) :: .ref (ad 28) :: st) h k := by
  refine E.iast C d hM.a28 (by decide) (nI_in hi (by decide)) (e _ (hM.setA (j := 28) (by decide) (by decide) (mcell_I (by decide) (by decide)) ?_ (fun a a1 a2 a3 => mval_I ?_)) (gfr.up hM.a28 rfl))
  · rw [mval_Is (show mtb 28 = (false, 12) from rfl), nI_clamp (by omega)]; rfl
  · exact (by decide : ∀ a, a < 35 → a ≠ 28 → mtb a ≠ (false, 12)) a a2 a3
theorem E.mast29 (C : gC K own cc ret lev mc hh) {x : Nat} {i : Nat} (hM : MP (kG K) h m ad σ) (d : decode cc pc = .ok (.iastore, 1)) (hi : i < 60) (e : ∀ u, MP (kG K) u m ad (sN σ 15 i x) → gfr 1 h u → E K (pc + 1) l st u k) : E K pc l (.int (nI x) :: .int (nI i) :: .ref (ad 29) :: st) h k := by
  refine E.iast C d hM.a29 (by decide) (nI_in hi (by decide)) (e _ (hM.setA (j := 29) (by decide) (by decide) (mcell_N (by decide)) ?_ (fun a a1 a2 a3 => mval_N ?_)) (gfr.up hM.a29 rfl))
  · rw [mval_Ns (show mtb 29 = (true, 15) from rfl), nI_clamp (by omega)]; rfl
  · exact (by decide : ∀ a, a < 35 → a ≠ 29 → mtb a ≠ (true, 15)) a a2 a3
theorem E.mast30 (C : gC K own cc ret lev mc hh) {x : Nat} {i : Nat} (hM : MP (kG K) h m ad σ) (d : decode cc pc = .ok (.iastore, 1)) (hi : i < 40) (e : ∀ u, MP (kG K) u m ad (sN σ 16 i x) → gfr 1 h u → E K (pc + 1) l st u k) : E K pc l (.int (nI x) :: .int (nI i) :: .ref (ad 30) :: st) h k := by
  refine E.iast C d hM.a30 (by decide) (nI_in hi (by decide)) (e _ (hM.setA (j := 30) (by decide) (by decide) (mcell_N (by decide)) ?_ (fun a a1 a2 a3 => mval_N ?_)) (gfr.up hM.a30 rfl))
  · rw [mval_Ns (show mtb 30 = (true, 16) from rfl), nI_clamp (by omega)]; rfl
  · exact (by decide : ∀ a, a < 35 → a ≠ 30 → mtb a ≠ (true, 16)) a a2 a3
theorem E.mast31 (C : gC K own cc ret lev mc hh) {x : Nat} {i : Nat} (hM : MP (kG K) h m ad σ) (d : decode cc pc = .ok (.iastore, 1)) (hi : i < 40) (e : ∀ u, MP (kG K) u m ad (sN σ 17 i x) → gfr 1 h u → E K (pc + 1) l st u k) : E K pc l (.int (nI x) :: .int (nI i) :: .ref (ad 31) :: st) h k := by
  refine E.iast C d hM.a31 (by decide) (nI_in hi (by decide)) (e _ (hM.setA (j := 31) (by decide) (by decide) (mcell_N (by decide)) ?_ (fun a a1 a2 a3 => mval_N ?_)) (gfr.up hM.a31 rfl))
  · rw [mval_Ns (show mtb 31 = (true, 17) from rfl), nI_clamp (by omega)]; rfl
  · exact (by decide : ∀ a, a < 35 → a ≠ 31 → mtb a ≠ (true, 17)) a a2 a3
theorem E.mast32 (C : gC K own cc ret lev mc hh) {x : Nat} {i : Nat} (hM : MP (kG K) h m ad σ) (d : decode cc pc = .ok (.iastore, 1)) (hi : i < 40) (e : ∀ u, MP (kG K) u m ad (sN σ 18 i x) → gfr 1 h u → E K (pc + 1) l st u k) : E K pc l (.int (nI x) :: .int (nI i) :: .ref (ad 32) :: st) h k := by
  refine E.iast C d hM.a32 (by decide) (nI_in hi (by decide)) (e _ (hM.setA (j := 32) (by decide) (by decide) (mcell_N (by decide)) ?_ (fun a a1 a2 a3 => mval_N ?_)) (gfr.up hM.a32 rfl))
  · rw [mval_Ns (show mtb 32 = (true, 18) from rfl), nI_clamp (by omega)]; rfl
  · exact (by decide : ∀ a, a < 35 → a ≠ 32 → mtb a ≠ (true, 18)) a a2 a3
theorem E.mast33 (C : gC K own cc ret lev mc hh) {x : Int32} {i : Nat} (hM : MP (kG K) h m ad σ) (d : decode cc pc = .ok (.iastore, 1)) (hi : i < 40) (e : ∀ u, MP (kG K) u m ad (sI σ 13 i x) → gfr 1 h u → E K (pc + 1) l st u k) : E K pc l (.int (x) :: .int (nI i) :: .ref (ad 33) :: st) h k := by
  refine E.iast C d hM.a33 (by decide) (nI_in hi (by decide)) (e _ (hM.setA (j := 33) (by decide) (by decide) (mcell_I (by decide) (by decide)) ?_ (fun a a1 a2 a3 => mval_I ?_)) (gfr.up hM.a33 rfl))
  · rw [mval_Is (show mtb 33 = (false, 13) from rfl), nI_clamp (by omega)]; rfl
  · exact (by decide : ∀ a, a < 35 → a ≠ 33 → mtb a ≠ (false, 13)) a a2 a3
theorem E.mast34 (C : gC K own cc ret lev mc hh) {x : Nat} {i : Nat} (hM : MP (kG K) h m ad σ) (d : decode cc pc = .ok (.bastore, 1)) (hi : i < 120) (hx : vp_nar .boolean (nI x) = nI x) (e : ∀ u, MP (kG K) u m ad (sN σ 19 i x) → gfr 1 h u → E K (pc + 1) l st u k) : E K pc l (.int (nI x) :: .int (nI i) :: .ref (ad 34) :: st) h k := by
  refine E.zast C d hM.a34 (by decide) (nI_in hi (by decide)) (e _ (hM.setA (j := 34) (by decide) (by decide) (mcell_N (by decide)) ?_ (fun a a1 a2 a3 => mval_N ?_)) (gfr.up hM.a34 rfl))
  · rw [mval_Ns (show mtb 34 = (true, 19) from rfl), nI_clamp (by omega), hx]; rfl
  · exact (by decide : ∀ a, a < 35 → a ≠ 34 → mtb a ≠ (true, 19)) a a2 a3
end MROWS
