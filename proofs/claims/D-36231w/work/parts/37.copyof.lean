/-! JDK: Arrays.copyOf of references, ArraysSupport.newLength -/
set_option maxRecDepth 100000
section ROWS3
variable {K : gK} {own : String} {cc : ByteArray} {ret : Option FieldType} {lev mc : Nat} {hh : List (Nat × Nat × Nat × Nat)}
variable {pc k : Nat} {l : List (Nat × Value)} {st : List Value} {h : gH}
theorem E.getC (C : gC K own cc ret lev mc hh) {idx mi a t n : Nat} {f : Nat → Option Nat} (w1 : Cond.methodLink own idx ⟨"java/lang/Object", "getClass", "()Ljava/lang/Class;"⟩ ∈ lw_all) (hM : va_Mi "[Ljava/lang/Object;" mi (ks K)) (ha : h a = some (t, .inl (gci (kG K) 6, n, .inr (.inr (.inr (.inr f)))))) (hlev : 0 < lev) (hW : (st.map fun v => v.category).sum ≤ 8) (d : decode cc pc = .ok (.invokevirtual idx, 3)) (e : E K (pc + 3) l (.ref mi :: st) h k) : E K pc l (.ref a :: st) h k := fun H locs ls hp hs hl =>
  va_getC C.x C.b (C.ml.trans hl.1.symm) C.ow (C.ts _ w1) (va_Dc.use C.tb.2.2.2.2.1.2.2.2.2.2) (C.ts _ q2457) (C.ts _ q1370) (C.ts _ q1397) hM ⟨_, (hp a t _ ha).2, rfl, va_nmO (C.K9.2 6 _ rfl).2 (by decide +kernel)⟩ (C.lv1 hlev).1 (by have := (C.lv1 hlev).2; omega) d (e H locs ls hp hs hl)
end ROWS3
theorem gMi {G : gG} {U : State} (T : Tb G U) {mi : Nat} (h : gst G 2 = some mi) : va_Mi "[Ljava/lang/Object;" mi U := by
  obtain ⟨m2, e, q⟩ := T.2.2.2.2.1.2.2.2.2.1
  rw [h] at e
  cases e
  exact q
section COPYOF
variable {G : gG} {h : gH}
theorem m_copyOf3 {a0 t0 n0 M9 mi tn : Nat} {f : Nat → Option Nat} {Cn : String} (w : Nat) (htn : tn ≠ 0) (hM : gst G 2 = some mi) (ha : h a0 = some (t0, .inl (gci G 6, n0, .inr (.inr (.inr (.inr f)))))) (hel : ∀ i, i < n0 → ∀ y, f i = some y → gRv h y Cn) (hca : Cond.castable Cn "java/lang/Object" ∈ gNw) (h0 : n0 < M9) (hN : M9 < 2 ^ 20) (hw : M9 ≤ 8 * w) :
    gMet 2 yJ13_copyOf_3 cJ13_copyOf_3 4 (some (.array (.object "java/lang/Object"))) G h [.ref a0, .int (nI M9), .ref mi] (fun v u => ∃ b, v = some (.ref b) ∧ h b = none ∧ u = gu h b (tn, .inl (gci G 6, M9, .inr (.inr (.inr (.inr (va_cpy f (fun _ => none) 0 0 n0)))))) ) gNo w := by
  refine gMet.of (by decide) (Nat.le_of_ble_eq_true rfl) (fun K C N hG hn hin => ?_)
  subst hG
  have kn_ : ∀ j : Nat, j < 4 → j < kn K := fun j hj => by rw [hn]; exact hj
  refine E.aload_n C dJ13_copyOf_3_0 rfl ?_
  refine E.ldcM C q1401 (gMi C.tb hM) dJ13_copyOf_3_1 ?_
  refine E.acmp_ne (x := some mi) (y := some mi) C dJ13_copyOf_3_3 (tgt := 13) (by decide) (fun c => ?_) (fun c => ?_)
  · exact absurd rfl c
  · have e0 : (nI 0).toNatClampNeg = 0 := by decide
    have en : (nI n0).toNatClampNeg = n0 := nI_clamp (by omega)
    refine E.iload_n C dJ13_copyOf_3_6 rfl ?_
    refine E.newq C tn w q1402 C.tb.2.2.2.2.2.1 dJ13_copyOf_3_7 (nI_pos (by omega)) (nI_clamp (by omega)) (by omega) (by omega) hw (by omega) ?_
    intro b hb hz
    have hne : a0 ≠ b := ne_of_none hb ha
    have ha' : (gu h b (tn, .inl (gci (kG K) 6, M9, .inr (.inr (.inr (.inr (fun _ => none))))))) a0 = some (t0, .inl (gci (kG K) 6, n0, .inr (.inr (.inr (.inr f))))) := by rw [gu_n hne]; exact ha
    refine E.goto C dJ13_copyOf_3_10 (tgt := 24) (by decide) ?_
    refine E.astore_n C dJ13_copyOf_3_24 (kn_ _ (by decide)) ?_
    refine E.aload_n C dJ13_copyOf_3_25 rfl ?_
    refine E.iconst C dJ13_copyOf_3_26 (v := 0) (by decide) ?_
    refine E.aload_n C dJ13_copyOf_3_27 rfl ?_
    refine E.iconst C dJ13_copyOf_3_28 (v := 0) (by decide) ?_
    refine E.aload_n C dJ13_copyOf_3_29 rfl ?_
    refine E.alen C dJ13_copyOf_3_30 ha' (ti := 6) rfl rfl ?_
    refine E.iload_n C dJ13_copyOf_3_31 rfl ?_
    refine E.mmin C q246 q247 q67 q248 dJ13_copyOf_3_32 (by decide) (by omega) (Nat.le_of_ble_eq_true rfl) ?_
    refine E.ri (show _ = nI n0 from if_neg (nI_nlt (by omega) (by omega))) ?_
    refine E.copyO (sp := 0) (dp := 0) C q249 q251 q250 q69 ha' gu_s htn (by decide) (by decide) (nI_pos (by omega)) (by rw [en]; exact Nat.le_of_eq (Nat.zero_add _)) (by rw [en]; show 0 + n0 ≤ M9; omega) (fun i hi y hy => ?_) hca (by decide) (Nat.le_of_ble_eq_true rfl) dJ13_copyOf_3_35 ?_
    · rw [en] at hi
      have := hel i hi y (by rw [show (0 : Int32).toNatClampNeg + i = i from Nat.zero_add i] at hy; exact hy)
      obtain ⟨t9, c9, f9, g1, g2⟩ := this
      exact ⟨t9, c9, f9, gle.up hb _ _ g1, g2⟩
    · rw [gu_uu, en]
      refine E.aload_n C dJ13_copyOf_3_38 rfl ?_
      refine E.endA C N dJ13_copyOf_3_39 (by omega) ?_
      exact ⟨b, rfl, hb, rfl⟩
theorem m_copyOf2 {a0 t0 n0 M9 tn : Nat} {f : Nat → Option Nat} {Cn : String} (w : Nat) (htn : tn ≠ 0) (ha : h a0 = some (t0, .inl (gci G 6, n0, .inr (.inr (.inr (.inr f)))))) (hel : ∀ i, i < n0 → ∀ y, f i = some y → gRv h y Cn) (hca : Cond.castable Cn "java/lang/Object" ∈ gNw) (h0 : n0 < M9) (hN : M9 < 2 ^ 20) (hw : M9 ≤ 8 * w) :
    gMet 3 yJ13_copyOf_2 cJ13_copyOf_2 2 (some (.array (.object "java/lang/Object"))) G h [.ref a0, .int (nI M9)] (fun v u => ∃ b, v = some (.ref b) ∧ h b = none ∧ u = gu h b (tn, .inl (gci G 6, M9, .inr (.inr (.inr (.inr (va_cpy f (fun _ => none) 0 0 n0)))))) ) gNo w := by
  refine gMet.of (by decide) (Nat.le_of_ble_eq_true rfl) (fun K C N hG hn hin => ?_)
  subst hG
  have kn_ : ∀ j : Nat, j < 2 → j < kn K := fun j hj => by rw [hn]; exact hj
  obtain ⟨mi, hmi, hM⟩ := C.tb.2.2.2.2.1.2.2.2.2.1
  refine E.aload_n C dJ13_copyOf_2_0 rfl ?_
  refine E.iload_n C dJ13_copyOf_2_1 rfl ?_
  refine E.aload_n C dJ13_copyOf_2_2 rfl ?_
  refine E.getC C q1369 hM ha (by decide) (Nat.le_of_ble_eq_true rfl) dJ13_copyOf_2_3 ?_
  refine E.callS C (m_copyOf3 w htn hmi ha hel hca h0 hN hw) dJ13_copyOf_2_6 q1398 q1399 q68 q1400 mh_J13_copyOf_3 (by decide) (by decide) rfl (Nat.le_of_ble_eq_true rfl) (by omega) (fun _ _ hx => hx.elim) ?_
  rintro v u ⟨b, rfl, hb, rfl⟩
  refine E.endA C N dJ13_copyOf_2_9 (by omega) ?_
  exact ⟨b, rfl, hb, rfl⟩
theorem m_newLength {a b c : Nat} (hb : b < 2 ^ 20) (hc : c < 2 ^ 20) (ha : a < 2 ^ 20) (h0 : 0 < a + c) : gMet 1 yJ11_newLength cJ11_newLength 4 (some .int) G h [.int (nI a), .int (nI b), .int (nI c)] (fun v u => v = some (.int (nI (a + if b < c then c else b))) ∧ u = h) gNo 0 := by
  refine gMet.of (by decide) (Nat.le_of_ble_eq_true rfl) (fun K C N hG hn hin => ?_)
  subst hG
  have kn_ : ∀ j : Nat, j < 4 → j < kn K := fun j hj => by rw [hn]; exact hj
  refine E.iload_n C dJ11_newLength_0 rfl ?_
  refine E.iload_n C dJ11_newLength_1 rfl ?_
  refine E.iload_n C dJ11_newLength_2 rfl ?_
  refine E.mmax C q228 q229 q67 q230 dJ11_newLength_3 (by decide) (Nat.le_refl _) (Nat.le_of_ble_eq_true rfl) ?_
  refine E.ri (show _ = nI (if b < c then c else b) from ?_) ?_
  · by_cases e : b < c
    · rw [if_pos e, if_pos (nI_lt e (by omega))]
    · rw [if_neg e, if_neg (nI_nlt (by omega) (by omega))]
  have hz : (if b < c then c else b) < 2 ^ 20 ∧ 0 < a + (if b < c then c else b) := by split <;> omega
  generalize hz9 : (if b < c then c else b) = z at hz ⊢
  refine E.iadd C dJ11_newLength_6 ?_
  refine E.ri (nI_add a z) ?_
  refine E.istore_n C dJ11_newLength_7 (kn_ _ (by decide)) ?_
  refine E.iconst C dJ11_newLength_8 (v := 0) (by decide) ?_
  refine E.iload_n C dJ11_newLength_9 rfl ?_
  refine E.icmp_ge C dJ11_newLength_10 (tgt := 21) (by decide) (fun c1 => ?_) (fun c1 => ?_)
  · exact absurd (nI_lt (a := 0) (b := a + z) (by omega) (by omega)) (by first | exact c1 | exact Int32.not_lt.mpr c1)
  · refine E.iload_n C dJ11_newLength_13 rfl ?_
    refine E.ldc C dJ11_newLength_14 q231 ?_
    refine E.icmp_gt C dJ11_newLength_16 (tgt := 21) (by decide) (fun c2 => ?_) (fun c2 => ?_)
    · exact absurd (show nI (a + z) ≤ nI 2147483639 from nI_le (by omega) (by decide)) (by first | exact c2 | exact Int32.not_le.mpr c2)
    · refine E.iload_n C dJ11_newLength_19 rfl ?_
      refine E.endI C N dJ11_newLength_20 (by omega) ?_
      exact ⟨by rw [hz9], rfl⟩
end COPYOF
