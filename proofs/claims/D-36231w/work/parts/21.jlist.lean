/-! JDK: ArrayList and its iterator -/
set_option maxRecDepth 100000
/-- an ArrayList at a, of tag t, room cap: its n places are the cells p 0 .. -/
def AL (G : gG) (h : gH) (t a cap n : Nat) (p : Nat → Nat) (mcn : Int32) : Prop := ∃ (ea : Nat) (f : Nat → Option Nat), h a = some (t, .inr (5, [.int mcn, .ref ea, .int (nI n)])) ∧ h ea = some (t, .inl (gci G 6, cap, .inr (.inr (.inr (.inr f))))) ∧ (∀ i, i < n → f i = some (p i)) ∧ n ≤ cap ∧ cap < 2 ^ 30
theorem AL.mono {G : gG} {h h' : gH} {t a cap n : Nat} {p : Nat → Nat} {mcn : Int32} (q : AL G h t a cap n p mcn) (k : gle h h') : AL G h' t a cap n p mcn := by
  obtain ⟨ea, f, h1, h2, h3⟩ := q
  exact ⟨ea, f, k _ _ h1, k _ _ h2, h3⟩
theorem AL.fr {G : gG} {h u : gH} {t t' a cap n : Nat} {p : Nat → Nat} {mcn : Int32} (q : AL G h t a cap n p mcn) (k : gfr t' h u) (n' : t ≠ t') : AL G u t a cap n p mcn := by
  obtain ⟨ea, f, h1, h2, h3⟩ := q
  exact ⟨ea, f, k _ _ h1 n', k _ _ h2 n', h3⟩
theorem AL.rv {G : gG} {h : gH} {t a cap n : Nat} {p : Nat → Nat} {mcn : Int32} (q : AL G h t a cap n p mcn) : gRv h a RJ2 := by
  obtain ⟨ea, f, h1, h2, h3⟩ := q
  exact gRv.of h1 (by decide)
/-- an iterator over it, that has given i -/
abbrev gitr (a : Nat) (i lr mcn : Int32) : va_E := .inr (6, [.int i, .int lr, .int mcn, .ref a])
section LISTS
variable {G : gG} {h : gH} {t a cap n : Nat} {p : Nat → Nat} {mcn : Int32}
theorem m_J2_size (hA : AL G h t a cap n p mcn) : gMet 1 yJ2_size cJ2_size 1 (some .int) G h [.ref a] (fun v u => v = some (.int (nI n)) ∧ u = h) gNo 0 := by
  obtain ⟨ea, f, h1, h2, h3, h4, h5⟩ := hA
  refine gMet.of (by decide) (Nat.le_of_ble_eq_true rfl) (fun K C N hG hn hin => ?_)
  subst hG
  have kn_ : ∀ j : Nat, j < 1 → j < kn K := fun j hj => by rw [hn]; exact hj
  refine E.aload_n C dJ2_size_0 rfl ?_
  refine E.getf C dJ2_size_1 h1 rfl 2 q447 (by decide) rfl rfl ?_
  refine E.endI C N dJ2_size_4 (by omega) ?_
  exact ⟨rfl, rfl⟩
theorem m_J2_isEmpty (hA : AL G h t a cap n p mcn) : gMet 1 yJ2_isEmpty cJ2_isEmpty 1 (some .boolean) G h [.ref a] (fun v u => v = some (.int (if n = 0 then 1 else 0)) ∧ u = h) gNo 0 := by
  obtain ⟨ea, f, h1, h2, h3, h4, h5⟩ := hA
  refine gMet.of (by decide) (Nat.le_of_ble_eq_true rfl) (fun K C N hG hn hin => ?_)
  subst hG
  have kn_ : ∀ j : Nat, j < 1 → j < kn K := fun j hj => by rw [hn]; exact hj
  refine E.aload_n C dJ2_isEmpty_0 rfl ?_
  refine E.getf C dJ2_isEmpty_1 h1 rfl 2 q447 (by decide) rfl rfl ?_
  refine E.if_ne C dJ2_isEmpty_4 (tgt := 11) (by decide) (fun c => ?_) (fun c => ?_)
  · refine E.iconst C dJ2_isEmpty_11 (v := 0) (by decide) ?_
    refine E.endZ C N dJ2_isEmpty_12 (by first | rfl | assumption) (by omega) ?_
    exact ⟨by rw [if_neg (fun e => c (by rw [e]; rfl))], rfl⟩
  · refine E.iconst C dJ2_isEmpty_7 (v := 1) (by decide) ?_
    refine E.goto C dJ2_isEmpty_8 (tgt := 12) (by decide) ?_
    refine E.endZ C N dJ2_isEmpty_12 (by first | rfl | assumption) (by omega) ?_
    exact ⟨by rw [if_pos ((nI_eq (by omega) (by omega)).mp (show nI n = nI 0 from c))], rfl⟩
theorem m_J14_checkIndex (r9 : Option Nat) (n9 i9 : Nat) (hi : i9 < n9) (hn9 : n9 < 2 ^ 31) : gMet 1 yJ14_checkIndex cJ14_checkIndex 3 (some .int) G h [.int (nI i9), .int (nI n9), va_rf r9] (fun v u => v = some (.int (nI i9)) ∧ u = h) gNo 0 := by
  cases r9 with
  | none =>
    show gMet 1 yJ14_checkIndex cJ14_checkIndex 3 (some .int) G h [.int (nI i9), .int (nI n9), .null] _ gNo 0
    refine gMet.of (by decide) (Nat.le_of_ble_eq_true rfl) (fun K C N hG hn hin => ?_)
    subst hG
    have kn_ : ∀ j : Nat, j < 3 → j < kn K := fun j hj => by rw [hn]; exact hj
    refine E.iload_n C dJ14_checkIndex_0 rfl ?_
    refine E.if_lt C dJ14_checkIndex_1 (tgt := 9) (by decide) (fun c => ?_) (fun c => ?_)
    · exact absurd c (nI_pos (by omega))
    · refine E.iload_n C dJ14_checkIndex_4 rfl ?_
      refine E.iload_n C dJ14_checkIndex_5 rfl ?_
      refine E.icmp_lt C dJ14_checkIndex_6 (tgt := 16) (by decide) (fun c2 => ?_) (fun c2 => ?_)
      · refine E.iload_n C dJ14_checkIndex_16 rfl ?_
        refine E.endI C N dJ14_checkIndex_17 (by omega) ?_
        exact ⟨rfl, rfl⟩
      · exact absurd (nI_lt hi hn9) c2
  | some b9 =>
    show gMet 1 yJ14_checkIndex cJ14_checkIndex 3 (some .int) G h [.int (nI i9), .int (nI n9), .ref b9] _ gNo 0
    refine gMet.of (by decide) (Nat.le_of_ble_eq_true rfl) (fun K C N hG hn hin => ?_)
    subst hG
    have kn_ : ∀ j : Nat, j < 3 → j < kn K := fun j hj => by rw [hn]; exact hj
    refine E.iload_n C dJ14_checkIndex_0 rfl ?_
    refine E.if_lt C dJ14_checkIndex_1 (tgt := 9) (by decide) (fun c => ?_) (fun c => ?_)
    · exact absurd c (nI_pos (by omega))
    · refine E.iload_n C dJ14_checkIndex_4 rfl ?_
      refine E.iload_n C dJ14_checkIndex_5 rfl ?_
      refine E.icmp_lt C dJ14_checkIndex_6 (tgt := 16) (by decide) (fun c2 => ?_) (fun c2 => ?_)
      · refine E.iload_n C dJ14_checkIndex_16 rfl ?_
        refine E.endI C N dJ14_checkIndex_17 (by omega) ?_
        exact ⟨rfl, rfl⟩
      · exact absurd (nI_lt hi hn9) c2
theorem m_J23_checkIndex (n9 i9 : Nat) (hi : i9 < n9) (hn9 : n9 < 2 ^ 31) : gMet 2 yJ23_checkIndex cJ23_checkIndex 2 (some .int) G h [.int (nI i9), .int (nI n9)] (fun v u => v = some (.int (nI i9)) ∧ u = h) gNo 0 := by
  refine gMet.of (by decide) (Nat.le_of_ble_eq_true rfl) (fun K C N hG hn hin => ?_)
  subst hG
  have kn_ : ∀ j : Nat, j < 2 → j < kn K := fun j hj => by rw [hn]; exact hj
  refine E.iload_n C dJ23_checkIndex_0 rfl ?_
  refine E.iload_n C dJ23_checkIndex_1 rfl ?_
  refine E.null C dJ23_checkIndex_2 ?_
  refine E.callS C (m_J14_checkIndex none n9 i9 hi hn9) dJ23_checkIndex_3 q1260 q580 q70 q581 mh_J14_checkIndex (by decide) (by decide) rfl (Nat.le_of_ble_eq_true rfl) (by omega) (fun _ _ hx => hx.elim) ?_
  rintro v u ⟨rfl, rfl⟩
  refine E.endI C N dJ23_checkIndex_6 (by omega) ?_
  exact ⟨rfl, rfl⟩
theorem m_J2_elementData (i : Nat) (hi : i < n) (hA : AL G h t a cap n p mcn) : gMet 1 yJ2_elementData cJ2_elementData 2 (some (.object "java/lang/Object")) G h [.ref a, .int (nI i)] (fun v u => v = some (.ref (p i)) ∧ u = h) gNo 0 := by
  obtain ⟨ea, f, h1, h2, h3, h4, h5⟩ := hA
  refine gMet.of (by decide) (Nat.le_of_ble_eq_true rfl) (fun K C N hG hn hin => ?_)
  subst hG
  have kn_ : ∀ j : Nat, j < 2 → j < kn K := fun j hj => by rw [hn]; exact hj
  refine E.aload_n C dJ2_elementData_0 rfl ?_
  refine E.getf C dJ2_elementData_1 h1 rfl 1 q444 (by decide) rfl rfl ?_
  refine E.iload_n C dJ2_elementData_4 rfl ?_
  refine E.aald C dJ2_elementData_5 h2 (vp_in_nI (by omega) (by omega)) (by rw [nI_clamp (by omega), h3 i hi]) ?_
  refine E.endA C N dJ2_elementData_6 (by omega) ?_
  exact ⟨rfl, rfl⟩
theorem m_J2_get (i : Nat) (hi : i < n) (hA : AL G h t a cap n p mcn) : gMet 3 yJ2_get cJ2_get 2 (some (.object "java/lang/Object")) G h [.ref a, .int (nI i)] (fun v u => v = some (.ref (p i)) ∧ u = h) gNo 0 := by
  have hA9 := hA
  obtain ⟨ea, f, h1, h2, h3, h4, h5⟩ := hA
  refine gMet.of (by decide) (Nat.le_of_ble_eq_true rfl) (fun K C N hG hn hin => ?_)
  subst hG
  have kn_ : ∀ j : Nat, j < 2 → j < kn K := fun j hj => by rw [hn]; exact hj
  refine E.iload_n C dJ2_get_0 rfl ?_
  refine E.aload_n C dJ2_get_1 rfl ?_
  refine E.getf C dJ2_get_2 h1 rfl 2 q447 (by decide) rfl rfl ?_
  refine E.callS C (m_J23_checkIndex n i hi (by omega)) dJ2_get_5 q1257 q1258 q82 q1259 mh_J23_checkIndex (by decide) (by decide) rfl (Nat.le_of_ble_eq_true rfl) (by omega) (fun _ _ hx => hx.elim) ?_
  rintro v u ⟨rfl, rfl⟩
  refine E.pop C dJ2_get_8 (by first | rfl | assumption) ?_
  refine E.aload_n C dJ2_get_9 rfl ?_
  refine E.iload_n C dJ2_get_10 rfl ?_
  refine E.callV C (m_J2_elementData i hi hA9) dJ2_get_11 q1261 q1262 q1263 q57 q1264 mh_J2_elementData (by decide) (by decide) (gRv.of (ci := 5) (by assumption) (by decide)) rfl (Nat.le_of_ble_eq_true rfl) (by omega) (fun _ _ hx => hx.elim) ?_
  rintro v u ⟨rfl, rfl⟩
  refine E.endA C N dJ2_get_14 (by omega) ?_
  exact ⟨rfl, rfl⟩
theorem m_J2_add_2 {ea e : Nat} {f : Nat → Option Nat} {Cn : String} (ht : t ≠ 0) (h1 : h a = some (t, .inr (5, [.int mcn, .ref ea, .int (nI n)]))) (h2 : h ea = some (t, .inl (gci G 6, cap, .inr (.inr (.inr (.inr f)))))) (hn9 : n < cap) (hc9 : cap < 2 ^ 30) (hv : gRv h e Cn) (hca : Cond.castable Cn "java/lang/Object" ∈ gNw) :
    gMet 1 yJ2_add_2 cJ2_add_2 4 none G h [.ref a, .ref e, .ref ea, .int (nI n)] (fun v u => v = none ∧ u = gu (gu h ea (t, .inl (gci G 6, cap, .inr (.inr (.inr (.inr (va_up f n (some e)))))))) a (t, .inr (5, [.int mcn, .ref ea, .int (nI (n + 1))]))) gNo 0 := by
  have hne : a ≠ ea := ne_of_some h1 h2 (fun z => by cases z)
  refine gMet.of (by decide) (Nat.le_of_ble_eq_true rfl) (fun K C N hG hn hin => ?_)
  subst hG
  have kn_ : ∀ j : Nat, j < 4 → j < kn K := fun j hj => by rw [hn]; exact hj
  refine E.iload_n C dJ2_add_2_0 rfl ?_
  refine E.aload_n C dJ2_add_2_1 rfl ?_
  refine E.alen C dJ2_add_2_2 h2 (ti := 6) rfl rfl ?_
  refine E.icmp_ne C dJ2_add_2_3 (tgt := 11) (by decide) (fun c => ?_) (fun c => ?_)
  · refine E.aload_n C dJ2_add_2_11 rfl ?_
    refine E.iload_n C dJ2_add_2_12 rfl ?_
    refine E.aload_n C dJ2_add_2_13 rfl ?_
    refine E.aast C dJ2_add_2_14 h2 ht hv hca (vp_in_nI hn9 (by omega)) ?_
    rw [nI_clamp (by omega)]
    have h1' : (gu h ea (t, .inl (gci (kG K) 6, cap, .inr (.inr (.inr (.inr (va_up f n (some e)))))))) a = some (t, .inr (5, [.int mcn, .ref ea, .int (nI n)])) := by rw [gu_n hne]; exact h1
    refine E.aload_n C dJ2_add_2_15 rfl ?_
    refine E.iload_n C dJ2_add_2_16 rfl ?_
    refine E.iconst C dJ2_add_2_17 (v := 1) (by decide) ?_
    refine E.iadd C dJ2_add_2_18 ?_
    refine E.put C dJ2_add_2_19 h1' (by first | decide | assumption) rfl 2 q447 (by decide) rfl rfl (by first | rfl | exact nar_rf _ _ | assumption) (by first | rfl | exact fit_rf _ _ | assumption) (Nat.le_of_ble_eq_true rfl) ?_
    refine E.endV C N dJ2_add_2_22 (by omega) ?_
    refine ⟨rfl, ?_⟩
    rw [nI_succ]
    rfl
  · exact absurd c (fun e9 => by have := (nI_eq (by omega) (by omega)).mp e9; omega)
theorem m_J2_add {e : Nat} {Cn : String} (ht : t ≠ 0) (hA : AL G h t a cap n p mcn) (hn9 : n < cap) (hv : gRv h e Cn) (hca : Cond.castable Cn "java/lang/Object" ∈ gNw) :
    gMet 2 yJ2_add cJ2_add 2 (some .boolean) G h [.ref a, .ref e] (fun v u => v = some (.int 1) ∧ AL G u t a cap (n + 1) (va_up p n e) (mcn + 1) ∧ gfr t h u ∧ (∀ q, h q = none → u q = none)) gNo 0 := by
  obtain ⟨ea, f, h1, h2, h3, h4, h5⟩ := hA
  have hne : a ≠ ea := ne_of_some h1 h2 (fun z => by cases z)
  refine gMet.of (by decide) (Nat.le_of_ble_eq_true rfl) (fun K C N hG hn hin => ?_)
  subst hG
  have kn_ : ∀ j : Nat, j < 2 → j < kn K := fun j hj => by rw [hn]; exact hj
  refine E.aload_n C dJ2_add_0 rfl ?_
  refine E.dup C dJ2_add_1 (by first | rfl | assumption) ?_
  refine E.getfU C dJ2_add_2 h1 rfl 0 q451 q450 (by decide) rfl ?_
  refine E.iconst C dJ2_add_5 (v := 1) (by decide) ?_
  refine E.iadd C dJ2_add_6 ?_
  refine E.putU C dJ2_add_7 h1 (by first | decide | assumption) rfl 0 q451 q450 (by decide) rfl (by first | rfl | exact nar_rf _ _ | assumption) (by first | rfl | exact fit_rf _ _ | assumption) (Nat.le_of_ble_eq_true rfl) ?_
  refine E.aload_n C dJ2_add_10 rfl ?_
  refine E.aload_n C dJ2_add_11 rfl ?_
  refine E.aload_n C dJ2_add_12 rfl ?_
  refine E.getf C dJ2_add_13 gu_s rfl 1 q444 (by decide) rfl rfl ?_
  refine E.aload_n C dJ2_add_16 rfl ?_
  refine E.getf C dJ2_add_17 gu_s rfl 2 q447 (by decide) rfl rfl ?_
  have hv' : gRv (gu h a (t, .inr (5, [.int (mcn + 1), .ref ea, .int (nI n)]))) e Cn := by
    obtain ⟨t9, ci, fs, q1, q2, q3⟩ := hv
    by_cases c : e = a
    · subst c
      rw [h1] at q1
      cases q1
      exact ⟨_, _, _, gu_s, q2, q3⟩
    · exact ⟨t9, ci, fs, by rw [gu_n c]; exact q1, q2, q3⟩
  refine E.callV C (m_J2_add_2 ht gu_s (by rw [gu_n hne.symm]; exact h2) hn9 h5 hv' hca) dJ2_add_20 q1351 q1353 qs14 q57 q1354 mh_J2_add_2 (by decide) (by decide) (gRv.of gu_s (by decide)) rfl (Nat.le_of_ble_eq_true rfl) (by omega) (fun _ _ hx => hx.elim) ?_
  rintro v u ⟨rfl, rfl⟩
  refine E.iconst C dJ2_add_23 (v := 1) (by decide) ?_
  refine E.endZ C N dJ2_add_24 (by first | rfl | assumption) (by omega) ?_
  refine ⟨rfl, ⟨ea, va_up f n (some e), gu_s, by rw [gu_n hne.symm, gu_s], ?_, by omega, h5⟩, ?_, ?_⟩
  · intro i hi
    by_cases c : i = n
    · subst c; simp [va_up]
    · simp only [va_up, if_neg c]; exact h3 i (by omega)
  · exact (gfr.up h1 rfl).tr ((gfr.up ((gu_n hne.symm).trans h2) rfl).tr (gfr.up ((gu_n hne).trans gu_s) rfl))
  · intro q hq
    have n1 : q ≠ a := fun z => by rw [z, h1] at hq; cases hq
    have n2 : q ≠ ea := fun z => by rw [z, h2] at hq; cases hq
    rw [gu_n n1, gu_n n2, gu_n n1]; exact hq
theorem m_J0_init {t9 : Nat} {fs : List Value} : gMet 1 yJ0_init cJ0_init 1 none G h [.ref a] (fun v u => v = none ∧ u = h) gNo 0 := by
  refine gMet.of (by decide) (Nat.le_of_ble_eq_true rfl) (fun K C N hG hn hin => ?_)
  subst hG
  have kn_ : ∀ j : Nat, j < 1 → j < kn K := fun j hj => by rw [hn]; exact hj
  refine E.aload_n C dJ0_init_0 rfl ?_
  refine E.objInit C q121 q108 q109 dJ0_init_1 (by decide) (Nat.le_of_ble_eq_true rfl) ?_
  refine E.endV C N dJ0_init_4 (by omega) ?_
  exact ⟨rfl, rfl⟩
theorem m_J1_init (ht : t ≠ 0) (h1 : h a = some (t, .inr (5, [.int 0, .null, .int 0]))) : gMet 2 yJ1_init cJ1_init 1 none G h [.ref a] (fun v u => v = none ∧ u = h) gNo 0 := by
  refine gMet.of (by decide) (Nat.le_of_ble_eq_true rfl) (fun K C N hG hn hin => ?_)
  subst hG
  have kn_ : ∀ j : Nat, j < 1 → j < kn K := fun j hj => by rw [hn]; exact hj
  refine E.aload_n C dJ1_init_0 rfl ?_
  refine E.callI C (m_J0_init (t9 := 0) (fs := [])) dJ1_init_1 q118 q119 q55 q120 mh_J0_init rfl (by decide) (by decide) rfl (Nat.le_of_ble_eq_true rfl) (by omega) (fun _ _ hx => hx.elim) ?_
  rintro v u ⟨rfl, rfl⟩
  refine E.aload_n C dJ1_init_4 rfl ?_
  refine E.iconst C dJ1_init_5 (v := 0) (by decide) ?_
  refine E.put C dJ1_init_6 h1 (by first | decide | assumption) rfl 0 q448 (by decide) rfl rfl (by first | rfl | exact nar_rf _ _ | assumption) (by first | rfl | exact fit_rf _ _ | assumption) (Nat.le_of_ble_eq_true rfl) ?_
  refine E.endV C N dJ1_init_9 (by omega) ?_
  exact ⟨rfl, gu_self h1⟩
/-- ArrayList(room) -/
theorem m_J2_init (w : Nat) (ht : t ≠ 0) (h0 : 0 < cap) (hc : cap ≤ 8 * w) (hc2 : cap < 2 ^ 20) (h1 : h a = some (t, .inr (5, [.int 0, .null, .int 0]))) : gMet 3 yJ2_init cJ2_init 2 none G h [.ref a, .int (nI cap)] (fun v u => v = none ∧ AL G u t a cap 0 (fun _ => 0) 0 ∧ gfr t h u) gNo w := by
  refine gMet.of (by decide) (Nat.le_of_ble_eq_true rfl) (fun K C N hG hn hin => ?_)
  subst hG
  have kn_ : ∀ j : Nat, j < 2 → j < kn K := fun j hj => by rw [hn]; exact hj
  refine E.aload_n C dJ2_init_0 rfl ?_
  refine E.callI C (m_J1_init ht h1) dJ2_init_1 q115 q116 q56 q117 mh_J1_init rfl (by decide) (by decide) rfl (Nat.le_of_ble_eq_true rfl) (by omega) (fun _ _ hx => hx.elim) ?_
  rintro v u ⟨rfl, rfl⟩
  refine E.iload_n C dJ2_init_4 rfl ?_
  refine E.if_le C dJ2_init_5 (tgt := 19) (by decide) (fun c => ?_) (fun c => ?_)
  · exact absurd c (nI_nle h0 (by omega))
  · refine E.aload_n C dJ2_init_8 rfl ?_
    refine E.iload_n C dJ2_init_9 rfl ?_
    refine E.newq C t w q122 C.tb.2.2.2.2.2.1 dJ2_init_10 (nI_pos (by omega)) (nI_clamp (by omega)) (by omega) (by omega) hc (by omega) ?_
    intro ea he hz
    have hne : a ≠ ea := ne_of_none he h1
    have h1' : (gu u ea (t, .inl (gci (kG K) 6, cap, .inr (.inr (.inr (.inr (fun _ => none))))))) a = some (t, .inr (5, [.int 0, .null, .int 0])) := by rw [gu_n hne]; exact h1
    refine E.put C dJ2_init_13 h1' (by first | decide | assumption) rfl 1 q444 (by decide) rfl rfl (by first | rfl | exact nar_rf _ _ | assumption) (by first | rfl | exact fit_rf _ _ | assumption) (Nat.le_of_ble_eq_true rfl) ?_
    refine E.goto C dJ2_init_16 (tgt := 60) (by decide) ?_
    refine E.endV C N dJ2_init_60 (by omega) ?_
    refine ⟨rfl, ⟨ea, _, gu_s, by rw [gu_n hne.symm, gu_s], fun i hi => absurd hi (Nat.not_lt_zero i), by omega, by omega⟩, (gfr.le (gle.up he)).tr (gfr.up h1' rfl)⟩
/-- ArrayList.iterator -/
theorem m_J33_init {it ti : Nat} (hti : ti ≠ 0) (hA : AL G h t a cap n p mcn) (h1 : h it = some (ti, .inr (6, [.int 0, .int 0, .int 0, .null]))) : gMet 1 yJ33_init cJ33_init 2 none G h [.ref it, .ref a] (fun v u => v = none ∧ u = gu h it (ti, gitr a 0 (-1) mcn)) gNo 0 := by
  obtain ⟨ea, f, a1, a2, a3⟩ := hA
  have hne : a ≠ it := ne_of_some a1 h1 (fun z => by cases z)
  refine gMet.of (by decide) (Nat.le_of_ble_eq_true rfl) (fun K C N hG hn hin => ?_)
  subst hG
  have kn_ : ∀ j : Nat, j < 2 → j < kn K := fun j hj => by rw [hn]; exact hj
  refine E.aload_n C dJ33_init_0 rfl ?_
  refine E.aload_n C dJ33_init_1 rfl ?_
  refine E.putF C dJ33_init_2 h1 (by first | decide | assumption) rfl 3 q948 hin (by decide) rfl rfl rfl (by first | rfl | exact nar_rf _ _ | assumption) (by first | rfl | exact fit_rf _ _ | assumption) (Nat.le_of_ble_eq_true rfl) ?_
  refine E.aload_n C dJ33_init_5 rfl ?_
  refine E.objInit C q944 q108 q109 dJ33_init_6 (by decide) (Nat.le_of_ble_eq_true rfl) ?_
  refine E.aload_n C dJ33_init_9 rfl ?_
  refine E.iconst C dJ33_init_10 (v := -1) (by decide) ?_
  refine E.put C dJ33_init_11 gu_s (by first | decide | assumption) rfl 1 q946 (by decide) rfl rfl (by first | rfl | exact nar_rf _ _ | assumption) (by first | rfl | exact fit_rf _ _ | assumption) (Nat.le_of_ble_eq_true rfl) ?_
  refine E.aload_n C dJ33_init_14 rfl ?_
  refine E.aload_n C dJ33_init_15 rfl ?_
  refine E.getf C dJ33_init_16 gu_s rfl 3 q948 (by decide) rfl rfl ?_
  refine E.getfU C dJ33_init_19 ((gu_n hne).trans ((gu_n hne).trans a1)) rfl 0 q449 q450 (by decide) rfl ?_
  refine E.put C dJ33_init_22 gu_s (by first | decide | assumption) rfl 2 q947 (by decide) rfl rfl (by first | rfl | exact nar_rf _ _ | assumption) (by first | rfl | exact fit_rf _ _ | assumption) (Nat.le_of_ble_eq_true rfl) ?_
  refine E.endV C N dJ33_init_25 (by omega) ?_
  refine ⟨rfl, ?_⟩
  rw [gu_uu, gu_uu]
  rfl
theorem m_J2_iterator (ti : Nat) (hti : ti ≠ 0) (hA : AL G h t a cap n p mcn) : gMet 2 yJ2_iterator cJ2_iterator 1 (some (.object "java/util/Iterator")) G h [.ref a] (fun v u => ∃ it, v = some (.ref it) ∧ h it = none ∧ u = gu h it (ti, gitr a 0 (-1) mcn)) gNo 1 := by
  refine gMet.of (by decide) (Nat.le_of_ble_eq_true rfl) (fun K C N hG hn hin => ?_)
  subst hG
  have kn_ : ∀ j : Nat, j < 1 → j < kn K := fun j hj => by rw [hn]; exact hj
  refine E.new C (w := 1) ti dJ2_iterator_0 (ci := 6) rfl q939 q940 q94 rfl (by decide) (by decide) (by omega) ?_
  intro it hit hz
  refine E.dup C dJ2_iterator_3 (by first | rfl | assumption) ?_
  refine E.aload_n C dJ2_iterator_4 rfl ?_
  refine E.callI C (m_J33_init hti (hA.mono (gle.up hit)) gu_s) dJ2_iterator_5 q941 q942 q94 q943 mh_J33_init rfl (by decide) (by decide) rfl (Nat.le_of_ble_eq_true rfl) (by omega) (fun _ _ hx => hx.elim) ?_
  rintro v u ⟨rfl, rfl⟩
  refine E.endA C N dJ2_iterator_8 (by omega) ?_
  exact ⟨it, rfl, hit, gu_uu⟩
theorem m_J33_checkForComodification {it ti : Nat} {i lr : Int32} (hA : AL G h t a cap n p mcn) (h1 : h it = some (ti, gitr a i lr mcn)) : gMet 1 yJ33_checkForComodification cJ33_checkForComodification 1 none G h [.ref it] (fun v u => v = none ∧ u = h) gNo 0 := by
  obtain ⟨ea, f, a1, a2, a3⟩ := hA
  refine gMet.of (by decide) (Nat.le_of_ble_eq_true rfl) (fun K C N hG hn hin => ?_)
  subst hG
  have kn_ : ∀ j : Nat, j < 1 → j < kn K := fun j hj => by rw [hn]; exact hj
  refine E.aload_n C dJ33_checkForComodification_0 rfl ?_
  refine E.getf C dJ33_checkForComodification_1 h1 rfl 3 q948 (by decide) rfl rfl ?_
  refine E.getfU C dJ33_checkForComodification_4 a1 rfl 0 q449 q450 (by decide) rfl ?_
  refine E.aload_n C dJ33_checkForComodification_7 rfl ?_
  refine E.getf C dJ33_checkForComodification_8 h1 rfl 2 q947 (by decide) rfl rfl ?_
  refine E.icmp_eq C dJ33_checkForComodification_11 (tgt := 22) (by decide) (fun c => ?_) (fun c => ?_)
  · refine E.endV C N dJ33_checkForComodification_22 (by omega) ?_
    exact ⟨rfl, rfl⟩
  · exact absurd rfl c
theorem m_J33_hasNext {it ti i : Nat} {lr : Int32} (hi : i ≤ n) (hA : AL G h t a cap n p mcn) (h1 : h it = some (ti, gitr a (nI i) lr mcn)) : gMet 1 yJ33_hasNext cJ33_hasNext 1 (some .boolean) G h [.ref it] (fun v u => v = some (.int (if i < n then 1 else 0)) ∧ u = h) gNo 0 := by
  obtain ⟨ea, f, a1, a2, a3, a4, a5⟩ := hA
  refine gMet.of (by decide) (Nat.le_of_ble_eq_true rfl) (fun K C N hG hn hin => ?_)
  subst hG
  have kn_ : ∀ j : Nat, j < 1 → j < kn K := fun j hj => by rw [hn]; exact hj
  refine E.aload_n C dJ33_hasNext_0 rfl ?_
  refine E.getf C dJ33_hasNext_1 h1 rfl 0 q945 (by decide) rfl rfl ?_
  refine E.aload_n C dJ33_hasNext_4 rfl ?_
  refine E.getf C dJ33_hasNext_5 h1 rfl 3 q948 (by decide) rfl rfl ?_
  refine E.getfN C dJ33_hasNext_8 a1 rfl 2 nq446 (by decide) rfl rfl ?_
  refine E.icmp_eq C dJ33_hasNext_11 (tgt := 18) (by decide) (fun c => ?_) (fun c => ?_)
  · refine E.iconst C dJ33_hasNext_18 (v := 0) (by decide) ?_
    refine E.endZ C N dJ33_hasNext_19 (by first | rfl | assumption) (by omega) ?_
    exact ⟨by rw [if_neg (by have := (nI_eq (by omega) (by omega)).mp c; omega)], rfl⟩
  · refine E.iconst C dJ33_hasNext_14 (v := 1) (by decide) ?_
    refine E.goto C dJ33_hasNext_15 (tgt := 19) (by decide) ?_
    refine E.endZ C N dJ33_hasNext_19 (by first | rfl | assumption) (by omega) ?_
    exact ⟨by rw [if_pos (by rcases Nat.lt_or_ge i n with q | q; exact q; exact absurd (by rw [show i = n by omega]) c)], rfl⟩
theorem m_J33_next {it ti i : Nat} {lr : Int32} (hti : ti ≠ 0) (hi : i < n) (hA : AL G h t a cap n p mcn) (h1 : h it = some (ti, gitr a (nI i) lr mcn)) : gMet 2 yJ33_next cJ33_next 3 (some (.object "java/lang/Object")) G h [.ref it] (fun v u => v = some (.ref (p i)) ∧ u = gu h it (ti, gitr a (nI (i + 1)) (nI i) mcn)) gNo 0 := by
  have hA9 := hA
  obtain ⟨ea, f, a1, a2, a3, a4, a5⟩ := hA
  have hne : a ≠ it := ne_of_some a1 h1 (fun z => by cases z)
  have hne2 : ea ≠ it := ne_of_some a2 h1 (fun z => by cases z)
  refine gMet.of (by decide) (Nat.le_of_ble_eq_true rfl) (fun K C N hG hn hin => ?_)
  subst hG
  have kn_ : ∀ j : Nat, j < 3 → j < kn K := fun j hj => by rw [hn]; exact hj
  refine E.aload_n C dJ33_next_0 rfl ?_
  refine E.callV C (m_J33_checkForComodification hA9 h1) dJ33_next_1 q983 q984 q985 q94 q986 mh_J33_checkForComodification (by decide) (by decide) (gRv.of (ci := 6) (by assumption) (by decide)) rfl (Nat.le_of_ble_eq_true rfl) (by omega) (fun _ _ hx => hx.elim) ?_
  rintro v u ⟨rfl, rfl⟩
  refine E.aload_n C dJ33_next_4 rfl ?_
  refine E.getf C dJ33_next_5 h1 rfl 0 q945 (by decide) rfl rfl ?_
  refine E.istore_n C dJ33_next_8 (kn_ _ (by decide)) ?_
  refine E.iload_n C dJ33_next_9 rfl ?_
  refine E.aload_n C dJ33_next_10 rfl ?_
  refine E.getf C dJ33_next_11 h1 rfl 3 q948 (by decide) rfl rfl ?_
  refine E.getfN C dJ33_next_14 a1 rfl 2 nq446 (by decide) rfl rfl ?_
  refine E.icmp_lt C dJ33_next_17 (tgt := 28) (by decide) (fun c => ?_) (fun c => ?_)
  · refine E.aload_n C dJ33_next_28 rfl ?_
    refine E.getf C dJ33_next_29 h1 rfl 3 q948 (by decide) rfl rfl ?_
    refine E.getf C dJ33_next_32 a1 rfl 1 q445 (by decide) rfl rfl ?_
    refine E.astore_n C dJ33_next_35 (kn_ _ (by decide)) ?_
    refine E.iload_n C dJ33_next_36 rfl ?_
    refine E.aload_n C dJ33_next_37 rfl ?_
    refine E.alen C dJ33_next_38 a2 (ti := 6) rfl rfl ?_
    refine E.icmp_lt C dJ33_next_39 (tgt := 50) (by decide) (fun c2 => ?_) (fun c2 => ?_)
    · refine E.aload_n C dJ33_next_50 rfl ?_
      refine E.iload_n C dJ33_next_51 rfl ?_
      refine E.iconst C dJ33_next_52 (v := 1) (by decide) ?_
      refine E.iadd C dJ33_next_53 ?_
      refine E.put C dJ33_next_54 h1 (by first | decide | assumption) rfl 0 q945 (by decide) rfl rfl (by first | rfl | exact nar_rf _ _ | assumption) (by first | rfl | exact fit_rf _ _ | assumption) (Nat.le_of_ble_eq_true rfl) ?_
      refine E.aload_n C dJ33_next_57 rfl ?_
      refine E.aload_n C dJ33_next_58 rfl ?_
      refine E.iload_n C dJ33_next_59 rfl ?_
      refine E.dup_x1 C dJ33_next_60 (by first | rfl | assumption) (by first | rfl | assumption) ?_
      refine E.put C dJ33_next_61 gu_s (by first | decide | assumption) rfl 1 q946 (by decide) rfl rfl (by first | rfl | exact nar_rf _ _ | assumption) (by first | rfl | exact fit_rf _ _ | assumption) (Nat.le_of_ble_eq_true rfl) ?_
      refine E.aald C dJ33_next_64 ((gu_n hne2).trans ((gu_n hne2).trans a2)) (vp_in_nI (by omega) (by omega)) (by rw [nI_clamp (by omega), a3 i hi]) ?_
      refine E.endA C N dJ33_next_65 (by omega) ?_
      refine ⟨rfl, ?_⟩
      rw [gu_uu, nI_succ]
      rfl
    · exact absurd (nI_lt (by omega) (by omega)) c2
  · exact absurd (nI_lt hi (by omega)) c
/-- the first place of a cell, or -1 -/
def gidx (p : Nat → Nat) (o n i : Nat) : Nat → Int32
  | 0 => -1
  | k + 1 => if o = p i then nI i else gidx p o n (i + 1) k
theorem m_J2_indexOfRange {o : Nat} {Cn : String} (hrv : ∀ u, gle h u → gRv u o Cn) (hA : AL G h t a cap n p mcn) (ho : Cn = RX4) : gMet 2 yJ2_indexOfRange cJ2_indexOfRange 6 (some .int) G h [.ref a, .ref o, .int 0, .int (nI n)] (fun v u => v = some (.int (gidx p o n 0 n)) ∧ u = h) gNo 0 := by
  subst ho
  obtain ⟨ea, f, a1, a2, a3, a4, a5⟩ := hA
  refine gMet.of (by decide) (Nat.le_of_ble_eq_true rfl) (fun K C N hG hn hin => ?_)
  subst hG
  have kn_ : ∀ j : Nat, j < 6 → j < kn K := fun j hj => by rw [hn]; exact hj
  refine E.aload_n C dJ2_indexOfRange_0 rfl ?_
  refine E.getf C dJ2_indexOfRange_1 a1 rfl 1 q444 (by decide) rfl rfl ?_
  refine E.astore C dJ2_indexOfRange_4 (kn_ _ (by decide)) ?_
  refine E.aload_n C dJ2_indexOfRange_6 rfl ?_
  refine E.ifnonnull1 C dJ2_indexOfRange_7 (tgt := 39) (by decide) ?_
  refine E.iload_n C dJ2_indexOfRange_39 rfl ?_
  refine E.istore C dJ2_indexOfRange_40 (kn_ _ (by decide)) ?_
  have lp : ∀ (k i : Nat), i + k = n → E K 42 [(0, .ref a), (1, .ref o), (2, .int 0), (3, .int (nI n)), (4, .ref ea), (5, .int (nI i))] [] h 0 → True := fun _ _ _ _ => trivial
  have lp : ∀ (k i : Nat), i + k = n → gidx p o n i k = gidx p o n 0 n → E K 42 [(0, .ref a), (1, .ref o), (2, .int 0), (3, .int (nI n)), (4, .ref ea), (5, .int (nI i))] [] h 0 := by
    intro k
    induction k with
    | zero =>
      intro i hi hx
      refine E.iload C dJ2_indexOfRange_42 rfl ?_
      refine E.iload_n C dJ2_indexOfRange_44 rfl ?_
      refine E.icmp_ge C dJ2_indexOfRange_45 (tgt := 69) (by decide) (fun c => ?_) (fun c => ?_)
      · refine E.iconst C dJ2_indexOfRange_69 (v := -1) (by decide) ?_
        refine E.endI C N dJ2_indexOfRange_70 (by omega) ?_
        exact ⟨by rw [← hx]; rfl, rfl⟩
      · exact absurd (nI_le (by omega) (by omega)) c
    | succ k ih =>
      intro i hi hx
      refine E.iload C dJ2_indexOfRange_42 rfl ?_
      refine E.iload_n C dJ2_indexOfRange_44 rfl ?_
      refine E.icmp_ge C dJ2_indexOfRange_45 (tgt := 69) (by decide) (fun c => ?_) (fun c => ?_)
      · exact absurd c (nI_ge (by omega) (by omega))
      · refine E.aload_n C dJ2_indexOfRange_48 rfl ?_
        refine E.aload C dJ2_indexOfRange_49 rfl ?_
        refine E.iload C dJ2_indexOfRange_51 rfl ?_
        refine E.aald C dJ2_indexOfRange_53 a2 (vp_in_nI (by omega) (by omega)) (by rw [nI_clamp (by omega), a3 i (by omega)]) ?_
        refine E.callU C (Cn := RX4) (owner := "java/lang/Object") (m_J40_equals (kG K) h o (p i)) dJ2_indexOfRange_54 q1213 q1215 q1219 q1214 q2427 q1240 (C.decl q1214 q1240) ⟨by decide, by decide⟩ mh_J40_equals (by decide) (by decide) (hrv _ gle.rf) rfl (Nat.le_of_ble_eq_true rfl) (by omega) (fun _ _ hx => hx.elim) ?_
        rintro v u ⟨rfl, rfl⟩
        refine E.if_eq C dJ2_indexOfRange_57 (tgt := 63) (by decide) (fun c2 => ?_) (fun c2 => ?_)
        · have hne : ¬ o = p i := fun e => by rw [if_pos e] at c2; exact absurd c2 (by decide)
          first | refine E.iincN C dJ2_indexOfRange_63 rfl (kn_ _ (by decide)) ?_ | refine E.iinc C dJ2_indexOfRange_63 rfl (v := 1) (by decide) (kn_ _ (by decide)) ?_
          refine E.goto C dJ2_indexOfRange_66 (tgt := 42) (by decide) ?_
          rw [show gidx p o n i (k + 1) = gidx p o n (i + 1) k from if_neg hne] at hx
          exact ih (i + 1) (by omega) hx
        · have he : o = p i := Classical.byContradiction fun e => c2 (by rw [if_neg e])
          refine E.iload C dJ2_indexOfRange_60 rfl ?_
          refine E.endI C N dJ2_indexOfRange_62 (by omega) ?_
          exact ⟨by rw [← hx, gidx, if_pos he], rfl⟩
  exact lp n 0 (by omega) rfl
theorem m_J2_indexOf {o : Nat} (hrv : ∀ u, gle h u → gRv u o RX4) (hA : AL G h t a cap n p mcn) : gMet 3 yJ2_indexOf cJ2_indexOf 2 (some .int) G h [.ref a, .ref o] (fun v u => v = some (.int (gidx p o n 0 n)) ∧ u = h) gNo 0 := by
  have hA9 := hA
  obtain ⟨ea, f, a1, a2, a3, a4, a5⟩ := hA
  refine gMet.of (by decide) (Nat.le_of_ble_eq_true rfl) (fun K C N hG hn hin => ?_)
  subst hG
  have kn_ : ∀ j : Nat, j < 2 → j < kn K := fun j hj => by rw [hn]; exact hj
  refine E.aload_n C dJ2_indexOf_0 rfl ?_
  refine E.aload_n C dJ2_indexOf_1 rfl ?_
  refine E.iconst C dJ2_indexOf_2 (v := 0) (by decide) ?_
  refine E.aload_n C dJ2_indexOf_3 rfl ?_
  refine E.getf C dJ2_indexOf_4 a1 rfl 2 q447 (by decide) rfl rfl ?_
  refine E.callV C (m_J2_indexOfRange hrv hA9 rfl) dJ2_indexOf_7 q1208 q1209 q1210 q57 q1211 mh_J2_indexOfRange (by decide) (by decide) (gRv.of (ci := 5) (by assumption) (by decide)) rfl (Nat.le_of_ble_eq_true rfl) (by omega) (fun _ _ hx => hx.elim) ?_
  rintro v u ⟨rfl, rfl⟩
  refine E.endI C N dJ2_indexOf_10 (by omega) ?_
  exact ⟨rfl, rfl⟩
end LISTS
