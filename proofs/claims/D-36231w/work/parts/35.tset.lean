/-! JDK: TreeSet -/
set_option maxRecDepth 100000
theorem mhu_put : gNoMH (xPut "java/util/NavigableMap") 2 := by decide +kernel
theorem mhu_has : gNoMH (xHas "java/util/NavigableMap") 1 := by decide +kernel
theorem mhu_siz : gNoMH (xSiz "java/util/NavigableMap") 0 := by decide +kernel
/-- a TreeSet at s (tag ts) over the map m (tag t) -/
def gS (h : gH) (ts t s : Nat) (m : Nat) (Θ : gT) (n : Nat) (f : Nat → Int32) (md : Int32) : Prop := h s = some (ts, .inr (9, [.ref m])) ∧ ∃ vf, gM h t m Θ n f vf md
theorem gM.keep {h u : gH} {t a n : Nat} {Θ : gT} {f : Nat → Int32} {vf : Int32 → Nat} {md : Int32} (M : gM h t a Θ n f vf md) : h a ≠ none := by
  obtain ⟨⟨root, gk, lq, hq, lo, hi, ⟨⟨nks, h1, -⟩, -⟩, -⟩, -⟩ := M
  rw [h1]; exact fun e => by cases e
section GSET
variable {G : gG} {h : gH} {ts t s m n : Nat} {Θ : gT} {f : Nat → Int32} {md : Int32}
theorem m_sinit2 (ht : ts ≠ 0) (h1 : h s = some (ts, .inr (9, [.null]))) : gMet 3 yJ29_init_2 cJ29_init_2 2 none G h [.ref s, .ref m] (fun v u => v = none ∧ u = gu h s (ts, .inr (9, [.ref m]))) gNo 0 := by
  refine gMet.of (by decide) (Nat.le_of_ble_eq_true rfl) (fun K C N hG hn hin => ?_)
  subst hG
  have kn_ : ∀ j : Nat, j < 2 → j < kn K := fun j hj => by rw [hn]; exact hj
  refine E.aload_n C dJ29_init_2_0 rfl ?_
  refine E.callI C (m_J28_init h1) dJ29_init_2_1 q1600 q1045 q88 q1046 mh_J28_init rfl (by decide) (by decide) rfl (Nat.le_of_ble_eq_true rfl) (by omega) (fun _ _ hx => hx.elim) ?_
  rintro v u ⟨rfl, rfl⟩
  refine E.aload_n C dJ29_init_2_4 rfl ?_
  refine E.aload_n C dJ29_init_2_5 rfl ?_
  refine E.put C dJ29_init_2_6 h1 (by first | decide | assumption) rfl 0 q1601 (by decide) rfl rfl (by first | rfl | exact nar_rf _ _ | assumption) (by first | rfl | exact fit_rf _ _ | assumption) (Nat.le_of_ble_eq_true rfl) ?_
  refine E.endV C N dJ29_init_2_9 (by omega) ?_
  exact ⟨rfl, rfl⟩
theorem m_sinit (hts : ts ≠ 0) (ht : t ≠ 0) (h1 : h s = some (ts, .inr (9, [.null]))) : gMet 4 yJ29_init cJ29_init 1 none G h [.ref s] (fun v u => v = none ∧ (∀ q x, h q = some x → q ≠ s → u q = some x) ∧ (∃ m Θ, gS u ts t s m Θ 0 (fun _ => 0) 0)) gNo 2 := by
  refine gMet.of (by decide) (Nat.le_of_ble_eq_true rfl) (fun K C N hG hn hin => ?_)
  subst hG
  have kn_ : ∀ j : Nat, j < 1 → j < kn K := fun j hj => by rw [hn]; exact hj
  refine E.aload_n C dJ29_init_0 rfl ?_
  refine E.new C (w := 2) t dJ29_init_1 (ci := 7) rfl q1595 q460 q75 rfl (by decide) (by decide) (by omega) ?_
  intro m hm hz
  have hne : s ≠ m := ne_of_none hm h1
  refine E.dup C dJ29_init_4 (by first | rfl | assumption) ?_
  refine E.callI C (m_tinit ht gu_s) dJ29_init_5 q1596 q462 q75 q463 mh_J19_init rfl (by decide) (by decide) rfl (Nat.le_of_ble_eq_true rfl) (by omega) (fun _ _ hx => hx.elim) ?_
  rintro v u ⟨rfl, rfl⟩
  have h1' : (gu h m (t, .inr (7, [.null, .null, .null, .null, .int 0, .int 0, .null, .null, .null]))) s = some (ts, .inr (9, [.null])) := by rw [gu_n hne]; exact h1
  refine E.callI C (m_sinit2 hts h1') dJ29_init_8 q1597 q1598 q89 q1599 mh_J29_init_2 rfl (by decide) (by decide) rfl (Nat.le_of_ble_eq_true rfl) (by omega) (fun _ _ hx => hx.elim) ?_
  rintro v u ⟨rfl, rfl⟩
  refine E.endV C N dJ29_init_11 (by omega) ?_
  refine ⟨rfl, fun q x hq hqs => by rw [gu_n hqs, gu_n (ne_of_none hm hq)]; exact hq, m, (fun _ => False, fun _ => 0, fun _ => 0, fun _ => none, fun _ => none, fun _ => none, fun _ => none, fun _ => 0), gu_s, fun _ => 0, gM.of0 ?_ (fun k w z => by obtain ⟨q, q1, -⟩ := z; exact q1)⟩
  refine ⟨none, fun _ => 0, fun _ => none, fun _ => none, fun _ => 0, fun _ => 0, ⟨⟨none, ?_, fun b z => by cases z⟩, fun q z => z.elim, fun q z => z.elim⟩, TI.void (fun q z => z), fun q z => z.elim⟩
  rw [gu_n hne.symm]; exact gu_s
theorem m_sadd (ht : t ≠ 0) (hst : ts ≠ t) (S : gS h ts t s m Θ n f md) (hnn : n + 1 < 2 ^ 30) {bx : Nat} {k : Int32} (hb : h bx = some (gbox k)) :
    gMet 8 yJ29_add cJ29_add 2 (some .boolean) G h [.ref s, .ref bx] (fun v u => gfr t h u ∧ (((∃ i, i < n ∧ f i = k) ∧ v = some (.int 0) ∧ ∃ Θ', gS u ts t s m Θ' n f md) ∨ (v = some (.int 1) ∧ ∃ Θ' j, j ≤ n ∧ (∀ i, i < j → (f i).toInt < k.toInt) ∧ (∀ i, j ≤ i → i < n → k.toInt < (f i).toInt) ∧ gS u ts t s m Θ' (n + 1) (sIns f j k) (md + 1)))) gNo 1 := by
  obtain ⟨h1, vf, M⟩ := S
  refine gMet.of (by decide) (Nat.le_of_ble_eq_true rfl) (fun K C N hG hn hin => ?_)
  subst hG
  have kn_ : ∀ j : Nat, j < 2 → j < kn K := fun j hj => by rw [hn]; exact hj
  obtain ⟨w, hw⟩ := C.tb.2.2.2.2.1.2.2.2.1
  refine E.aload_n C dJ29_add_0 rfl ?_
  refine E.getf C dJ29_add_1 h1 rfl 0 q1601 (by decide) rfl rfl ?_
  refine E.aload_n C dJ29_add_4 rfl ?_
  refine E.gets C C.sx.2.2.2.2.1 q1625 rfl dJ29_add_5 ?_
  refine E.rv (show va_rf (gst (kG K) 0) = .ref w by rw [hw]; rfl) ?_
  refine E.callFU C (x := xPut "java/util/NavigableMap") (J := "java/util/Map") (Cn := RJ19) (m_gput M ht hnn hb) dJ29_add_8 C.tb.2.2.2.2.1.1 (by decide) q1102 q75 q1104 mhu_put (by decide) (by decide) (TT.rv M.1) rfl (Nat.le_of_ble_eq_true rfl) (by omega) (C.cat (ci := 7) rfl) (fun _ _ hx => hx.elim) ?_
  rintro v u ⟨fr, P⟩
  have h2 := fr _ _ h1 hst
  rcases P with ⟨hi, rfl, Θ', M'⟩ | ⟨rfl, Θ', j, j1, j2, j3, M'⟩
  · refine E.ifnonnull1 C dJ29_add_13 (tgt := 20) (by decide) ?_
    refine E.iconst C dJ29_add_20 (v := 0) (by decide) ?_
    refine E.endZ C N dJ29_add_21 (by first | rfl | assumption) (by omega) ?_
    exact ⟨fr, Or.inl ⟨hi, rfl, Θ', h2, _, M'⟩⟩
  · refine E.ifnonnull0 C dJ29_add_13 ?_
    refine E.iconst C dJ29_add_16 (v := 1) (by decide) ?_
    refine E.goto C dJ29_add_17 (tgt := 21) (by decide) ?_
    refine E.endZ C N dJ29_add_21 (by first | rfl | assumption) (by omega) ?_
    exact ⟨fr, Or.inr ⟨rfl, Θ', j, j1, j2, j3, h2, _, M'⟩⟩
theorem m_scontains (S : gS h ts t s m Θ n f md) {bx : Nat} {k : Int32} (hb : h bx = some (gbox k)) :
    gMet 6 yJ29_contains cJ29_contains 2 (some .boolean) G h [.ref s, .ref bx] (fun v u => u = h ∧ (((∃ i, i < n ∧ f i = k) ∧ v = some (.int 1)) ∨ ((∀ i, i < n → f i ≠ k) ∧ v = some (.int 0)))) gNo 0 := by
  obtain ⟨h1, vf, M⟩ := S
  refine gMet.of (by decide) (Nat.le_of_ble_eq_true rfl) (fun K C N hG hn hin => ?_)
  subst hG
  have kn_ : ∀ j : Nat, j < 2 → j < kn K := fun j hj => by rw [hn]; exact hj
  refine E.aload_n C dJ29_contains_0 rfl ?_
  refine E.getf C dJ29_contains_1 h1 rfl 0 q1601 (by decide) rfl rfl ?_
  refine E.aload_n C dJ29_contains_4 rfl ?_
  refine E.callFU C (x := xHas "java/util/NavigableMap") (J := "java/util/Map") (Cn := RJ19) (m_ghas M hb) dJ29_contains_5 C.tb.2.2.2.2.1.2.1 (by decide) q1287 q75 q1289 mhu_has (by decide) (by decide) (TT.rv M.1) rfl (Nat.le_of_ble_eq_true rfl) (by omega) (C.cat (ci := 7) rfl) (fun _ _ hx => hx.elim) ?_
  rintro v u ⟨rfl, ⟨hi, rfl⟩ | ⟨hi, rfl⟩⟩
  · refine E.endZ C N dJ29_contains_10 (by first | rfl | assumption) (by omega) ?_
    exact ⟨rfl, Or.inl ⟨hi, rfl⟩⟩
  · refine E.endZ C N dJ29_contains_10 (by first | rfl | assumption) (by omega) ?_
    exact ⟨rfl, Or.inr ⟨hi, rfl⟩⟩
theorem m_ssize (S : gS h ts t s m Θ n f md) : gMet 2 yJ29_size cJ29_size 1 (some .int) G h [.ref s] (fun v u => u = h ∧ v = some (.int (nI n))) gNo 0 := by
  obtain ⟨h1, vf, M⟩ := S
  refine gMet.of (by decide) (Nat.le_of_ble_eq_true rfl) (fun K C N hG hn hin => ?_)
  subst hG
  have kn_ : ∀ j : Nat, j < 1 → j < kn K := fun j hj => by rw [hn]; exact hj
  refine E.aload_n C dJ29_size_0 rfl ?_
  refine E.getf C dJ29_size_1 h1 rfl 0 q1601 (by decide) rfl rfl ?_
  refine E.callFU C (x := xSiz "java/util/NavigableMap") (J := "java/util/Map") (Cn := RJ19) (m_tsize M.1) dJ29_size_4 C.tb.2.2.2.2.1.2.2.1 (by decide) q670 q75 q672 mhu_siz (by decide) (by decide) (TT.rv M.1) rfl (Nat.le_of_ble_eq_true rfl) (by omega) (C.cat (ci := 7) rfl) (fun _ _ hx => hx.elim) ?_
  rintro v u ⟨rfl, rfl⟩
  refine E.endI C N dJ29_size_9 (by omega) ?_
  exact ⟨rfl, rfl⟩
theorem m_siterator (ht : t ≠ 0) (hst : ts ≠ t) (S : gS h ts t s m Θ n f md) {ti : Nat} (hti : ti ≠ 0) : gMet 6 yJ29_iterator cJ29_iterator 1 (some (.object "java/util/Iterator")) G h [.ref s] (fun v u => ∃ it r, v = some (.ref it) ∧ gfr t h u ∧ u it = some (ti, kit m r none md) ∧ gS u ts t s m Θ n f md ∧ IP Θ n f r 0) gNo 2 := by
  obtain ⟨h1, vf, M⟩ := S
  refine gMet.of (by decide) (Nat.le_of_ble_eq_true rfl) (fun K C N hG hn hin => ?_)
  subst hG
  have kn_ : ∀ j : Nat, j < 1 → j < kn K := fun j hj => by rw [hn]; exact hj
  refine E.aload_n C dJ29_iterator_0 rfl ?_
  refine E.getf C dJ29_iterator_1 h1 rfl 0 q1601 (by decide) rfl rfl ?_
  refine E.callF C (Cn := RJ19) (m_navigableKeySet M.1 ht) dJ29_iterator_4 nf_J19_NavigableMap_navigableKeySet q1030 q1034 q1036 q75 q1038 mhf_NavigableMap_navigableKeySet (by decide) (by decide) (TT.rv M.1) rfl (Nat.le_of_ble_eq_true rfl) (by omega) (C.cat (ci := 7) rfl) (fun _ _ hx => hx.elim) ?_
  rintro v u ⟨b, rfl, hb, T2, f2⟩
  have M2 : gM u t m Θ n f vf md := ⟨T2, M.2⟩
  refine E.callF C (Cn := RJ34) (m_J34_iterator M2 hti hb) dJ29_iterator_9 nf_J34_NavigableSet_iterator q1053 q1057 q1059 q95 q1061 mhf_NavigableSet_iterator (by decide) (by decide) (gRv.of (ci := 10) hb (by decide)) rfl (Nat.le_of_ble_eq_true rfl) (by omega) (C.cat (ci := 10) rfl) (fun _ _ hx => hx.elim) ?_
  rintro v u3 ⟨it, r, rfl, hit, rfl, P⟩
  refine E.endA C N dJ29_iterator_14 (by omega) ?_
  have k3 : gle u (gu u it (ti, kit m r none md)) := gle.up hit
  exact ⟨it, r, rfl, f2.tr (gle.fr k3), gu_s, ⟨k3 _ _ (f2 _ _ h1 hst), vf, M2.mono k3⟩, P⟩
end GSET
