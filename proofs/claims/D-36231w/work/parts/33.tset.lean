/-! JDK: TreeMap's key iterator, its set of keys: methods -/
set_option maxRecDepth 100000
theorem mh_J36_nextEntry : gNoMH ⟨"java/util/TreeMap$KeyIterator", "nextEntry", "()Ljava/util/TreeMap$Entry;"⟩ 0 := by decide +kernel
section TSET
variable {G : gG} {h : gH} {t a n : Nat} {Θ : gT} {f : Nat → Int32} {vf : Int32 → Nat} {sz md : Int32}
theorem m_J36_init {root : Option Nat} (T : TH h t a Θ root sz md) {it ti : Nat} (hti : ti ≠ 0) (r : Option Nat) (h1 : h it = some (ti, .inr (11, [.null, .null, .int 0, .null]))) : gMet 3 yJ36_init cJ36_init 3 none G h [.ref it, .ref a, va_rf r] (fun v u => v = none ∧ u = gu h it (ti, kit a r none md)) gNo 0 := by
  cases r with
  | none =>
    show gMet 3 yJ36_init cJ36_init 3 none G h [.ref it, .ref a, .null] _ gNo 0
    refine gMet.of (by decide) (Nat.le_of_ble_eq_true rfl) (fun K C N hG hn hin => ?_)
    subst hG
    have kn_ : ∀ j : Nat, j < 3 → j < kn K := fun j hj => by rw [hn]; exact hj
    refine E.aload_n C dJ36_init_0 rfl ?_
    refine E.aload_n C dJ36_init_1 rfl ?_
    refine E.aload_n C dJ36_init_2 rfl ?_
    refine E.callI C (m_J35_init T hti none h1) dJ36_init_3 q1076 q1077 q96 q1078 mh_J35_init rfl (by decide) (by decide) rfl (Nat.le_of_ble_eq_true rfl) (by omega) (fun _ _ hx => hx.elim) ?_
    rintro v u ⟨rfl, rfl⟩
    refine E.endV C N dJ36_init_6 (by omega) ?_
    exact ⟨rfl, rfl⟩
  | some b =>
    show gMet 3 yJ36_init cJ36_init 3 none G h [.ref it, .ref a, .ref b] _ gNo 0
    refine gMet.of (by decide) (Nat.le_of_ble_eq_true rfl) (fun K C N hG hn hin => ?_)
    subst hG
    have kn_ : ∀ j : Nat, j < 3 → j < kn K := fun j hj => by rw [hn]; exact hj
    refine E.aload_n C dJ36_init_0 rfl ?_
    refine E.aload_n C dJ36_init_1 rfl ?_
    refine E.aload_n C dJ36_init_2 rfl ?_
    refine E.callI C (m_J35_init T hti (some b) h1) dJ36_init_3 q1076 q1077 q96 q1078 mh_J35_init rfl (by decide) (by decide) rfl (Nat.le_of_ble_eq_true rfl) (by omega) (fun _ _ hx => hx.elim) ?_
    rintro v u ⟨rfl, rfl⟩
    refine E.endV C N dJ36_init_6 (by omega) ?_
    exact ⟨rfl, rfl⟩
theorem m_keyIterator (M : gM h t a Θ n f vf md) {ti : Nat} (hti : ti ≠ 0) : gMet 4 yJ19_keyIterator cJ19_keyIterator 1 (some (.object "java/util/Iterator")) G h [.ref a] (fun v u => ∃ it r, v = some (.ref it) ∧ h it = none ∧ u = gu h it (ti, kit a r none md) ∧ IP Θ n f r 0) gNo 1 := by
  obtain ⟨⟨root, gk, lq, hq, lo, hi, T, I, g⟩, M2⟩ := id M
  refine gMet.of (by decide) (Nat.le_of_ble_eq_true rfl) (fun K C N hG hn hin => ?_)
  subst hG
  have kn_ : ∀ j : Nat, j < 1 → j < kn K := fun j hj => by rw [hn]; exact hj
  refine E.new C (w := 1) ti dJ19_keyIterator_0 (ci := 11) rfl q1067 q1068 q97 rfl (by decide) (by decide) (by omega) ?_
  intro it hit hz
  have T1 := T.mono (gle.up hit (x := (ti, .inr (11, [.null, .null, .int 0, .null]))))
  refine E.dup C dJ19_keyIterator_3 (by first | rfl | assumption) ?_
  refine E.aload_n C dJ19_keyIterator_4 rfl ?_
  refine E.aload_n C dJ19_keyIterator_5 rfl ?_
  refine E.callV C (m_getFirstEntry T1 I g.B) dJ19_keyIterator_6 q1069 q1070 q1071 q75 q1072 mh_J19_getFirstEntry (by decide) (by decide) (TH.rv T1) rfl (Nat.le_of_ble_eq_true rfl) (by omega) (fun _ _ hx => hx.elim) ?_
  rintro v u ⟨rfl, r, rfl, r1, r2⟩
  refine E.callI C (m_J36_init T1 hti r gu_s) dJ19_keyIterator_9 q1073 q1074 q97 q1075 mh_J36_init rfl (by decide) (by decide) rfl (Nat.le_of_ble_eq_true rfl) (by omega) (fun _ _ hx => hx.elim) ?_
  rintro v u ⟨rfl, rfl⟩
  refine E.endA C N dJ19_keyIterator_12 (by omega) ?_
  exact ⟨it, r, rfl, hit, gu_uu, IP.first M g r1 r2⟩
theorem m_J35_hasNext {it ti : Nat} {r x : Option Nat} (h1 : h it = some (ti, kit a r x md)) : gMet 1 yJ35_hasNext cJ35_hasNext 1 (some .boolean) G h [.ref it] (fun v u => u = h ∧ v = some (.int (if r = none then 0 else 1))) gNo 0 := by
  refine gMet.of (by decide) (Nat.le_of_ble_eq_true rfl) (fun K C N hG hn hin => ?_)
  subst hG
  have kn_ : ∀ j : Nat, j < 1 → j < kn K := fun j hj => by rw [hn]; exact hj
  refine E.aload_n C dJ35_hasNext_0 rfl ?_
  refine E.getf C dJ35_hasNext_1 h1 rfl 0 q1080 (by decide) rfl rfl ?_
  refine E.ifnull (r := r) C dJ35_hasNext_4 (tgt := 11) (by decide) (fun c => ?_) (fun q c => ?_)
  · refine E.iconst C dJ35_hasNext_11 (v := 0) (by decide) ?_
    refine E.endZ C N dJ35_hasNext_12 (by first | rfl | assumption) (by omega) ?_
    exact ⟨rfl, by rw [c]; rfl⟩
  · refine E.iconst C dJ35_hasNext_7 (v := 1) (by decide) ?_
    refine E.goto C dJ35_hasNext_8 (tgt := 12) (by decide) ?_
    refine E.endZ C N dJ35_hasNext_12 (by first | rfl | assumption) (by omega) ?_
    exact ⟨rfl, by rw [c]; rfl⟩
theorem m_J35_nextEntry (M : gM h t a Θ n f vf md) {it ti i : Nat} (hti : ti ≠ 0) {r x : Option Nat} (h1 : h it = some (ti, kit a r x md)) (P : IP Θ n f r i) (hi : i < n) : gMet 2 yJ35_nextEntry cJ35_nextEntry 2 (some (.object "java/util/TreeMap$Entry")) G h [.ref it] (fun v u => ∃ q r', v = some (.ref q) ∧ tS Θ q ∧ tK Θ q = f i ∧ u = gu h it (ti, kit a r' (some q) md) ∧ IP Θ n f r' (i + 1)) gNo 0 := by
  obtain ⟨⟨root, gk, lq, hq, lo, hi9, T, I, g⟩, M2⟩ := id M
  obtain ⟨q, rfl, sq, kq⟩ := P.1 hi
  obtain ⟨nks, m1, m2⟩ := T.1
  refine gMet.of (by decide) (Nat.le_of_ble_eq_true rfl) (fun K C N hG hn hin => ?_)
  subst hG
  have kn_ : ∀ j : Nat, j < 2 → j < kn K := fun j hj => by rw [hn]; exact hj
  refine E.aload_n C dJ35_nextEntry_0 rfl ?_
  refine E.getf C dJ35_nextEntry_1 h1 rfl 0 q1080 (by decide) rfl rfl ?_
  refine E.astore_n C dJ35_nextEntry_4 (kn_ _ (by decide)) ?_
  refine E.aload_n C dJ35_nextEntry_5 rfl ?_
  refine E.ifnonnull1 C dJ35_nextEntry_6 (tgt := 17) (by decide) ?_
  refine E.aload_n C dJ35_nextEntry_17 rfl ?_
  refine E.getf C dJ35_nextEntry_18 h1 rfl 3 q1083 (by decide) rfl rfl ?_
  refine E.getfN C dJ35_nextEntry_21 m1 rfl 5 nq472 (by decide) rfl rfl ?_
  refine E.aload_n C dJ35_nextEntry_24 rfl ?_
  refine E.getf C dJ35_nextEntry_25 h1 rfl 2 q1082 (by decide) rfl rfl ?_
  refine E.icmp_eq C dJ35_nextEntry_28 (tgt := 39) (by decide) (fun c => ?_) (fun c => ?_)
  · refine E.aload_n C dJ35_nextEntry_39 rfl ?_
    refine E.aload_n C dJ35_nextEntry_40 rfl ?_
    refine E.callS C (m_successor T I g.B sq) dJ35_nextEntry_41 q1021 q1022 q75 q1023 mh_J19_successor (by decide) (by decide) rfl (Nat.le_of_ble_eq_true rfl) (by omega) (fun _ _ hx => hx.elim) ?_
    rintro v u ⟨rfl, r', rfl, nx, -⟩
    refine E.put C dJ35_nextEntry_44 h1 (by first | decide | assumption) rfl 0 q1080 (by decide) rfl rfl (by first | rfl | exact nar_rf _ _ | assumption) (by first | rfl | exact fit_rf _ _ | assumption) (Nat.le_of_ble_eq_true rfl) ?_
    refine E.aload_n C dJ35_nextEntry_47 rfl ?_
    refine E.aload_n C dJ35_nextEntry_48 rfl ?_
    refine E.put C dJ35_nextEntry_49 gu_s (by first | decide | assumption) rfl 1 q1081 (by decide) rfl rfl (by first | rfl | exact nar_rf _ _ | assumption) (by first | rfl | exact fit_rf _ _ | assumption) (Nat.le_of_ble_eq_true rfl) ?_
    refine E.aload_n C dJ35_nextEntry_52 rfl ?_
    refine E.endA C N dJ35_nextEntry_53 (by omega) ?_
    exact ⟨q, r', rfl, sq, kq, gu_uu, IP.nx M g sq hi kq nx⟩
  · exact absurd rfl c
theorem m_J36_next (M : gM h t a Θ n f vf md) {it ti i : Nat} (hti : ti ≠ 0) {r x : Option Nat} (h1 : h it = some (ti, kit a r x md)) (P : IP Θ n f r i) (hi : i < n) : gMet 3 yJ36_next cJ36_next 1 (some (.object "java/lang/Object")) G h [.ref it] (fun v u => ∃ y r' x', v = some (.ref y) ∧ h y = some (gbox (f i)) ∧ u = gu h it (ti, kit a r' x' md) ∧ IP Θ n f r' (i + 1)) gNo 0 := by
  obtain ⟨⟨root, gk, lq, hq, lo, hi9, T, I, g⟩, M2⟩ := id M
  refine gMet.of (by decide) (Nat.le_of_ble_eq_true rfl) (fun K C N hG hn hin => ?_)
  subst hG
  have kn_ : ∀ j : Nat, j < 1 → j < kn K := fun j hj => by rw [hn]; exact hj
  refine E.aload_n C dJ36_next_0 rfl ?_
  refine E.callU C (Cn := RJ36) (owner := "java/util/TreeMap$PrivateEntryIterator") (m_J35_nextEntry M hti h1 P hi) dJ36_next_1 q1013 q1014 q1016 q1017 q96 q1018 (C.decl q1017 q1018) ⟨by decide, by decide⟩ mh_J36_nextEntry (by decide) (by decide) (gRv.of (ci := 11) (by assumption) (by decide)) rfl (Nat.le_of_ble_eq_true rfl) (by omega) (fun _ _ hx => hx.elim) ?_
  rintro v u ⟨q, r', rfl, sq, kq, rfl, P'⟩
  have hqn : q ≠ it := ne_of_some (T.en sq) h1 (fun c => by cases c)
  have hq2 : (gu h it (ti, kit a r' (some q) md)) q = some (t, ent Θ q) := by rw [gu_n hqn]; exact T.en sq
  refine E.getf C dJ36_next_4 hq2 rfl 0 q1124 (by decide) rfl rfl ?_
  refine E.endA C N dJ36_next_7 (by omega) ?_
  exact ⟨tX Θ q, r', some q, rfl, kq ▸ T.bx sq, rfl, P'⟩
theorem m_J28_init {t9 : Nat} {x : va_E} (h1 : h a = some (t9, x)) : gMet 2 yJ28_init cJ28_init 1 none G h [.ref a] (fun v u => v = none ∧ u = h) gNo 0 := by
  refine gMet.of (by decide) (Nat.le_of_ble_eq_true rfl) (fun K C N hG hn hin => ?_)
  subst hG
  have kn_ : ∀ j : Nat, j < 1 → j < kn K := fun j hj => by rw [hn]; exact hj
  refine E.aload_n C dJ28_init_0 rfl ?_
  refine E.callI C (m_J0_init (t9 := 0) (fs := [])) dJ28_init_1 q1047 q119 q55 q120 mh_J0_init rfl (by decide) (by decide) rfl (Nat.le_of_ble_eq_true rfl) (by omega) (fun _ _ hx => hx.elim) ?_
  rintro v u ⟨rfl, rfl⟩
  refine E.endV C N dJ28_init_4 (by omega) ?_
  exact ⟨rfl, rfl⟩
theorem m_J34_init {b m : Nat} (ht : t ≠ 0) (h1 : h b = some (t, .inr (10, [.null]))) : gMet 3 yJ34_init cJ34_init 2 none G h [.ref b, .ref m] (fun v u => v = none ∧ u = gu h b (t, .inr (10, [.ref m]))) gNo 0 := by
  refine gMet.of (by decide) (Nat.le_of_ble_eq_true rfl) (fun K C N hG hn hin => ?_)
  subst hG
  have kn_ : ∀ j : Nat, j < 2 → j < kn K := fun j hj => by rw [hn]; exact hj
  refine E.aload_n C dJ34_init_0 rfl ?_
  refine E.callI C (m_J28_init h1) dJ34_init_1 q1044 q1045 q88 q1046 mh_J28_init rfl (by decide) (by decide) rfl (Nat.le_of_ble_eq_true rfl) (by omega) (fun _ _ hx => hx.elim) ?_
  rintro v u ⟨rfl, rfl⟩
  refine E.aload_n C dJ34_init_4 rfl ?_
  refine E.aload_n C dJ34_init_5 rfl ?_
  refine E.putF C dJ34_init_6 h1 (by first | decide | assumption) rfl 0 q1048 hin (by decide) rfl rfl rfl (by first | rfl | exact nar_rf _ _ | assumption) (by first | rfl | exact fit_rf _ _ | assumption) (Nat.le_of_ble_eq_true rfl) ?_
  refine E.endV C N dJ34_init_9 (by omega) ?_
  exact ⟨rfl, rfl⟩
theorem m_navigableKeySet (T : TT h t a Θ sz md) (ht : t ≠ 0) : gMet 4 yJ19_navigableKeySet cJ19_navigableKeySet 2 (some (.object "java/util/NavigableSet")) G h [.ref a] (fun v u => ∃ b, v = some (.ref b) ∧ u b = some (t, .inr (10, [.ref a])) ∧ TT u t a Θ sz md ∧ gfr t h u) gNo 1 := by
  obtain ⟨root, gk, lq, hq, lo, hi, T, I, g⟩ := T
  obtain ⟨⟨nks, m1, m2⟩, T3⟩ := id T
  refine gMet.of (by decide) (Nat.le_of_ble_eq_true rfl) (fun K C N hG hn hin => ?_)
  subst hG
  have kn_ : ∀ j : Nat, j < 2 → j < kn K := fun j hj => by rw [hn]; exact hj
  refine E.aload_n C dJ19_navigableKeySet_0 rfl ?_
  refine E.getf C dJ19_navigableKeySet_1 m1 rfl 7 q473 (by decide) rfl rfl ?_
  cases nks with
  | some b =>
    refine E.astore_n C dJ19_navigableKeySet_4 (kn_ _ (by decide)) ?_
    refine E.aload_n C dJ19_navigableKeySet_5 rfl ?_
    refine E.ifnull1 C dJ19_navigableKeySet_6 ?_
    refine E.aload_n C dJ19_navigableKeySet_9 rfl ?_
    refine E.goto C dJ19_navigableKeySet_10 (tgt := 26) (by decide) ?_
    refine E.endA C N dJ19_navigableKeySet_26 (by omega) ?_
    exact ⟨b, rfl, m2 b rfl, ⟨root, gk, lq, hq, lo, hi, T, I, g⟩, gfr.rf⟩
  | none =>
    refine E.astore_n C dJ19_navigableKeySet_4 (kn_ _ (by decide)) ?_
    refine E.aload_n C dJ19_navigableKeySet_5 rfl ?_
    refine E.ifnull0 C dJ19_navigableKeySet_6 (tgt := 13) (by decide) ?_
    refine E.aload_n C dJ19_navigableKeySet_13 rfl ?_
    refine E.new C (w := 1) t dJ19_navigableKeySet_14 (ci := 10) rfl q1039 q1040 q95 rfl (by decide) (by decide) (by omega) ?_
    intro b hb hz
    refine E.dup C dJ19_navigableKeySet_17 (by first | rfl | assumption) ?_
    refine E.aload_n C dJ19_navigableKeySet_18 rfl ?_
    refine E.callI C (m_J34_init ht gu_s) dJ19_navigableKeySet_19 q1041 q1042 q95 q1043 mh_J34_init rfl (by decide) (by decide) rfl (Nat.le_of_ble_eq_true rfl) (by omega) (fun _ _ hx => hx.elim) ?_
    rintro v u ⟨rfl, rfl⟩
    rw [gu_uu]
    have hne : a ≠ b := ne_of_none hb m1
    have T1 := T.mono (gle.up hb (x := (t, .inr (10, [.ref a]))))
    have ma : (gu h b (t, .inr (10, [.ref a]))) a = some (t, mapo root sz md none) := by rw [gu_n hne]; exact m1
    refine E.dup_x1 C dJ19_navigableKeySet_22 (by first | rfl | assumption) (by first | rfl | assumption) ?_
    refine E.put C dJ19_navigableKeySet_23 ma (by first | decide | assumption) rfl 7 q473 (by decide) rfl rfl (by first | rfl | exact nar_rf _ _ | assumption) (by first | rfl | exact fit_rf _ _ | assumption) (Nat.le_of_ble_eq_true rfl) ?_
    refine E.endA C N dJ19_navigableKeySet_26 (by omega) ?_
    have hb2 : (gu h b (t, .inr (10, [.ref a]))) b = some (t, .inr (10, [.ref a])) := gu_s
    exact ⟨b, rfl, by rw [gu_n hne.symm]; exact gu_s, ⟨root, gk, lq, hq, lo, hi, TH.map T1 ht (nks := some b) (fun z hz9 => by cases hz9; exact hb2), I, g⟩, (gle.fr (gle.up hb)).tr (gfr.up ma rfl)⟩
theorem m_keySet (T : TT h t a Θ sz md) (ht : t ≠ 0) : gMet 5 yJ19_keySet cJ19_keySet 1 (some (.object "java/util/Set")) G h [.ref a] (fun v u => ∃ b, v = some (.ref b) ∧ u b = some (t, .inr (10, [.ref a])) ∧ TT u t a Θ sz md ∧ gfr t h u) gNo 1 := by
  refine gMet.of (by decide) (Nat.le_of_ble_eq_true rfl) (fun K C N hG hn hin => ?_)
  subst hG
  have kn_ : ∀ j : Nat, j < 1 → j < kn K := fun j hj => by rw [hn]; exact hj
  refine E.aload_n C dJ19_keySet_0 rfl ?_
  refine E.callV C (m_navigableKeySet T ht) dJ19_keySet_1 q1182 q1036 q2424 q75 q1038 mh_J19_navigableKeySet (by decide) (by decide) (TT.rv T) rfl (Nat.le_of_ble_eq_true rfl) (by omega) (fun _ _ hx => hx.elim) ?_
  rintro v u ⟨b, rfl, q⟩
  refine E.endA C N dJ19_keySet_4 (by omega) ?_
  exact ⟨b, rfl, q⟩
theorem m_J34_iterator (M : gM h t a Θ n f vf md) {b ti : Nat} (hti : ti ≠ 0) (h1 : h b = some (t, .inr (10, [.ref a]))) : gMet 5 yJ34_iterator cJ34_iterator 1 (some (.object "java/util/Iterator")) G h [.ref b] (fun v u => ∃ it r, v = some (.ref it) ∧ h it = none ∧ u = gu h it (ti, kit a r none md) ∧ IP Θ n f r 0) gNo 1 := by
  refine gMet.of (by decide) (Nat.le_of_ble_eq_true rfl) (fun K C N hG hn hin => ?_)
  subst hG
  have kn_ : ∀ j : Nat, j < 1 → j < kn K := fun j hj => by rw [hn]; exact hj
  refine E.aload_n C dJ34_iterator_0 rfl ?_
  refine E.getf C dJ34_iterator_1 h1 rfl 0 q1048 (by decide) rfl rfl ?_
  refine E.instS C q1062 (TT.rv M.1) dJ34_iterator_4 (C.cat (ci := 7) rfl) ?_
  refine E.if_eq C dJ34_iterator_7 (tgt := 21) (by decide) (fun c => ?_) (fun c => ?_)
  · exact absurd c (by decide)
  · refine E.aload_n C dJ34_iterator_10 rfl ?_
    refine E.getf C dJ34_iterator_11 h1 rfl 0 q1048 (by decide) rfl rfl ?_
    refine E.castS C q1062 (TT.rv M.1) dJ34_iterator_14 ?_
    refine E.callV C (m_keyIterator M hti) dJ34_iterator_17 q1063 q1064 q1065 q75 q1066 mh_J19_keyIterator (by decide) (by decide) (TT.rv M.1) rfl (Nat.le_of_ble_eq_true rfl) (by omega) (fun _ _ hx => hx.elim) ?_
    rintro v u ⟨it, r, rfl, q⟩
    refine E.endA C N dJ34_iterator_20 (by omega) ?_
    exact ⟨it, r, rfl, q⟩
end TSET
