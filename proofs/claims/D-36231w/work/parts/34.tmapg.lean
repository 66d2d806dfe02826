/-! TreeMap by its sorted keys; TreeSet -/
set_option maxRecDepth 100000
def sIns (f : Nat → Int32) (j : Nat) (k : Int32) : Nat → Int32 := fun i => if i < j then f i else if i = j then k else f (i - 1)
def sRem (f : Nat → Int32) (j : Nat) : Nat → Int32 := fun i => if i < j then f i else f (i + 1)
def uv (vf : Int32 → Nat) (k : Int32) (w : Nat) : Int32 → Nat := fun x => if x = k then w else vf x
theorem Srt.place {n : Nat} {f : Nat → Int32} (s : Srt n f) (k : Int32) (hn : ∀ i, i < n → f i ≠ k) : ∃ j, j ≤ n ∧ (∀ i, i < j → (f i).toInt < k.toInt) ∧ ∀ i, j ≤ i → i < n → k.toInt < (f i).toInt := by
  induction n with
  | zero => exact ⟨0, Nat.le_refl _, fun i hi => absurd hi (Nat.not_lt_zero _), fun i _ hi => absurd hi (Nat.not_lt_zero _)⟩
  | succ n ih =>
    obtain ⟨j, h1, h2, h3⟩ := ih (fun a b p q => s a b p (by omega)) (fun i hi => hn i (by omega))
    rcases Nat.lt_or_ge j n with c | c
    · refine ⟨j, by omega, h2, fun i hi1 hi2 => ?_⟩
      rcases Nat.lt_or_ge i n with d | d
      · exact h3 i hi1 d
      · have e : i = n := by omega
        rw [e]
        have := h3 j (Nat.le_refl _) c
        have := s j n c (by omega)
        omega
    · have e : j = n := by omega
      have hne : (f n).toInt ≠ k.toInt := fun z => hn n (by omega) (Int32.toInt_inj.mp z)
      rcases Int.lt_or_gt_of_ne hne with d | d
      · refine ⟨n + 1, Nat.le_refl _, fun i hi => ?_, fun i a b => absurd b (by omega)⟩
        rcases Nat.lt_or_ge i n with x | x
        · exact h2 i (by omega)
        · have : i = n := by omega
          rw [this]; exact d
      · refine ⟨n, by omega, fun i hi => h2 i (by omega), fun i a b => ?_⟩
        have : i = n := by omega
        rw [this]; exact d
theorem Srt.ins {n j : Nat} {f : Nat → Int32} {k : Int32} (s : Srt n f) (hj : j ≤ n) (h1 : ∀ i, i < j → (f i).toInt < k.toInt) (h2 : ∀ i, j ≤ i → i < n → k.toInt < (f i).toInt) : Srt (n + 1) (sIns f j k) := by
  intro a b hab hb
  unfold sIns
  by_cases c1 : b < j
  · rw [if_pos c1, if_pos (by omega)]; exact s a b hab (by omega)
  · rw [if_neg c1]
    by_cases c2 : b = j
    · rw [if_pos c2, if_pos (by omega)]; exact h1 a (by omega)
    · rw [if_neg c2]
      by_cases c3 : a < j
      · rw [if_pos c3]; exact s a (b - 1) (by omega) (by omega)
      · rw [if_neg c3]
        by_cases c4 : a = j
        · rw [if_pos c4]; exact h2 (b - 1) (by omega) (by omega)
        · rw [if_neg c4]; exact s (a - 1) (b - 1) (by omega) (by omega)
theorem Srt.rem {n j : Nat} {f : Nat → Int32} (s : Srt n f) (hj : j < n) : Srt (n - 1) (sRem f j) := by
  intro a b hab hb
  unfold sRem
  by_cases c1 : b < j
  · rw [if_pos c1, if_pos (by omega)]; exact s a b hab (by omega)
  · rw [if_neg c1]
    by_cases c3 : a < j
    · rw [if_pos c3]; exact s a (b + 1) (by omega) (by omega)
    · rw [if_neg c3]; exact s (a + 1) (b + 1) (by omega) (by omega)
theorem sIns.mem {n j : Nat} {f : Nat → Int32} {k x : Int32} (hj : j ≤ n) : (∃ i, i < n + 1 ∧ sIns f j k i = x) ↔ (x = k ∨ ∃ i, i < n ∧ f i = x) := by
  unfold sIns
  constructor
  · rintro ⟨i, hi, e⟩
    by_cases c1 : i < j
    · rw [if_pos c1] at e; exact Or.inr ⟨i, by omega, e⟩
    · rw [if_neg c1] at e
      by_cases c2 : i = j
      · rw [if_pos c2] at e; exact Or.inl e.symm
      · rw [if_neg c2] at e; exact Or.inr ⟨i - 1, by omega, e⟩
  · rintro (rfl | ⟨i, hi, e⟩)
    · exact ⟨j, by omega, by rw [if_neg (Nat.lt_irrefl _), if_pos rfl]⟩
    · by_cases c1 : i < j
      · exact ⟨i, by omega, by rw [if_pos c1]; exact e⟩
      · exact ⟨i + 1, by omega, by rw [if_neg (by omega), if_neg (by omega)]; exact e⟩
theorem sRem.mem {n j : Nat} {f : Nat → Int32} {x : Int32} (s : Srt n f) (hj : j < n) : (∃ i, i < n - 1 ∧ sRem f j i = x) ↔ (x ≠ f j ∧ ∃ i, i < n ∧ f i = x) := by
  unfold sRem
  constructor
  · rintro ⟨i, hi, e⟩
    by_cases c1 : i < j
    · rw [if_pos c1] at e
      exact ⟨fun z => by have := s.inj (i := i) (j := j) (by omega) hj (e.trans z); omega, i, by omega, e⟩
    · rw [if_neg c1] at e
      exact ⟨fun z => by have := s.inj (i := i + 1) (j := j) (by omega) hj (e.trans z); omega, i + 1, by omega, e⟩
  · rintro ⟨z, i, hi, e⟩
    have hij : i ≠ j := fun c => z (by rw [← e, c])
    by_cases c1 : i < j
    · exact ⟨i, by omega, by rw [if_pos c1]; exact e⟩
    · exact ⟨i - 1, by omega, by rw [if_neg (by omega), show i - 1 + 1 = i by omega]; exact e⟩
section GMAP
variable {G : gG} {h : gH} {t a n : Nat} {Θ : gT} {f : Nat → Int32} {vf : Int32 → Nat} {md : Int32}
theorem gM.has (M : gM h t a Θ n f vf md) (k : Int32) : (∃ w, Ct Θ k w) ↔ ∃ i, i < n ∧ f i = k := by
  constructor
  · rintro ⟨w, q⟩
    obtain ⟨i, h1, h2, -⟩ := (M.2.2.2 k w).mp q
    exact ⟨i, h1, h2⟩
  · rintro ⟨i, h1, h2⟩
    exact ⟨some (vf k), (M.2.2.2 k _).mpr ⟨i, h1, h2, rfl⟩⟩
/-- a map is empty -/
theorem gM.of0 (T : TT h t a Θ 0 md) (c : ∀ k w, ¬ Ct Θ k w) : gM h t a Θ 0 f vf md := ⟨T, by decide, fun i j _ hj => absurd hj (Nat.not_lt_zero _), fun k w => ⟨fun z => absurd z (c k w), fun ⟨i, hi, _⟩ => absurd hi (Nat.not_lt_zero _)⟩⟩
/-- what put leaves: the value changed, or the key put in -/
def gPut (h : gH) (t a : Nat) (Θ : gT) (n : Nat) (f : Nat → Int32) (vf : Int32 → Nat) (md : Int32) (k : Int32) (w : Nat) (v : Option Value) (u : gH) : Prop :=
  gfr t h u ∧ (((∃ i, i < n ∧ f i = k) ∧ v = some (.ref (vf k)) ∧ ∃ Θ', gM u t a Θ' n f (uv vf k w) md) ∨ (v = some .null ∧ ∃ Θ' j, j ≤ n ∧ (∀ i, i < j → (f i).toInt < k.toInt) ∧ (∀ i, j ≤ i → i < n → k.toInt < (f i).toInt) ∧ gM u t a Θ' (n + 1) (sIns f j k) (uv vf k w) (md + 1)))
theorem gPut.of (M : gM h t a Θ n f vf md) (hn : n + 1 < 2 ^ 30) {k : Int32} {w : Nat} {v : Option Value} {u : gH} (P : pPost h t a Θ (nI n) md k w v u) : gPut h t a Θ n f vf md k w v u := by
  obtain ⟨fr, Θ', sz', md', T, c, ⟨⟨w0, q, hv⟩, rfl, rfl⟩ | ⟨q, hv, rfl, rfl⟩⟩ := P
  · have hk := (M.has k).mp ⟨w0, q⟩
    refine ⟨fr, Or.inl ⟨hk, ?_, Θ', T, M.2.1, M.2.2.1, fun k' w' => ?_⟩⟩
    · obtain ⟨i, h1, h2, h3⟩ := (M.2.2.2 k w0).mp q
      rw [hv, h3]; rfl
    · rw [c, M.2.2.2]
      unfold uv
      constructor
      · rintro (⟨z, i, h1, h2, h3⟩ | ⟨rfl, rfl⟩)
        · exact ⟨i, h1, h2, by rw [if_neg z]; exact h3⟩
        · obtain ⟨i, h1, h2⟩ := hk
          exact ⟨i, h1, h2, by rw [if_pos rfl]⟩
      · rintro ⟨i, h1, h2, h3⟩
        by_cases e : k' = k
        · rw [if_pos e] at h3; exact Or.inr ⟨e, h3⟩
        · rw [if_neg e] at h3; exact Or.inl ⟨e, i, h1, h2, h3⟩
  · have hk : ∀ i, i < n → f i ≠ k := fun i hi e => by
      obtain ⟨w0, z⟩ := (M.has k).mpr ⟨i, hi, e⟩
      exact q w0 z
    obtain ⟨j, j1, j2, j3⟩ := M.2.2.1.place k hk
    refine ⟨fr, Or.inr ⟨hv, Θ', j, j1, j2, j3, ?_, hn, M.2.2.1.ins j1 j2 j3, fun k' w' => ?_⟩⟩
    · rw [nI_succ]; exact T
    · rw [c, M.2.2.2]
      have hm := sIns.mem (f := f) (k := k) (x := k') j1
      constructor
      · rintro (⟨z, i, h1, h2, h3⟩ | ⟨rfl, rfl⟩)
        · obtain ⟨i', a1, a2⟩ := hm.mpr (Or.inr ⟨i, h1, h2⟩)
          exact ⟨i', a1, a2, by unfold uv; rw [if_neg z]; exact h3⟩
        · obtain ⟨i', a1, a2⟩ := hm.mpr (Or.inl rfl)
          exact ⟨i', a1, a2, by unfold uv; rw [if_pos rfl]⟩
      · rintro ⟨i, h1, h2, h3⟩
        unfold uv at h3
        by_cases e : k' = k
        · rw [if_pos e] at h3; exact Or.inr ⟨e, h3⟩
        · rw [if_neg e] at h3
          obtain ⟨i', a1, a2⟩ := (hm.mp ⟨i, h1, h2⟩).resolve_left e
          exact Or.inl ⟨e, i', a1, a2, h3⟩
theorem m_gput (M : gM h t a Θ n f vf md) (ht : t ≠ 0) (hn : n + 1 < 2 ^ 30) {bx w : Nat} {k : Int32} (hb : h bx = some (gbox k)) :
    gMet 7 yJ19_put cJ19_put 3 (some (.object "java/lang/Object")) G h [.ref a, .ref bx, .ref w] (gPut h t a Θ n f vf md k w) gNo 1 := by
  refine gMet.mono (m_put M.1 ht (fun hS => ?_) (fun q hq => ?_) hb) (fun v u P => gPut.of M hn P) (fun _ _ z => z)
  · rcases Nat.eq_zero_or_pos n with c | c
    · rw [c]; rfl
    · obtain ⟨q, sq, -⟩ := M.i c
      exact absurd sq (hS q)
  · obtain ⟨i, -, -, e⟩ := M.k hq
    exact ⟨_, e⟩
theorem m_gget (M : gM h t a Θ n f vf md) {bx : Nat} {k : Int32} (hb : h bx = some (gbox k)) :
    gMet 5 yJ19_get cJ19_get 3 (some (.object "java/lang/Object")) G h [.ref a, .ref bx] (fun v u => u = h ∧ (((∃ i, i < n ∧ f i = k) ∧ v = some (.ref (vf k))) ∨ ((∀ i, i < n → f i ≠ k) ∧ v = some .null))) gNo 0 := by
  refine gMet.mono (m_tget M.1 hb) (fun v u P => ?_) (fun _ _ z => z)
  obtain ⟨e, ⟨w, q, hv⟩ | ⟨q, hv⟩⟩ := P
  · obtain ⟨i, h1, h2, h3⟩ := (M.2.2.2 k w).mp q
    exact ⟨e, Or.inl ⟨⟨i, h1, h2⟩, by rw [hv, h3]; rfl⟩⟩
  · exact ⟨e, Or.inr ⟨fun i hi ei => by obtain ⟨w0, z⟩ := (M.has k).mpr ⟨i, hi, ei⟩; exact q w0 z, hv⟩⟩
theorem m_ghas (M : gM h t a Θ n f vf md) {bx : Nat} {k : Int32} (hb : h bx = some (gbox k)) :
    gMet 5 yJ19_containsKey cJ19_containsKey 2 (some .boolean) G h [.ref a, .ref bx] (fun v u => u = h ∧ (((∃ i, i < n ∧ f i = k) ∧ v = some (.int 1)) ∨ ((∀ i, i < n → f i ≠ k) ∧ v = some (.int 0)))) gNo 0 := by
  refine gMet.mono (m_containsKey M.1 hb) (fun v u P => ?_) (fun _ _ z => z)
  obtain ⟨e, ⟨w, hv⟩ | ⟨q, hv⟩⟩ := P
  · exact ⟨e, Or.inl ⟨(M.has k).mp w, hv⟩⟩
  · exact ⟨e, Or.inr ⟨fun i hi ei => by obtain ⟨w0, z⟩ := (M.has k).mpr ⟨i, hi, ei⟩; exact q w0 z, hv⟩⟩
theorem m_gremove (M : gM h t a Θ n f vf md) (ht : t ≠ 0) {bx : Nat} {k : Int32} (hb : h bx = some (gbox k)) :
    gMet 5 yJ19_remove cJ19_remove 4 (some (.object "java/lang/Object")) G h [.ref a, .ref bx] (fun v u => (∃ r, v = some (va_rf r)) ∧ ((∃ i Θ', i < n ∧ f i = k ∧ gfr t h u ∧ gM u t a Θ' (n - 1) (sRem f i) vf (md + 1)) ∨ ((∀ i, i < n → f i ≠ k) ∧ u = h))) gNo 0 := by
  refine gMet.mono (m_remove M.1 ht hb) (fun v u P => ?_) (fun _ _ z => z)
  obtain ⟨e, ⟨w, fr, Θ', T, c⟩ | ⟨q, hv⟩⟩ := P
  · obtain ⟨i, h1, h2⟩ := (M.has k).mp w
    refine ⟨e, Or.inl ⟨i, Θ', h1, h2, fr, ?_, by have := M.2.1; omega, M.2.2.1.rem h1, fun k' w' => ?_⟩⟩
    · have e9 : nI n - 1 = nI (n - 1) := by
        have := nI_pred (n - 1)
        rw [show n - 1 + 1 = n by omega] at this
        exact this
      rw [← e9]; exact T
    · rw [c, M.2.2.2]
      have hm := sRem.mem (x := k') M.2.2.1 h1
      rw [h2] at hm
      constructor
      · rintro ⟨⟨i2, a1, a2, a3⟩, a4⟩
        obtain ⟨i3, b1, b2⟩ := hm.mpr ⟨a4, i2, a1, a2⟩
        exact ⟨i3, b1, b2, a3⟩
      · rintro ⟨i2, a1, a2, a3⟩
        obtain ⟨b1, i3, b2, b3⟩ := hm.mp ⟨i2, a1, a2⟩
        exact ⟨⟨i3, b2, b3, a3⟩, b1⟩
  · exact ⟨e, Or.inr ⟨fun i hi ei => by obtain ⟨w0, z⟩ := (M.has k).mpr ⟨i, hi, ei⟩; exact q w0 z, hv⟩⟩
end GMAP
