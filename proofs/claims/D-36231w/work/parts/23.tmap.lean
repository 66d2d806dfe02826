/-! JDK: TreeMap's cells, its entries' fields, rotations -/
set_option maxRecDepth 100000
/-- nodes, key, key's box, value, left, right, parent, color -/
abbrev gT : Type := (Nat → Prop) × (Nat → Int32) × (Nat → Nat) × (Nat → Option Nat) × (Nat → Option Nat) × (Nat → Option Nat) × (Nat → Option Nat) × (Nat → Int32)
abbrev tS (Θ : gT) : Nat → Prop := Θ.1
abbrev tK (Θ : gT) : Nat → Int32 := Θ.2.1
abbrev tX (Θ : gT) : Nat → Nat := Θ.2.2.1
abbrev tV (Θ : gT) : Nat → Option Nat := Θ.2.2.2.1
abbrev tL (Θ : gT) : Nat → Option Nat := Θ.2.2.2.2.1
abbrev tR (Θ : gT) : Nat → Option Nat := Θ.2.2.2.2.2.1
abbrev tP (Θ : gT) : Nat → Option Nat := Θ.2.2.2.2.2.2.1
abbrev tC (Θ : gT) : Nat → Int32 := Θ.2.2.2.2.2.2.2
abbrev ent (Θ : gT) (q : Nat) : va_E := .inr (8, [.ref (tX Θ q), va_rf (tV Θ q), va_rf (tL Θ q), va_rf (tR Θ q), va_rf (tP Θ q), .int (tC Θ q)])
abbrev sV (Θ : gT) (q : Nat) (v : Option Nat) : gT := (tS Θ, tK Θ, tX Θ, va_up (tV Θ) q v, tL Θ, tR Θ, tP Θ, tC Θ)
abbrev sL (Θ : gT) (q : Nat) (v : Option Nat) : gT := (tS Θ, tK Θ, tX Θ, tV Θ, va_up (tL Θ) q v, tR Θ, tP Θ, tC Θ)
abbrev sR (Θ : gT) (q : Nat) (v : Option Nat) : gT := (tS Θ, tK Θ, tX Θ, tV Θ, tL Θ, va_up (tR Θ) q v, tP Θ, tC Θ)
abbrev sP (Θ : gT) (q : Nat) (v : Option Nat) : gT := (tS Θ, tK Θ, tX Θ, tV Θ, tL Θ, tR Θ, va_up (tP Θ) q v, tC Θ)
abbrev sC (Θ : gT) (q : Nat) (v : Int32) : gT := (tS Θ, tK Θ, tX Θ, tV Θ, tL Θ, tR Θ, tP Θ, va_up (tC Θ) q v)
abbrev sKX (Θ : gT) (q : Nat) (k : Int32) (x : Nat) : gT := (tS Θ, va_up (tK Θ) q k, va_up (tX Θ) q x, tV Θ, tL Θ, tR Θ, tP Θ, tC Θ)
abbrev mapo (root : Option Nat) (sz md : Int32) (nks : Option Nat) : va_E := .inr (7, [.null, .null, .null, va_rf root, .int sz, .int md, .null, va_rf nks, .null])
/-- the map's cells: the map at a, its entries, the entries' boxes, the set of keys that it may have made -/
def TH (h : gH) (t a : Nat) (Θ : gT) (root : Option Nat) (sz md : Int32) : Prop :=
  (∃ nks, h a = some (t, mapo root sz md nks) ∧ ∀ b, nks = some b → h b = some (t, .inr (10, [.ref a]))) ∧
  (∀ q, tS Θ q → h q = some (t, ent Θ q) ∧ h (tX Θ q) = some (gbox (tK Θ q))) ∧
  (∀ q, tS Θ q → (tC Θ q = 0 ∨ tC Θ q = 1))
theorem TH.en {h : gH} {t a : Nat} {Θ : gT} {root : Option Nat} {sz md : Int32} (T : TH h t a Θ root sz md) {q : Nat} (hq : tS Θ q) : h q = some (t, ent Θ q) := (T.2.1 q hq).1
theorem TH.bx {h : gH} {t a : Nat} {Θ : gT} {root : Option Nat} {sz md : Int32} (T : TH h t a Θ root sz md) {q : Nat} (hq : tS Θ q) : h (tX Θ q) = some (gbox (tK Θ q)) := (T.2.1 q hq).2
theorem TH.fr {h u : gH} {t t' a : Nat} {Θ : gT} {root : Option Nat} {sz md : Int32} (T : TH h t a Θ root sz md) (ht : t ≠ 0) (ht' : t' ≠ 0) (k : gfr t' h u) (n : t ≠ t') : TH u t a Θ root sz md := by
  obtain ⟨⟨nks, h1, h2⟩, h3, h4⟩ := T
  exact ⟨⟨nks, k _ _ h1 n, fun b hb => k _ _ (h2 b hb) n⟩, fun q hq => ⟨k _ _ (h3 q hq).1 n, k _ _ (h3 q hq).2 (fun e => ht' e.symm)⟩, h4⟩
theorem TH.mono {h u : gH} {t a : Nat} {Θ : gT} {root : Option Nat} {sz md : Int32} (T : TH h t a Θ root sz md) (k : gle h u) : TH u t a Θ root sz md := by
  obtain ⟨⟨nks, h1, h2⟩, h3, h4⟩ := T
  exact ⟨⟨nks, k _ _ h1, fun b hb => k _ _ (h2 b hb)⟩, fun q hq => ⟨k _ _ (h3 q hq).1, k _ _ (h3 q hq).2⟩, h4⟩
/-- an entry is written -/
theorem TH.put {h : gH} {t a q : Nat} {Θ Θ' : gT} {root : Option Nat} {sz md : Int32} {x : va_E} (T : TH h t a Θ root sz md) (ht : t ≠ 0) (hq : tS Θ q) (hS : tS Θ' = tS Θ) (hK : ∀ z, z ≠ q → ent Θ' z = ent Θ z ∧ tK Θ' z = tK Θ z ∧ tX Θ' z = tX Θ z ∧ tC Θ' z = tC Θ z) (hx : x = ent Θ' q) (hb : h (tX Θ' q) = some (gbox (tK Θ' q))) (hc : tC Θ' q = 0 ∨ tC Θ' q = 1) : TH (gu h q (t, x)) t a Θ' root sz md := by
  subst hx
  obtain ⟨⟨nks, h1, h2⟩, h3, h4⟩ := T
  have hq1 := (h3 q hq).1
  have bn : ∀ z v, h z = some (gbox v) → z ≠ q := fun z v e c => by rw [c, hq1] at e; cases e
  refine ⟨⟨nks, ?_, fun b hb9 => ?_⟩, fun z hz => ?_, fun z hz => ?_⟩
  · rw [gu_n (ne_of_some h1 hq1 (fun c => by cases c))]; exact h1
  · rw [gu_n (ne_of_some (h2 b hb9) hq1 (fun c => by cases c))]; exact h2 b hb9
  · by_cases c : z = q
    · subst c
      exact ⟨gu_s, by rw [gu_n (bn _ _ hb)]; exact hb⟩
    · rw [hS] at hz
      obtain ⟨k1, k2, k3, k4⟩ := hK z c
      refine ⟨by rw [gu_n c, k1]; exact (h3 z hz).1, ?_⟩
      rw [k2, k3, gu_n (bn _ _ (h3 z hz).2)]
      exact (h3 z hz).2
  · by_cases c : z = q
    · subst c; exact hc
    · rw [hS] at hz
      rw [(hK z c).2.2.2]; exact h4 z hz
/-- the map's own cell is written -/
theorem TH.map {h : gH} {t a : Nat} {Θ : gT} {root root' : Option Nat} {sz md sz' md' : Int32} {nks : Option Nat} (T : TH h t a Θ root sz md) (ht : t ≠ 0) (hn : ∀ b, nks = some b → h b = some (t, .inr (10, [.ref a]))) : TH (gu h a (t, mapo root' sz' md' nks)) t a Θ root' sz' md' := by
  obtain ⟨⟨nks0, h1, h2⟩, h3, h4⟩ := T
  refine ⟨⟨nks, gu_s, fun b hb9 => ?_⟩, fun z hz => ?_, h4⟩
  · rw [gu_n (ne_of_some (hn b hb9) h1 (fun c => by cases c))]; exact hn b hb9
  · refine ⟨?_, ?_⟩
    · rw [gu_n (ne_of_some (h3 z hz).1 h1 (fun c => by cases c))]; exact (h3 z hz).1
    · rw [gu_n (ne_of_some (h3 z hz).2 h1 (fun c => by cases c))]; exact (h3 z hz).2
/-- what a walk over the map's cells leaves: other tags' cells, and no cell gone -/
def gto (t : Nat) (h u : gH) : Prop := gfr t h u
section TROWS
variable {K : gK} {own : String} {cc : ByteArray} {ret : Option FieldType} {lev mc : Nat} {hh : List (Nat × Nat × Nat × Nat)}
variable {pc k : Nat} {l : List (Nat × Value)} {st : List Value} {h : gH}
variable {t a q idx : Nat} {Θ : gT} {root : Option Nat} {sz md : Int32}
abbrev eN : String := "java/util/TreeMap$Entry"
abbrev eD : String := "Ljava/util/TreeMap$Entry;"
theorem up_n {α : Type} {f : Nat → α} {q z : Nat} {v : α} (n : z ≠ q) : va_up f q v z = f z := by simp [va_up, n]
theorem up_s {α : Type} {f : Nat → α} {q : Nat} {v : α} : va_up f q v q = v := by simp [va_up]
theorem E.tputL (C : gC K own cc ret lev mc hh) (T : TH h t a Θ root sz md) (ht : t ≠ 0) (hq : tS Θ q) {v : Option Nat} (d : decode cc pc = .ok (.putfield idx, 3)) (w : Cond.fieldLink own idx eN "left" eD ∈ lw_all) (e : ∀ u, TH u t a (sL Θ q v) root sz md → gfr t h u → E K (pc + 3) l st u k) : E K pc l (va_rf v :: .ref q :: st) h k := by
  refine E.put C d (T.en hq) ht rfl 2 w (by decide) rfl rfl (nar_rf _ _) (fit_rf _ _) (Nat.le_of_ble_eq_true rfl) ?_
  exact e _ (T.put ht hq rfl (fun z n => ⟨by simp only [ent, tL, sL, up_n n], rfl, rfl, rfl⟩) (by simp only [ent, tL, sL, up_s]; rfl) (T.bx hq) (T.2.2 q hq)) (gfr.up (T.en hq) rfl)
theorem E.tputR (C : gC K own cc ret lev mc hh) (T : TH h t a Θ root sz md) (ht : t ≠ 0) (hq : tS Θ q) {v : Option Nat} (d : decode cc pc = .ok (.putfield idx, 3)) (w : Cond.fieldLink own idx eN "right" eD ∈ lw_all) (e : ∀ u, TH u t a (sR Θ q v) root sz md → gfr t h u → E K (pc + 3) l st u k) : E K pc l (va_rf v :: .ref q :: st) h k := by
  refine E.put C d (T.en hq) ht rfl 3 w (by decide) rfl rfl (nar_rf _ _) (fit_rf _ _) (Nat.le_of_ble_eq_true rfl) ?_
  exact e _ (T.put ht hq rfl (fun z n => ⟨by simp only [ent, tR, sR, up_n n], rfl, rfl, rfl⟩) (by simp only [ent, tR, sR, up_s]; rfl) (T.bx hq) (T.2.2 q hq)) (gfr.up (T.en hq) rfl)
theorem E.tputP (C : gC K own cc ret lev mc hh) (T : TH h t a Θ root sz md) (ht : t ≠ 0) (hq : tS Θ q) {v : Option Nat} (d : decode cc pc = .ok (.putfield idx, 3)) (w : Cond.fieldLink own idx eN "parent" eD ∈ lw_all) (e : ∀ u, TH u t a (sP Θ q v) root sz md → gfr t h u → E K (pc + 3) l st u k) : E K pc l (va_rf v :: .ref q :: st) h k := by
  refine E.put C d (T.en hq) ht rfl 4 w (by decide) rfl rfl (nar_rf _ _) (fit_rf _ _) (Nat.le_of_ble_eq_true rfl) ?_
  exact e _ (T.put ht hq rfl (fun z n => ⟨by simp only [ent, tP, sP, up_n n], rfl, rfl, rfl⟩) (by simp only [ent, tP, sP, up_s]; rfl) (T.bx hq) (T.2.2 q hq)) (gfr.up (T.en hq) rfl)
theorem nar_z {c : Int32} (hc : c = 0 ∨ c = 1) : narrow .boolean (.int c) = .int c ∧ fits .boolean (.int c) = true := by rcases hc with rfl | rfl <;> exact ⟨rfl, rfl⟩
theorem E.tputC (C : gC K own cc ret lev mc hh) (T : TH h t a Θ root sz md) (ht : t ≠ 0) (hq : tS Θ q) {v : Int32} (hv : v = 0 ∨ v = 1) (d : decode cc pc = .ok (.putfield idx, 3)) (w : Cond.fieldLink own idx eN "color" "Z" ∈ lw_all) (e : ∀ u, TH u t a (sC Θ q v) root sz md → gfr t h u → E K (pc + 3) l st u k) : E K pc l (.int v :: .ref q :: st) h k := by
  refine E.put C d (T.en hq) ht rfl 5 w (by decide) rfl rfl (nar_z hv).1 (nar_z hv).2 (Nat.le_of_ble_eq_true rfl) ?_
  exact e _ (T.put ht hq rfl (fun z n => ⟨by simp only [ent, tC, sC, up_n n], rfl, rfl, by simp only [tC, sC, up_n n]⟩) (by simp only [ent, tC, sC, up_s]; rfl) (T.bx hq) (by simp only [tC, sC, up_s]; exact hv)) (gfr.up (T.en hq) rfl)
theorem E.tputV (C : gC K own cc ret lev mc hh) (T : TH h t a Θ root sz md) (ht : t ≠ 0) (hq : tS Θ q) {v : Option Nat} (d : decode cc pc = .ok (.putfield idx, 3)) (w : Cond.fieldLink own idx eN "value" "Ljava/lang/Object;" ∈ lw_all) (e : ∀ u, TH u t a (sV Θ q v) root sz md → gfr t h u → E K (pc + 3) l st u k) : E K pc l (va_rf v :: .ref q :: st) h k := by
  refine E.put C d (T.en hq) ht rfl 1 w (by decide) rfl rfl (nar_rf _ _) (fit_rf _ _) (Nat.le_of_ble_eq_true rfl) ?_
  exact e _ (T.put ht hq rfl (fun z n => ⟨by simp only [ent, tV, sV, up_n n], rfl, rfl, rfl⟩) (by simp only [ent, tV, sV, up_s]; rfl) (T.bx hq) (T.2.2 q hq)) (gfr.up (T.en hq) rfl)
theorem E.tputK (C : gC K own cc ret lev mc hh) (T : TH h t a Θ root sz md) (ht : t ≠ 0) (hq : tS Θ q) {x : Nat} {kv : Int32} (hx : h x = some (gbox kv)) (d : decode cc pc = .ok (.putfield idx, 3)) (w : Cond.fieldLink own idx eN "key" "Ljava/lang/Object;" ∈ lw_all) (e : ∀ u, TH u t a (sKX Θ q kv x) root sz md → gfr t h u → E K (pc + 3) l st u k) : E K pc l (.ref x :: .ref q :: st) h k := by
  refine E.put C d (T.en hq) ht rfl 0 w (by decide) rfl rfl rfl rfl (Nat.le_of_ble_eq_true rfl) ?_
  exact e _ (T.put ht hq rfl (fun z n => ⟨by simp only [ent, tX, sKX, up_n n], by simp only [tK, sKX, up_n n], by simp only [tX, sKX, up_n n], rfl⟩) (by simp only [ent, tX, sKX, up_s]; rfl) (by simp only [tX, tK, sKX, up_s]; exact hx) (T.2.2 q hq)) (gfr.up (T.en hq) rfl)
/-- the map's own fields -/
theorem E.tgetRoot (C : gC K own cc ret lev mc hh) (T : TH h t a Θ root sz md) (d : decode cc pc = .ok (.getfield idx, 3)) (w : Cond.fieldLink own idx "java/util/TreeMap" "root" eD ∈ lw_all) (e : E K (pc + 3) l (va_rf root :: st) h k) : E K pc l (.ref a :: st) h k := by
  obtain ⟨⟨nks, h1, h2⟩, -⟩ := T
  exact E.getf C d h1 rfl 3 w (by decide) rfl rfl e
theorem E.tgetCmp (C : gC K own cc ret lev mc hh) (T : TH h t a Θ root sz md) (d : decode cc pc = .ok (.getfield idx, 3)) (w : Cond.fieldLink own idx "java/util/TreeMap" "comparator" "Ljava/util/Comparator;" ∈ lw_all) (e : E K (pc + 3) l (.null :: st) h k) : E K pc l (.ref a :: st) h k := by
  obtain ⟨⟨nks, h1, h2⟩, -⟩ := T
  exact E.getf C d h1 rfl 2 w (by decide) rfl rfl e
theorem E.tgetSize (C : gC K own cc ret lev mc hh) (T : TH h t a Θ root sz md) (d : decode cc pc = .ok (.getfield idx, 3)) (w : Cond.fieldLink own idx "java/util/TreeMap" "size" "I" ∈ lw_all) (e : E K (pc + 3) l (.int sz :: st) h k) : E K pc l (.ref a :: st) h k := by
  obtain ⟨⟨nks, h1, h2⟩, -⟩ := T
  exact E.getf C d h1 rfl 4 w (by decide) rfl rfl e
theorem E.tgetMod (C : gC K own cc ret lev mc hh) (T : TH h t a Θ root sz md) (d : decode cc pc = .ok (.getfield idx, 3)) (w : Cond.fieldLink own idx "java/util/TreeMap" "modCount" "I" ∈ lw_all) (e : E K (pc + 3) l (.int md :: st) h k) : E K pc l (.ref a :: st) h k := by
  obtain ⟨⟨nks, h1, h2⟩, -⟩ := T
  exact E.getf C d h1 rfl 5 w (by decide) rfl rfl e
theorem E.tputRoot (C : gC K own cc ret lev mc hh) (T : TH h t a Θ root sz md) (ht : t ≠ 0) {v : Option Nat} (d : decode cc pc = .ok (.putfield idx, 3)) (w : Cond.fieldLink own idx "java/util/TreeMap" "root" eD ∈ lw_all) (e : ∀ u, TH u t a Θ v sz md → gfr t h u → E K (pc + 3) l st u k) : E K pc l (va_rf v :: .ref a :: st) h k := by
  obtain ⟨⟨nks, h1, h2⟩, h3⟩ := T
  refine E.put C d h1 ht rfl 3 w (by decide) rfl rfl (nar_rf _ _) (fit_rf _ _) (Nat.le_of_ble_eq_true rfl) ?_
  exact e _ (TH.map ⟨⟨nks, h1, h2⟩, h3⟩ ht h2) (gfr.up h1 rfl)
theorem E.tputSize (C : gC K own cc ret lev mc hh) (T : TH h t a Θ root sz md) (ht : t ≠ 0) {v : Int32} (d : decode cc pc = .ok (.putfield idx, 3)) (w : Cond.fieldLink own idx "java/util/TreeMap" "size" "I" ∈ lw_all) (e : ∀ u, TH u t a Θ root v md → gfr t h u → E K (pc + 3) l st u k) : E K pc l (.int v :: .ref a :: st) h k := by
  obtain ⟨⟨nks, h1, h2⟩, h3⟩ := T
  refine E.put C d h1 ht rfl 4 w (by decide) rfl rfl rfl rfl (Nat.le_of_ble_eq_true rfl) ?_
  exact e _ (TH.map ⟨⟨nks, h1, h2⟩, h3⟩ ht h2) (gfr.up h1 rfl)
theorem E.tputMod (C : gC K own cc ret lev mc hh) (T : TH h t a Θ root sz md) (ht : t ≠ 0) {v : Int32} (d : decode cc pc = .ok (.putfield idx, 3)) (w : Cond.fieldLink own idx "java/util/TreeMap" "modCount" "I" ∈ lw_all) (e : ∀ u, TH u t a Θ root sz v → gfr t h u → E K (pc + 3) l st u k) : E K pc l (.int v :: .ref a :: st) h k := by
  obtain ⟨⟨nks, h1, h2⟩, h3⟩ := T
  refine E.put C d h1 ht rfl 5 w (by decide) rfl rfl rfl rfl (Nat.le_of_ble_eq_true rfl) ?_
  exact e _ (TH.map ⟨⟨nks, h1, h2⟩, h3⟩ ht h2) (gfr.up h1 rfl)
end TROWS
section TLEAVES
variable {G : gG} {h : gH} {t a : Nat} {Θ : gT} {root : Option Nat} {sz md : Int32}
theorem m_parentOf (T : TH h t a Θ root sz md) (o r : Option Nat) (ho : ∀ b, o = some b → tS Θ b) (hr : o.bind (tP Θ) = r) : gMet 1 yJ19_parentOf cJ19_parentOf 1 (some (.object "java/util/TreeMap$Entry")) G h [va_rf o] (fun v u => v = some (va_rf r) ∧ u = h) gNo 0 := by
  subst hr
  cases o with
  | none =>
    show gMet 1 yJ19_parentOf cJ19_parentOf 1 (some (.object "java/util/TreeMap$Entry")) G h [.null] _ gNo 0
    refine gMet.of (by decide) (Nat.le_of_ble_eq_true rfl) (fun K C N hG hn hin => ?_)
    subst hG
    have kn_ : ∀ j : Nat, j < 1 → j < kn K := fun j hj => by rw [hn]; exact hj
    refine E.aload_n C dJ19_parentOf_0 rfl ?_
    refine E.ifnonnull0 C dJ19_parentOf_1 ?_
    refine E.null C dJ19_parentOf_4 ?_
    refine E.goto C dJ19_parentOf_5 (tgt := 12) (by decide) ?_
    refine E.endA C N dJ19_parentOf_12 (by omega) ?_
    exact ⟨rfl, rfl⟩
  | some b =>
    show gMet 1 yJ19_parentOf cJ19_parentOf 1 (some (.object "java/util/TreeMap$Entry")) G h [.ref b] _ gNo 0
    refine gMet.of (by decide) (Nat.le_of_ble_eq_true rfl) (fun K C N hG hn hin => ?_)
    subst hG
    have kn_ : ∀ j : Nat, j < 1 → j < kn K := fun j hj => by rw [hn]; exact hj
    refine E.aload_n C dJ19_parentOf_0 rfl ?_
    refine E.ifnonnull1 C dJ19_parentOf_1 (tgt := 8) (by decide) ?_
    refine E.aload_n C dJ19_parentOf_8 rfl ?_
    refine E.getf C dJ19_parentOf_9 ((T.en (ho b rfl))) rfl 4 q1131 (by decide) rfl rfl ?_
    refine E.endA C N dJ19_parentOf_12 (by omega) ?_ (hv := by cases tP Θ b with | none => exact Or.inl rfl | some z => exact Or.inr ⟨z, rfl⟩)
    exact ⟨rfl, rfl⟩
theorem m_leftOf (T : TH h t a Θ root sz md) (o r : Option Nat) (ho : ∀ b, o = some b → tS Θ b) (hr : o.bind (tL Θ) = r) : gMet 1 yJ19_leftOf cJ19_leftOf 1 (some (.object "java/util/TreeMap$Entry")) G h [va_rf o] (fun v u => v = some (va_rf r) ∧ u = h) gNo 0 := by
  subst hr
  cases o with
  | none =>
    show gMet 1 yJ19_leftOf cJ19_leftOf 1 (some (.object "java/util/TreeMap$Entry")) G h [.null] _ gNo 0
    refine gMet.of (by decide) (Nat.le_of_ble_eq_true rfl) (fun K C N hG hn hin => ?_)
    subst hG
    have kn_ : ∀ j : Nat, j < 1 → j < kn K := fun j hj => by rw [hn]; exact hj
    refine E.aload_n C dJ19_leftOf_0 rfl ?_
    refine E.ifnonnull0 C dJ19_leftOf_1 ?_
    refine E.null C dJ19_leftOf_4 ?_
    refine E.goto C dJ19_leftOf_5 (tgt := 12) (by decide) ?_
    refine E.endA C N dJ19_leftOf_12 (by omega) ?_
    exact ⟨rfl, rfl⟩
  | some b =>
    show gMet 1 yJ19_leftOf cJ19_leftOf 1 (some (.object "java/util/TreeMap$Entry")) G h [.ref b] _ gNo 0
    refine gMet.of (by decide) (Nat.le_of_ble_eq_true rfl) (fun K C N hG hn hin => ?_)
    subst hG
    have kn_ : ∀ j : Nat, j < 1 → j < kn K := fun j hj => by rw [hn]; exact hj
    refine E.aload_n C dJ19_leftOf_0 rfl ?_
    refine E.ifnonnull1 C dJ19_leftOf_1 (tgt := 8) (by decide) ?_
    refine E.aload_n C dJ19_leftOf_8 rfl ?_
    refine E.getf C dJ19_leftOf_9 ((T.en (ho b rfl))) rfl 2 q1128 (by decide) rfl rfl ?_
    refine E.endA C N dJ19_leftOf_12 (by omega) ?_ (hv := by cases tL Θ b with | none => exact Or.inl rfl | some z => exact Or.inr ⟨z, rfl⟩)
    exact ⟨rfl, rfl⟩
theorem m_rightOf (T : TH h t a Θ root sz md) (o r : Option Nat) (ho : ∀ b, o = some b → tS Θ b) (hr : o.bind (tR Θ) = r) : gMet 1 yJ19_rightOf cJ19_rightOf 1 (some (.object "java/util/TreeMap$Entry")) G h [va_rf o] (fun v u => v = some (va_rf r) ∧ u = h) gNo 0 := by
  subst hr
  cases o with
  | none =>
    show gMet 1 yJ19_rightOf cJ19_rightOf 1 (some (.object "java/util/TreeMap$Entry")) G h [.null] _ gNo 0
    refine gMet.of (by decide) (Nat.le_of_ble_eq_true rfl) (fun K C N hG hn hin => ?_)
    subst hG
    have kn_ : ∀ j : Nat, j < 1 → j < kn K := fun j hj => by rw [hn]; exact hj
    refine E.aload_n C dJ19_rightOf_0 rfl ?_
    refine E.ifnonnull0 C dJ19_rightOf_1 ?_
    refine E.null C dJ19_rightOf_4 ?_
    refine E.goto C dJ19_rightOf_5 (tgt := 12) (by decide) ?_
    refine E.endA C N dJ19_rightOf_12 (by omega) ?_
    exact ⟨rfl, rfl⟩
  | some b =>
    show gMet 1 yJ19_rightOf cJ19_rightOf 1 (some (.object "java/util/TreeMap$Entry")) G h [.ref b] _ gNo 0
    refine gMet.of (by decide) (Nat.le_of_ble_eq_true rfl) (fun K C N hG hn hin => ?_)
    subst hG
    have kn_ : ∀ j : Nat, j < 1 → j < kn K := fun j hj => by rw [hn]; exact hj
    refine E.aload_n C dJ19_rightOf_0 rfl ?_
    refine E.ifnonnull1 C dJ19_rightOf_1 (tgt := 8) (by decide) ?_
    refine E.aload_n C dJ19_rightOf_8 rfl ?_
    refine E.getf C dJ19_rightOf_9 ((T.en (ho b rfl))) rfl 3 q1129 (by decide) rfl rfl ?_
    refine E.endA C N dJ19_rightOf_12 (by omega) ?_ (hv := by cases tR Θ b with | none => exact Or.inl rfl | some z => exact Or.inr ⟨z, rfl⟩)
    exact ⟨rfl, rfl⟩
theorem m_colorOf (T : TH h t a Θ root sz md) (o : Option Nat) (r : Int32) (ho : ∀ b, o = some b → tS Θ b) (hr : (match o with | none => 1 | some b => tC Θ b) = r) : gMet 1 yJ19_colorOf cJ19_colorOf 1 (some .boolean) G h [va_rf o] (fun v u => v = some (.int r) ∧ u = h) gNo 0 := by
  subst hr
  cases o with
  | none =>
    show gMet 1 yJ19_colorOf cJ19_colorOf 1 (some .boolean) G h [.null] _ gNo 0
    refine gMet.of (by decide) (Nat.le_of_ble_eq_true rfl) (fun K C N hG hn hin => ?_)
    subst hG
    have kn_ : ∀ j : Nat, j < 1 → j < kn K := fun j hj => by rw [hn]; exact hj
    refine E.aload_n C dJ19_colorOf_0 rfl ?_
    refine E.ifnonnull0 C dJ19_colorOf_1 ?_
    refine E.iconst C dJ19_colorOf_4 (v := 1) (by decide) ?_
    refine E.goto C dJ19_colorOf_5 (tgt := 12) (by decide) ?_
    refine E.endZ C N dJ19_colorOf_12 (by first | rfl | assumption) (by omega) ?_
    exact ⟨rfl, rfl⟩
  | some b =>
    show gMet 1 yJ19_colorOf cJ19_colorOf 1 (some .boolean) G h [.ref b] _ gNo 0
    have hz := (nar_z (T.2.2 b (ho b rfl))).1
    refine gMet.of (by decide) (Nat.le_of_ble_eq_true rfl) (fun K C N hG hn hin => ?_)
    subst hG
    have kn_ : ∀ j : Nat, j < 1 → j < kn K := fun j hj => by rw [hn]; exact hj
    refine E.aload_n C dJ19_colorOf_0 rfl ?_
    refine E.ifnonnull1 C dJ19_colorOf_1 (tgt := 8) (by decide) ?_
    refine E.aload_n C dJ19_colorOf_8 rfl ?_
    refine E.getf C dJ19_colorOf_9 ((T.en (ho b rfl))) rfl 5 q1133 (by decide) rfl rfl ?_
    refine E.endZ C N dJ19_colorOf_12 (by first | rfl | assumption) (by omega) ?_
    exact ⟨rfl, rfl⟩
/-- setColor: of no node, nothing -/
theorem m_setColor0 (c : Int32) : gMet 1 yJ19_setColor cJ19_setColor 2 none G h [.null, .int c] (fun v u => v = none ∧ u = h) gNo 0 := by
  refine gMet.of (by decide) (Nat.le_of_ble_eq_true rfl) (fun K C N hG hn hin => ?_)
  subst hG
  have kn_ : ∀ j : Nat, j < 2 → j < kn K := fun j hj => by rw [hn]; exact hj
  refine E.aload_n C dJ19_setColor_0 rfl ?_
  refine E.ifnull0 C dJ19_setColor_1 (tgt := 9) (by decide) ?_
  refine E.endV C N dJ19_setColor_9 (by omega) ?_
  exact ⟨rfl, rfl⟩
theorem m_setColor (T : TH h t a Θ root sz md) (ht : t ≠ 0) (b : Nat) (c : Int32) (hb : tS Θ b) (hc : c = 0 ∨ c = 1) : gMet 1 yJ19_setColor cJ19_setColor 2 none G h [.ref b, .int c] (fun v u => v = none ∧ TH u t a (sC Θ b c) root sz md ∧ gfr t h u) gNo 0 := by
  refine gMet.of (by decide) (Nat.le_of_ble_eq_true rfl) (fun K C N hG hn hin => ?_)
  subst hG
  have kn_ : ∀ j : Nat, j < 2 → j < kn K := fun j hj => by rw [hn]; exact hj
  refine E.aload_n C dJ19_setColor_0 rfl ?_
  refine E.ifnull1 C dJ19_setColor_1 ?_
  refine E.aload_n C dJ19_setColor_4 rfl ?_
  refine E.iload_n C dJ19_setColor_5 rfl ?_
  refine E.tputC C T (ht := ht) (d := dJ19_setColor_6) (w := q1133) (hq := hb) (hv := hc) ?_
  intro u Tu fu
  refine E.endV C N dJ19_setColor_9 (by omega) ?_
  exact ⟨rfl, Tu, fu⟩
end TLEAVES
