/-! JDK: TreeMap's key iterator, its set of keys -/
set_option maxRecDepth 100000
section IROWS
variable {K : gK} {own : String} {cc : ByteArray} {ret : Option FieldType} {lev mc : Nat} {hh : List (Nat × Nat × Nat × Nat)}
variable {pc k : Nat} {l : List (Nat × Value)} {st : List Value} {h : gH}
theorem E.instS (C : gC K own cc ret lev mc hh) {a idx : Nat} {nm : String} (w : Cond.classLink own idx nm ∈ lw_all) (hv : gRv h a nm) (d : decode cc pc = .ok (.instanceof idx, 3)) (hat : ∃ cC, ClassAt (ks K) nm cC) (e : E K (pc + 3) l (.int 1 :: st) h k) : E K pc l (.ref a :: st) h k := fun H locs ls hp hs hl => by
  obtain ⟨cC, hat⟩ := hat
  exact va_instS C.x C.b C.ow (C.ts _ w) hat (hv.cell hp C.tb) d (e H locs ls hp hs hl)
end IROWS
/-- the keys in their order: n of them -/
def Srt (n : Nat) (f : Nat → Int32) : Prop := ∀ i j, i < j → j < n → (f i).toInt < (f j).toInt
/-- a map with n keys f 0 < f 1 < .., values vf -/
def gM (h : gH) (t a : Nat) (Θ : gT) (n : Nat) (f : Nat → Int32) (vf : Int32 → Nat) (md : Int32) : Prop :=
  TT h t a Θ (nI n) md ∧ n < 2 ^ 30 ∧ Srt n f ∧ ∀ k w, Ct Θ k w ↔ ∃ i, i < n ∧ f i = k ∧ w = some (vf k)
/-- an iterator's next entry, before the key i -/
def IP (Θ : gT) (n : Nat) (f : Nat → Int32) (r : Option Nat) (i : Nat) : Prop := (i < n → ∃ q, r = some q ∧ tS Θ q ∧ tK Θ q = f i) ∧ (n ≤ i → r = none)
theorem gM.k {h : gH} {t a n : Nat} {Θ : gT} {f : Nat → Int32} {vf : Int32 → Nat} {md : Int32} (M : gM h t a Θ n f vf md) {q : Nat} (hq : tS Θ q) : ∃ i, i < n ∧ f i = tK Θ q ∧ tV Θ q = some (vf (tK Θ q)) := (M.2.2.2 _ _).mp ⟨q, hq, rfl, rfl⟩
theorem gM.i {h : gH} {t a n : Nat} {Θ : gT} {f : Nat → Int32} {vf : Int32 → Nat} {md : Int32} (M : gM h t a Θ n f vf md) {i : Nat} (hi : i < n) : ∃ q, tS Θ q ∧ tK Θ q = f i ∧ tV Θ q = some (vf (f i)) := (M.2.2.2 (f i) (some (vf (f i)))).mpr ⟨i, hi, rfl, rfl⟩
theorem gM.mono {h u : gH} {t a n : Nat} {Θ : gT} {f : Nat → Int32} {vf : Int32 → Nat} {md : Int32} (M : gM h t a Θ n f vf md) (k : gle h u) : gM u t a Θ n f vf md := ⟨M.1.mono k, M.2⟩
theorem gM.fr {h u : gH} {t t' a n : Nat} {Θ : gT} {f : Nat → Int32} {vf : Int32 → Nat} {md : Int32} (M : gM h t a Θ n f vf md) (ht : t ≠ 0) (ht' : t' ≠ 0) (k : gfr t' h u) (n9 : t ≠ t') : gM u t a Θ n f vf md := ⟨M.1.fr ht ht' k n9, M.2⟩
theorem Srt.inj {n : Nat} {f : Nat → Int32} (s : Srt n f) {i j : Nat} (hi : i < n) (hj : j < n) (e : f i = f j) : i = j := by
  rcases Nat.lt_trichotomy i j with c | c | c
  · have := s i j c hj; rw [e] at this; omega
  · exact c
  · have := s j i c hi; rw [e] at this; omega
theorem Srt.le {n : Nat} {f : Nat → Int32} (s : Srt n f) {i j : Nat} (hi : i < n) (e : (f i).toInt < (f j).toInt) : i < j := by
  rcases Nat.lt_trichotomy i j with c | c | c
  · exact c
  · rw [c] at e; omega
  · have := s j i c hi; omega
theorem IP.first {h : gH} {t a n : Nat} {Θ : gT} {f : Nat → Int32} {vf : Int32 → Nat} {md : Int32} (M : gM h t a Θ n f vf md) {r : Option Nat} {gk : Nat → Int} (g : tG Θ gk) (h1 : ∀ q, r = some q → tS Θ q ∧ ∀ c, tS Θ c → ¬ gk c < gk q) (h2 : r = none → ∀ c, ¬ tS Θ c) : IP Θ n f r 0 := by
  constructor
  · intro hn
    obtain ⟨q0, s0, k0, -⟩ := M.i hn
    cases r with
    | none => exact absurd s0 (h2 rfl q0)
    | some q =>
      obtain ⟨sq, mq⟩ := h1 q rfl
      refine ⟨q, rfl, sq, ?_⟩
      obtain ⟨j, hj, ej, -⟩ := M.k sq
      rcases Nat.eq_zero_or_pos j with c | c
      · rw [c] at ej; exact ej.symm
      · have := M.2.2.1 0 j c hj
        have z := mq q0 s0
        rw [g q0 s0, g q sq, k0, ← ej] at z
        omega
  · intro hn
    cases r with
    | none => rfl
    | some q =>
      obtain ⟨j, hj, -⟩ := M.k (h1 q rfl).1
      omega
theorem IP.nx {h : gH} {t a n : Nat} {Θ : gT} {f : Nat → Int32} {vf : Int32 → Nat} {md : Int32} (M : gM h t a Θ n f vf md) {r : Option Nat} {gk : Nat → Int} (g : tG Θ gk) {p i : Nat} (hp : tS Θ p) (hi : i < n) (ep : tK Θ p = f i) (x : tNx Θ gk p r) : IP Θ n f r (i + 1) := by
  obtain ⟨x1, x2⟩ := x
  have gp := g p hp
  rw [ep] at gp
  constructor
  · intro hn
    obtain ⟨q0, s0, k0, -⟩ := M.i hn
    have g0 := g q0 s0
    rw [k0] at g0
    have m0 := M.2.2.1 i (i + 1) (Nat.lt_succ_self i) hn
    cases r with
    | none => exact absurd (by omega) (x2 rfl q0 s0)
    | some q =>
      obtain ⟨sq, lq, mq⟩ := x1 q rfl
      refine ⟨q, rfl, sq, ?_⟩
      obtain ⟨j, hj, ej, -⟩ := M.k sq
      have gq := g q sq
      rw [← ej] at gq
      have c1 : i < j := M.2.2.1.le hi (by omega)
      rcases Nat.lt_or_eq_of_le c1 with c2 | c2
      · have := M.2.2.1 (i + 1) j c2 hj
        exact absurd ⟨by omega, by omega⟩ (mq q0 s0)
      · rw [show i + 1 = j from c2]; exact ej.symm
  · intro hn
    cases r with
    | none => rfl
    | some q =>
      obtain ⟨sq, lq, mq⟩ := x1 q rfl
      obtain ⟨j, hj, ej, -⟩ := M.k sq
      have gq := g q sq
      rw [← ej] at gq
      have c1 : i < j := M.2.2.1.le hi (by omega)
      omega
section TITER
variable {G : gG} {h : gH} {t a : Nat} {Θ : gT} {sz md : Int32}
theorem m_J18_init {t9 : Nat} {x : va_E} (h1 : h a = some (t9, x)) : gMet 1 yJ18_init cJ18_init 1 none G h [.ref a] (fun v u => v = none ∧ u = h) gNo 0 := by
  refine gMet.of (by decide) (Nat.le_of_ble_eq_true rfl) (fun K C N hG hn hin => ?_)
  subst hG
  have kn_ : ∀ j : Nat, j < 1 → j < kn K := fun j hj => by rw [hn]; exact hj
  refine E.aload_n C dJ18_init_0 rfl ?_
  refine E.objInit C q467 q108 q109 dJ18_init_1 (by decide) (Nat.le_of_ble_eq_true rfl) ?_
  refine E.endV C N dJ18_init_4 (by omega) ?_
  exact ⟨rfl, rfl⟩
theorem m_tinit (ht : t ≠ 0) (h1 : h a = some (t, .inr (7, [.null, .null, .null, .null, .int 0, .int 0, .null, .null, .null]))) : gMet 3 yJ19_init cJ19_init 1 none G h [.ref a] (fun v u => v = none ∧ u = h) gNo 0 := by
  refine gMet.of (by decide) (Nat.le_of_ble_eq_true rfl) (fun K C N hG hn hin => ?_)
  subst hG
  have kn_ : ∀ j : Nat, j < 1 → j < kn K := fun j hj => by rw [hn]; exact hj
  refine E.aload_n C dJ19_init_0 rfl ?_
  refine E.callI C (m_J18_init h1) dJ19_init_1 q464 q465 q74 q466 mh_J18_init rfl (by decide) (by decide) rfl (Nat.le_of_ble_eq_true rfl) (by omega) (fun _ _ hx => hx.elim) ?_
  rintro v u ⟨rfl, rfl⟩
  refine E.aload_n C dJ19_init_4 rfl ?_
  refine E.iconst C dJ19_init_5 (v := 0) (by decide) ?_
  refine E.put C dJ19_init_6 h1 (by first | decide | assumption) rfl 4 q470 (by decide) rfl rfl (by first | rfl | exact nar_rf _ _ | assumption) (by first | rfl | exact fit_rf _ _ | assumption) (Nat.le_of_ble_eq_true rfl) ?_
  refine E.aload_n C dJ19_init_9 rfl ?_
  refine E.iconst C dJ19_init_10 (v := 0) (by decide) ?_
  refine E.put C dJ19_init_11 gu_s (by first | decide | assumption) rfl 5 q471 (by decide) rfl rfl (by first | rfl | exact nar_rf _ _ | assumption) (by first | rfl | exact fit_rf _ _ | assumption) (Nat.le_of_ble_eq_true rfl) ?_
  refine E.aload_n C dJ19_init_14 rfl ?_
  refine E.null C dJ19_init_15 ?_
  refine E.putF C dJ19_init_16 gu_s (by first | decide | assumption) rfl 2 q468 hin (by decide) rfl rfl rfl (by first | rfl | exact nar_rf _ _ | assumption) (by first | rfl | exact fit_rf _ _ | assumption) (Nat.le_of_ble_eq_true rfl) ?_
  refine E.endV C N dJ19_init_19 (by omega) ?_
  refine ⟨rfl, ?_⟩
  simp only [gu_uu]
  exact gu_self h1
theorem m_getFirstEntry {root : Option Nat} {gk : Nat → Int} {lq hq : Nat → Option Nat} {lo hi : Nat → Int} (T : TH h t a Θ root sz md) (I : TI (tS Θ) gk (tL Θ) (tR Θ) (tP Θ) root lq hq lo hi) (hB : ∀ q, tS Θ q → gk q < tB ∧ -tB < gk q) :
    gMet 1 yJ19_getFirstEntry cJ19_getFirstEntry 2 (some (.object "java/util/TreeMap$Entry")) G h [.ref a] (fun v u => u = h ∧ ∃ r, v = some (va_rf r) ∧ (∀ q, r = some q → tS Θ q ∧ ∀ c, tS Θ c → ¬ gk c < gk q) ∧ (r = none → ∀ c, ¬ tS Θ c)) gNo 0 := by
  obtain ⟨h1, h2, h3, h4, h5, h6, h7, h8, h9, h10, h11, h12, h13⟩ := I
  refine gMet.of (by decide) (Nat.le_of_ble_eq_true rfl) (fun K C N hG hn hin => ?_)
  subst hG
  have kn_ : ∀ j : Nat, j < 2 → j < kn K := fun j hj => by rw [hn]; exact hj
  have lp : ∀ (n q : Nat), tS Θ q → lo q = -tB → (hi q - lo q).toNat < n → E K 9 [(0, .ref a), (1, .ref q)] [] h 0 := by
    intro n
    induction n with
    | zero => intro q _ _ c; exact absurd c (Nat.not_lt_zero _)
    | succ n ih =>
      intro q c1 c2 c3
      have hcl : tL Θ q = none ∨ ∃ g, tL Θ q = some g := by cases tL Θ q <;> simp
      refine E.aload_n C dJ19_getFirstEntry_9 rfl ?_
      refine E.getf C dJ19_getFirstEntry_10 ((T.en c1)) rfl 2 q1128 (by decide) rfl rfl ?_
      rcases hcl with e | ⟨b, e⟩
      · refine E.rv (congrArg va_rf e) ?_
        refine E.ifnull0 C dJ19_getFirstEntry_13 (tgt := 24) (by decide) ?_
        refine E.aload_n C dJ19_getFirstEntry_24 rfl ?_
        refine E.endA C N dJ19_getFirstEntry_25 (by omega) ?_
        refine ⟨rfl, some q, rfl, fun z hz => ?_, fun z => by cases z⟩
        cases hz
        exact ⟨c1, fun c hc hx => h6 q c c1 e hc ⟨by rw [c2]; exact (hB c hc).2, hx⟩⟩
      · refine E.rv (congrArg va_rf e) ?_
        refine E.ifnull1 C dJ19_getFirstEntry_13 ?_
        refine E.aload_n C dJ19_getFirstEntry_16 rfl ?_
        refine E.getf C dJ19_getFirstEntry_17 ((T.en c1)) rfl 2 q1128 (by decide) rfl rfl ?_
        refine E.rv (congrArg va_rf e) ?_
        refine E.astore_n C dJ19_getFirstEntry_20 (kn_ _ (by decide)) ?_
        refine E.goto C dJ19_getFirstEntry_21 (tgt := 9) (by decide) ?_
        have r1 := h2 q b c1 e
        have r2 := h1 b r1.1
        have r3 := h1 q c1
        exact ih b r1.1 (by rw [r1.2.2.1]; exact c2) (by rw [r1.2.2.1, r1.2.2.2.1]; omega)
  refine E.aload_n C dJ19_getFirstEntry_0 rfl ?_
  refine E.tgetRoot C T dJ19_getFirstEntry_1 q469 ?_
  cases root with
  | none =>
    refine E.astore_n C dJ19_getFirstEntry_4 (kn_ _ (by decide)) ?_
    refine E.aload_n C dJ19_getFirstEntry_5 rfl ?_
    refine E.ifnull0 C dJ19_getFirstEntry_6 (tgt := 24) (by decide) ?_
    refine E.aload_n C dJ19_getFirstEntry_24 rfl ?_
    refine E.endA C N dJ19_getFirstEntry_25 (by omega) ?_
    exact ⟨rfl, none, rfl, (fun q z => by cases z), fun _ => h9 rfl⟩
  | some r =>
    refine E.astore_n C dJ19_getFirstEntry_4 (kn_ _ (by decide)) ?_
    refine E.aload_n C dJ19_getFirstEntry_5 rfl ?_
    refine E.ifnull1 C dJ19_getFirstEntry_6 ?_
    obtain ⟨r1, r2⟩ := h8 r rfl
    exact lp _ r r1 (h4 r r1 r2).2.1 (Nat.lt_succ_self _)
/-- an iterator over a map's keys -/
abbrev kit (a : Nat) (r x : Option Nat) (md : Int32) : va_E := .inr (11, [va_rf r, va_rf x, .int md, .ref a])
theorem m_J35_init {root : Option Nat} (T : TH h t a Θ root sz md) {it ti : Nat} (hti : ti ≠ 0) (r : Option Nat) (h1 : h it = some (ti, .inr (11, [.null, .null, .int 0, .null]))) : gMet 2 yJ35_init cJ35_init 3 none G h [.ref it, .ref a, va_rf r] (fun v u => v = none ∧ u = gu h it (ti, kit a r none md)) gNo 0 := by
  obtain ⟨⟨nks, m1, m2⟩, -⟩ := T
  have hne : a ≠ it := ne_of_some m1 h1 (fun c => by cases c)
  cases r with
  | none =>
    show gMet 2 yJ35_init cJ35_init 3 none G h [.ref it, .ref a, .null] _ gNo 0
    refine gMet.of (by decide) (Nat.le_of_ble_eq_true rfl) (fun K C N hG hn hin => ?_)
    subst hG
    have kn_ : ∀ j : Nat, j < 3 → j < kn K := fun j hj => by rw [hn]; exact hj
    refine E.aload_n C dJ35_init_0 rfl ?_
    refine E.aload_n C dJ35_init_1 rfl ?_
    refine E.putF C dJ35_init_2 h1 (by first | decide | assumption) rfl 3 q1083 hin (by decide) rfl rfl rfl (by first | rfl | exact nar_rf _ _ | assumption) (by first | rfl | exact fit_rf _ _ | assumption) (Nat.le_of_ble_eq_true rfl) ?_
    have hm : (gu h it (ti, .inr (11, [.null, .null, .int 0, .ref a]))) a = some (t, mapo root sz md nks) := by rw [gu_n hne]; exact m1
    refine E.aload_n C dJ35_init_5 rfl ?_
    refine E.objInit C q1079 q108 q109 dJ35_init_6 (by decide) (Nat.le_of_ble_eq_true rfl) ?_
    refine E.aload_n C dJ35_init_9 rfl ?_
    refine E.aload_n C dJ35_init_10 rfl ?_
    refine E.getfN C dJ35_init_11 hm rfl 5 nq472 (by decide) rfl rfl ?_
    refine E.put C dJ35_init_14 gu_s (by first | decide | assumption) rfl 2 q1082 (by decide) rfl rfl (by first | rfl | exact nar_rf _ _ | assumption) (by first | rfl | exact fit_rf _ _ | assumption) (Nat.le_of_ble_eq_true rfl) ?_
    refine E.aload_n C dJ35_init_17 rfl ?_
    refine E.null C dJ35_init_18 ?_
    refine E.put C dJ35_init_19 gu_s (by first | decide | assumption) rfl 1 q1081 (by decide) rfl rfl (by first | rfl | exact nar_rf _ _ | assumption) (by first | rfl | exact fit_rf _ _ | assumption) (Nat.le_of_ble_eq_true rfl) ?_
    refine E.aload_n C dJ35_init_22 rfl ?_
    refine E.aload_n C dJ35_init_23 rfl ?_
    refine E.put C dJ35_init_24 gu_s (by first | decide | assumption) rfl 0 q1080 (by decide) rfl rfl (by first | rfl | exact nar_rf _ _ | assumption) (by first | rfl | exact fit_rf _ _ | assumption) (Nat.le_of_ble_eq_true rfl) ?_
    refine E.endV C N dJ35_init_27 (by omega) ?_
    exact ⟨rfl, by simp only [gu_uu]; rfl⟩
  | some b =>
    show gMet 2 yJ35_init cJ35_init 3 none G h [.ref it, .ref a, .ref b] _ gNo 0
    refine gMet.of (by decide) (Nat.le_of_ble_eq_true rfl) (fun K C N hG hn hin => ?_)
    subst hG
    have kn_ : ∀ j : Nat, j < 3 → j < kn K := fun j hj => by rw [hn]; exact hj
    refine E.aload_n C dJ35_init_0 rfl ?_
    refine E.aload_n C dJ35_init_1 rfl ?_
    refine E.putF C dJ35_init_2 h1 (by first | decide | assumption) rfl 3 q1083 hin (by decide) rfl rfl rfl (by first | rfl | exact nar_rf _ _ | assumption) (by first | rfl | exact fit_rf _ _ | assumption) (Nat.le_of_ble_eq_true rfl) ?_
    have hm : (gu h it (ti, .inr (11, [.null, .null, .int 0, .ref a]))) a = some (t, mapo root sz md nks) := by rw [gu_n hne]; exact m1
    refine E.aload_n C dJ35_init_5 rfl ?_
    refine E.objInit C q1079 q108 q109 dJ35_init_6 (by decide) (Nat.le_of_ble_eq_true rfl) ?_
    refine E.aload_n C dJ35_init_9 rfl ?_
    refine E.aload_n C dJ35_init_10 rfl ?_
    refine E.getfN C dJ35_init_11 hm rfl 5 nq472 (by decide) rfl rfl ?_
    refine E.put C dJ35_init_14 gu_s (by first | decide | assumption) rfl 2 q1082 (by decide) rfl rfl (by first | rfl | exact nar_rf _ _ | assumption) (by first | rfl | exact fit_rf _ _ | assumption) (Nat.le_of_ble_eq_true rfl) ?_
    refine E.aload_n C dJ35_init_17 rfl ?_
    refine E.null C dJ35_init_18 ?_
    refine E.put C dJ35_init_19 gu_s (by first | decide | assumption) rfl 1 q1081 (by decide) rfl rfl (by first | rfl | exact nar_rf _ _ | assumption) (by first | rfl | exact fit_rf _ _ | assumption) (Nat.le_of_ble_eq_true rfl) ?_
    refine E.aload_n C dJ35_init_22 rfl ?_
    refine E.aload_n C dJ35_init_23 rfl ?_
    refine E.put C dJ35_init_24 gu_s (by first | decide | assumption) rfl 0 q1080 (by decide) rfl rfl (by first | rfl | exact nar_rf _ _ | assumption) (by first | rfl | exact fit_rf _ _ | assumption) (Nat.le_of_ble_eq_true rfl) ?_
    refine E.endV C N dJ35_init_27 (by omega) ?_
    exact ⟨rfl, by simp only [gu_uu]; rfl⟩
end TITER
