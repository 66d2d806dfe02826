/-! JDK: TreeMap's repair ahead of or behind a deletion -/
set_option maxRecDepth 100000
abbrev sCO (Θ : gT) (o : Option Nat) (v : Int32) : gT := (tS Θ, tK Θ, tX Θ, tV Θ, tL Θ, tR Θ, tP Θ, fun z => if o = some z then v else tC Θ z)
theorem rotL_lf {S : Nat → Prop} {gk : Nat → Int} {L R P : Nat → Option Nat} {root : Option Nat} {lq hq : Nat → Option Nat} {lo hi : Nat → Int} {p r z : Nat} (h : TI S gk L R P root lq hq lo hi) (hp : S p) (h1 : z ≠ p) (h2 : z ≠ r) (h3 : L z = none) (h4 : R z = none) : rLl L P p r z = none ∧ rLr L R P p r z = none := by
  have h5 := h.2.2.2.2.1 p z hp
  unfold rLl rLr
  grind
theorem rotR_lf {S : Nat → Prop} {gk : Nat → Int} {L R P : Nat → Option Nat} {root : Option Nat} {lq hq : Nat → Option Nat} {lo hi : Nat → Int} {p r z : Nat} (h : TI S gk L R P root lq hq lo hi) (hp : S p) (h1 : z ≠ p) (h2 : z ≠ r) (h3 : L z = none) (h4 : R z = none) : rRl L R P p r z = none ∧ rRr R P p r z = none := by
  have h5 := h.2.2.2.2.1 p z hp
  unfold rRl rRr
  grind
/-- the sibling w of x comes up: x and its place -/
theorem rotL_x {S : Nat → Prop} {gk : Nat → Int} {L R P : Nat → Option Nat} {root : Option Nat} {lq hq : Nat → Option Nat} {lo hi : Nat → Int} {x q w : Nat} (h : TI S gk L R P root lq hq lo hi) (sq : S q) (hx : L q = some x) (hw : R q = some w) :
    rLl L P q w q = some x ∧ rLr L R P q w q = L w ∧ rLp L P q w x = some q ∧ (if x = w then lo q else lo x) = lo x ∧ (if x = q then gk w else hi x) = hi x := by
  obtain ⟨h1, h2, h3, h4, h5, -⟩ := h
  have a1 := h2 q x sq hx
  have a2 := h3 q w sq hw
  have a3 := h1 q sq
  have a4 := h1 x a1.1
  have a5 := h1 w a2.1
  have a6 := h5 q q sq
  have a7 := h2 w x a2.1
  have a8 := h2 q q sq
  have a9 := h3 q q sq
  unfold rLl rLr rLp
  refine ⟨?_, ?_, ?_, ?_, ?_⟩ <;> grind
theorem rotR_x {S : Nat → Prop} {gk : Nat → Int} {L R P : Nat → Option Nat} {root : Option Nat} {lq hq : Nat → Option Nat} {lo hi : Nat → Int} {x q w : Nat} (h : TI S gk L R P root lq hq lo hi) (sq : S q) (hx : R q = some x) (hw : L q = some w) :
    rRr R P q w q = some x ∧ rRl L R P q w q = R w ∧ rRp R P q w x = some q ∧ (if x = w then hi q else hi x) = hi x ∧ (if x = q then gk w else lo x) = lo x := by
  obtain ⟨h1, h2, h3, h4, h5, -⟩ := h
  have a1 := h3 q x sq hx
  have a2 := h2 q w sq hw
  have a3 := h1 q sq
  have a4 := h1 x a1.1
  have a5 := h1 w a2.1
  have a6 := h5 q q sq
  have a7 := h3 w x a2.1
  have a8 := h2 q q sq
  have a9 := h3 q q sq
  unfold rRl rRr rRp
  refine ⟨?_, ?_, ?_, ?_, ?_⟩ <;> grind
/-- the sibling w of x goes down under its child l -/
theorem rotR_w {S : Nat → Prop} {gk : Nat → Int} {L R P : Nat → Option Nat} {root : Option Nat} {lq hq : Nat → Option Nat} {lo hi : Nat → Int} {x q w l : Nat} (h : TI S gk L R P root lq hq lo hi) (sq : S q) (hx : L q = some x) (hw : R q = some w) (hl : L w = some l) :
    rRl L R P w l q = some x ∧ rRr R P w l q = some l ∧ rRp R P w l x = some q ∧ (if x = w then gk l else lo x) = lo x ∧ (if x = l then hi w else hi x) = hi x := by
  obtain ⟨h1, h2, h3, h4, h5, -⟩ := h
  have a1 := h2 q x sq hx
  have a2 := h3 q w sq hw
  have a3 := h1 q sq
  have a4 := h1 x a1.1
  have a5 := h1 w a2.1
  have b1 := h2 w l a2.1 hl
  have b2 := h1 l b1.1
  have a7 := h3 l x b1.1
  unfold rRl rRr rRp
  refine ⟨?_, ?_, ?_, ?_, ?_⟩ <;> grind
theorem rotL_w {S : Nat → Prop} {gk : Nat → Int} {L R P : Nat → Option Nat} {root : Option Nat} {lq hq : Nat → Option Nat} {lo hi : Nat → Int} {x q w l : Nat} (h : TI S gk L R P root lq hq lo hi) (sq : S q) (hx : R q = some x) (hw : L q = some w) (hl : R w = some l) :
    rLr L R P w l q = some x ∧ rLl L P w l q = some l ∧ rLp L P w l x = some q ∧ (if x = w then gk l else hi x) = hi x ∧ (if x = l then lo w else lo x) = lo x := by
  obtain ⟨h1, h2, h3, h4, h5, -⟩ := h
  have a1 := h3 q x sq hx
  have a2 := h2 q w sq hw
  have a3 := h1 q sq
  have a4 := h1 x a1.1
  have a5 := h1 w a2.1
  have b1 := h3 w l a2.1 hl
  have b2 := h1 l b1.1
  have a7 := h2 l x b1.1
  have a8 := h2 q l sq
  unfold rLl rLr rLp
  refine ⟨?_, ?_, ?_, ?_, ?_⟩ <;> grind
theorem gMet.mono {lev : Nat} {y : MethodName} {cc : ByteArray} {nL : Nat} {ret : Option FieldType} {G : gG} {h : gH} {As : List Value} {Ret Ret' : Option Value → gH → Prop} {Thr Thr' : String → gH → Prop} {mc : Nat} (M : gMet lev y cc nL ret G h As Ret Thr mc) (f : ∀ v u, Ret v u → Ret' v u) (f2 : ∀ e u, Thr e u → Thr' e u) : gMet lev y cc nL ret G h As Ret' Thr' mc := by
  intro l hl p e a1 a2 a3 s m args below b1 b2 b3 b4
  obtain ⟨n, o, c1, c2, c3, c4⟩ := M l hl p e a1 a2 a3 s m args below b1 b2 b3 b4
  refine ⟨n, o, c1, c2, c3, ?_⟩
  rcases c4 with ⟨⟨⟨v, u, e, r, hp⟩, F⟩, x⟩ | ⟨q, ho, E, ce, L, ⟨⟨u, r, hp⟩, F⟩, x⟩
  · exact Or.inl ⟨⟨⟨v, u, e, f v u r, hp⟩, F⟩, x⟩
  · exact Or.inr ⟨q, ho, E, ce, L, ⟨⟨u, f2 E u r, hp⟩, F⟩, x⟩
section TFIXD
variable {G : gG} {h : gH} {t a : Nat} {Θ : gT} {root : Option Nat} {sz md : Int32} {gk : Nat → Int} {lq hq : Nat → Option Nat} {lo hi : Nat → Int}
theorem m_setColorO (T : TH h t a Θ root sz md) (ht : t ≠ 0) (o : Option Nat) (c : Int32) (ho : ∀ b, o = some b → tS Θ b) (hc : c = 0 ∨ c = 1) : gMet 1 yJ19_setColor cJ19_setColor 2 none G h [va_rf o, .int c] (fun v u => v = none ∧ TH u t a (sCO Θ o c) root sz md ∧ gfr t h u) gNo 0 := by
  cases o with
  | none =>
    refine (m_setColor0 c).mono (fun v u q => ?_) (fun _ _ z => z)
    obtain ⟨rfl, rfl⟩ := q
    refine ⟨rfl, ?_, gfr.rf⟩
    have e : sCO Θ none c = Θ := rfl
    rw [e]; exact T
  | some b =>
    refine (m_setColor T ht b c (ho b rfl) hc).mono (fun v u q => ?_) (fun _ _ z => z)
    obtain ⟨rfl, q1, q2⟩ := q
    refine ⟨rfl, ?_, q2⟩
    have e : sCO Θ (some b) c = sC Θ b c := by
      unfold sCO sC va_up
      congr 7
      funext z
      by_cases e : b = z
      · subst e; simp
      · simp [e, Ne.symm e]
    rw [e]; exact q1
set_option maxHeartbeats 8000000 in
theorem m_fixAfterDeletion (T : TH h t a Θ root sz md) (ht : t ≠ 0) (I : TI (tS Θ) gk (tL Θ) (tR Θ) (tP Θ) root lq hq lo hi) (hB : ∀ q, tS Θ q → gk q < tB ∧ -tB < gk q) {x0 : Nat} (hx0 : tS Θ x0) (Lk : Nat → Prop) (hLk : ∀ z, Lk z → tL Θ z = none ∧ tR Θ z = none ∧ lo x0 < gk z ∧ gk z < hi x0) :
    gMet 2 yJ19_fixAfterDeletion cJ19_fixAfterDeletion 3 none G h [.ref a, .ref x0] (fun v u => v = none ∧ gfr t h u ∧ ∃ Θ' root' lq' hq' lo' hi', TH u t a Θ' root' sz md ∧ tEq Θ Θ' ∧ TI (tS Θ') gk (tL Θ') (tR Θ') (tP Θ') root' lq' hq' lo' hi' ∧ ∀ z, Lk z → tL Θ' z = none ∧ tR Θ' z = none) gNo 0 := by
  refine gMet.of (by decide) (Nat.le_of_ble_eq_true rfl) (fun K C N hG hn hin => ?_)
  subst hG
  have kn_ : ∀ j : Nat, j < 3 → j < kn K := fun j hj => by rw [hn]; exact hj
  have kx : ∀ (u : gH) (Θ1 : gT) (root1 : Option Nat) (lq1 hq1 : Nat → Option Nat) (lo1 hi1 : Nat → Int) (cur : Option Nat), TH u t a Θ1 root1 sz md → gfr t h u → tEq Θ Θ1 → TI (tS Θ1) gk (tL Θ1) (tR Θ1) (tP Θ1) root1 lq1 hq1 lo1 hi1 → (∀ b, cur = some b → tS Θ1 b) → (∀ z, Lk z → tL Θ1 z = none ∧ tR Θ1 z = none) → E K 345 [(0, .ref a), (1, va_rf cur)] [] u 0 := by
    intro u Θ1 root1 lq1 hq1 lo1 hi1 cur Tu fu eu Iu hc hl
    refine E.aload_n C dJ19_fixAfterDeletion_345 rfl ?_
    refine E.iconst C dJ19_fixAfterDeletion_346 (v := 1) (by decide) ?_
    refine E.callS C (m_setColorO Tu ht cur 1 hc (Or.inr rfl)) dJ19_fixAfterDeletion_347 q1167 q1168 q75 q1169 mh_J19_setColor (by decide) (by decide) rfl (Nat.le_of_ble_eq_true rfl) (by omega) (fun _ _ hx => hx.elim) ?_
    rintro v u2 ⟨rfl, T2, f2⟩
    refine E.endV C N dJ19_fixAfterDeletion_350 (by omega) ?_
    exact ⟨rfl, fu.tr f2, _, _, _, _, _, _, T2, eu.tr ⟨rfl, rfl, rfl, rfl⟩, Iu, hl⟩
  have kroot : ∀ (u : gH) (Θ1 : gT) (root1 : Option Nat) (lq1 hq1 : Nat → Option Nat) (lo1 hi1 : Nat → Int), TH u t a Θ1 root1 sz md → gfr t h u → tEq Θ Θ1 → TI (tS Θ1) gk (tL Θ1) (tR Θ1) (tP Θ1) root1 lq1 hq1 lo1 hi1 → (∀ z, Lk z → tL Θ1 z = none ∧ tR Θ1 z = none) → E K 0 [(0, .ref a), (1, va_rf root1)] [] u 0 := by
    intro u Θ1 root1 lq1 hq1 lo1 hi1 Tu fu eu Iu hl
    refine E.aload_n C dJ19_fixAfterDeletion_0 rfl ?_
    refine E.aload_n C dJ19_fixAfterDeletion_1 rfl ?_
    refine E.tgetRoot C Tu dJ19_fixAfterDeletion_2 q469 ?_
    refine E.acmp_eq (x := root1) (y := root1) C dJ19_fixAfterDeletion_5 (tgt := 345) (by decide) (fun c => ?_) (fun c => ?_)
    · exact kx _ Θ1 root1 _ _ _ _ root1 Tu fu eu Iu (fun b e => (Iu.2.2.2.2.2.2.2.1 b e).1) hl
    · exact absurd rfl c
  have kred : ∀ (u : gH) (Θ1 : gT) (root1 : Option Nat) (lq1 hq1 : Nat → Option Nat) (lo1 hi1 : Nat → Int) (x : Nat), TH u t a Θ1 root1 sz md → gfr t h u → tEq Θ Θ1 → TI (tS Θ1) gk (tL Θ1) (tR Θ1) (tP Θ1) root1 lq1 hq1 lo1 hi1 → tS Θ1 x → tC Θ1 x = 0 → (∀ z, Lk z → tL Θ1 z = none ∧ tR Θ1 z = none) → E K 0 [(0, .ref a), (1, .ref x)] [] u 0 := by
    intro u Θ1 root1 lq1 hq1 lo1 hi1 x Tu fu eu Iu sx cx hl
    refine E.aload_n C dJ19_fixAfterDeletion_0 rfl ?_
    refine E.aload_n C dJ19_fixAfterDeletion_1 rfl ?_
    refine E.tgetRoot C Tu dJ19_fixAfterDeletion_2 q469 ?_
    refine E.acmp_eq (x := some x) (y := root1) C dJ19_fixAfterDeletion_5 (tgt := 345) (by decide) (fun c => ?_) (fun c => ?_)
    · exact kx _ Θ1 root1 _ _ _ _ (some x) Tu fu eu Iu (S1 sx) hl
    · refine E.aload_n C dJ19_fixAfterDeletion_8 rfl ?_
      refine E.callS C (m_colorOfC Tu (some x) (S1 sx)) dJ19_fixAfterDeletion_9 q1164 q1165 q75 q1166 mh_J19_colorOf (by decide) (by decide) rfl (Nat.le_of_ble_eq_true rfl) (by omega) (fun _ _ hx => hx.elim) ?_
      rintro v u9 ⟨rfl, rfl⟩
      refine E.iconst C dJ19_fixAfterDeletion_12 (v := 1) (by decide) ?_
      refine E.icmp_ne C dJ19_fixAfterDeletion_13 (tgt := 345) (by decide) (fun c2 => ?_) (fun c2 => ?_)
      · exact kx _ Θ1 root1 _ _ _ _ (some x) Tu fu eu Iu (S1 sx) hl
      · rw [show tCo Θ1 (some x) = 0 from cx] at c2
        exact absurd c2 (by decide)
  have k143L : ∀ (u : gH) (Θ1 : gT) (root1 : Option Nat) (lq1 hq1 : Nat → Option Nat) (lo1 hi1 : Nat → Int) (x q w : Nat), TH u t a Θ1 root1 sz md → gfr t h u → tEq Θ Θ1 → TI (tS Θ1) gk (tL Θ1) (tR Θ1) (tP Θ1) root1 lq1 hq1 lo1 hi1 → tS Θ1 q → tL Θ1 q = some x → tR Θ1 q = some w → (∀ z, Lk z → tL Θ1 z = none ∧ tR Θ1 z = none ∧ lo1 x < gk z ∧ gk z < hi1 x) → E K 143 [(0, .ref a), (1, .ref x), (2, .ref w)] [] u 0 := by
    intro u Θ1 root1 lq1 hq1 lo1 hi1 x q w Tu fu eu Iu sq hx hw hl
    have bx := Iu.2.1 q x sq hx
    have bw := Iu.2.2.1 q w sq hw
    have sx := bx.1
    have px := bx.2.1
    have sw := bw.1
    have iw := Iu.1 w sw
    have hwS : ∀ b, (tR Θ1 w) = some b → tS Θ1 b := fun b e => (Iu.2.2.1 w b sw e).1
    refine E.aload_n C dJ19_fixAfterDeletion_143 rfl ?_
    refine E.aload_n C dJ19_fixAfterDeletion_144 rfl ?_
    refine E.callS C (m_parentOf Tu (some x) (some q) (S1 sx) px) dJ19_fixAfterDeletion_145 q1155 q1156 q75 q1157 mh_J19_parentOf (by decide) (by decide) rfl (Nat.le_of_ble_eq_true rfl) (by omega) (fun _ _ hx => hx.elim) ?_
    rintro v u9 ⟨rfl, rfl⟩
    refine E.callS C (m_colorOfC Tu (some q) (S1 sq)) dJ19_fixAfterDeletion_148 q1164 q1165 q75 q1166 mh_J19_colorOf (by decide) (by decide) rfl (Nat.le_of_ble_eq_true rfl) (by omega) (fun _ _ hx => hx.elim) ?_
    rintro v u9 ⟨rfl, rfl⟩
    refine E.callS C (m_setColorO Tu ht (some w) (tC Θ1 q) (S1 sw) (Tu.2.2 q sq)) dJ19_fixAfterDeletion_151 q1167 q1168 q75 q1169 mh_J19_setColor (by decide) (by decide) rfl (Nat.le_of_ble_eq_true rfl) (by omega) (fun _ _ hx => hx.elim) ?_
    rintro v ub ⟨rfl, Tb, fb⟩
    refine E.aload_n C dJ19_fixAfterDeletion_154 rfl ?_
    refine E.callS C (m_parentOf Tb (some x) (some q) (S1 sx) px) dJ19_fixAfterDeletion_155 q1155 q1156 q75 q1157 mh_J19_parentOf (by decide) (by decide) rfl (Nat.le_of_ble_eq_true rfl) (by omega) (fun _ _ hx => hx.elim) ?_
    rintro v u9 ⟨rfl, rfl⟩
    refine E.iconst C dJ19_fixAfterDeletion_158 (v := 1) (by decide) ?_
    refine E.callS C (m_setColorO Tb ht (some q) 1 (S1 sq) (Or.inr rfl)) dJ19_fixAfterDeletion_159 q1167 q1168 q75 q1169 mh_J19_setColor (by decide) (by decide) rfl (Nat.le_of_ble_eq_true rfl) (by omega) (fun _ _ hx => hx.elim) ?_
    rintro v uc ⟨rfl, Tc, fc⟩
    refine E.aload_n C dJ19_fixAfterDeletion_162 rfl ?_
    refine E.callS C (m_rightOf Tc (some w) (tR Θ1 w) (S1 sw) rfl) dJ19_fixAfterDeletion_163 q1161 q1162 q75 q1163 mh_J19_rightOf (by decide) (by decide) rfl (Nat.le_of_ble_eq_true rfl) (by omega) (fun _ _ hx => hx.elim) ?_
    rintro v u9 ⟨rfl, rfl⟩
    refine E.iconst C dJ19_fixAfterDeletion_166 (v := 1) (by decide) ?_
    refine E.callS C (m_setColorO Tc ht (tR Θ1 w) 1 hwS (Or.inr rfl)) dJ19_fixAfterDeletion_167 q1167 q1168 q75 q1169 mh_J19_setColor (by decide) (by decide) rfl (Nat.le_of_ble_eq_true rfl) (by omega) (fun _ _ hx => hx.elim) ?_
    rintro v ud ⟨rfl, Td, fd⟩
    refine E.aload_n C dJ19_fixAfterDeletion_170 rfl ?_
    refine E.aload_n C dJ19_fixAfterDeletion_171 rfl ?_
    refine E.callS C (m_parentOf Td (some x) (some q) (S1 sx) px) dJ19_fixAfterDeletion_172 q1155 q1156 q75 q1157 mh_J19_parentOf (by decide) (by decide) rfl (Nat.le_of_ble_eq_true rfl) (by omega) (fun _ _ hx => hx.elim) ?_
    rintro v u9 ⟨rfl, rfl⟩
    refine E.callV C (m_rotateLeft Td ht Iu q w sq hw) dJ19_fixAfterDeletion_175 q1170 q1172 qs6 q75 q1173 mh_J19_rotateLeft (by decide) (by decide) (TH.rv Td) rfl (Nat.le_of_ble_eq_true rfl) (by omega) (fun _ _ hx => hx.elim) ?_
    rintro v ue ⟨rfl, Te, fe⟩
    refine E.aload_n C dJ19_fixAfterDeletion_178 rfl ?_
    refine E.tgetRoot C Te dJ19_fixAfterDeletion_179 q469 ?_
    refine E.astore_n C dJ19_fixAfterDeletion_182 (kn_ _ (by decide)) ?_
    refine E.loc (l' := [(0, .ref a), (1, va_rf (rLo (tP Θ1) root1 q w)), (2, .ref w)]) (by cases (rLo (tP Θ1) root1 q w) <;> rfl) ?_
    refine E.goto C dJ19_fixAfterDeletion_183 (tgt := 0) (by decide) ?_
    refine E.sub (l' := [(0, .ref a), (1, va_rf (rLo (tP Θ1) root1 q w))]) [0, 1] (by cases (rLo (tP Θ1) root1 q w) <;> rfl) ?_
    refine kroot ue _ _ _ _ _ _ Te (fu.tr (fb.tr (fc.tr (fd.tr fe)))) (eu.tr ⟨rfl, rfl, rfl, rfl⟩) (TI.rotL Iu sq hw) (fun z hz => ?_)
    obtain ⟨z1, z2, z3, z4⟩ := hl z hz
    refine rotL_lf Iu sq (fun e => ?_) (fun e => ?_) z1 z2
    · rw [e] at z3 z4; omega
    · rw [e] at z3 z4; omega
  have k71L : ∀ (u : gH) (Θ1 : gT) (root1 : Option Nat) (lq1 hq1 : Nat → Option Nat) (lo1 hi1 : Nat → Int) (x q : Nat) (o : Option Nat), TH u t a Θ1 root1 sz md → gfr t h u → tEq Θ Θ1 → TI (tS Θ1) gk (tL Θ1) (tR Θ1) (tP Θ1) root1 lq1 hq1 lo1 hi1 → tS Θ1 q → tL Θ1 q = some x → tR Θ1 q = o → (∀ z, Lk z → tL Θ1 z = none ∧ tR Θ1 z = none ∧ lo1 x < gk z ∧ gk z < hi1 x) → (∀ (u2 : gH) (Θ2 : gT), tS Θ2 = tS Θ1 → tL Θ2 = tL Θ1 → tR Θ2 = tR Θ1 → tP Θ2 = tP Θ1 → tC Θ2 q = tC Θ1 q → TH u2 t a Θ2 root1 sz md → gfr t h u2 → tEq Θ Θ2 → E K 0 [(0, .ref a), (1, .ref q)] [] u2 0) → E K 71 [(0, .ref a), (1, .ref x), (2, va_rf o)] [] u 0 := by
    intro u Θ1 root1 lq1 hq1 lo1 hi1 x q o Tu fu eu Iu sq hx hw hl kq
    have bx := Iu.2.1 q x sq hx
    have sx := bx.1
    have px := bx.2.1
    have hoS : ∀ b, o = some b → tS Θ1 b := fun b e => (Iu.2.2.1 q b sq (hw.trans e)).1
    have hoA : ∀ b, o.bind (tL Θ1) = some b → tS Θ1 b := fun b e => by
      cases o with
      | none => cases e
      | some w => exact (Iu.2.1 w b (hoS w rfl) e).1
    have hoB : ∀ b, o.bind (tR Θ1) = some b → tS Θ1 b := fun b e => by
      cases o with
      | none => cases e
      | some w => exact (Iu.2.2.1 w b (hoS w rfl) e).1
    have k106 : (tCo Θ1 (o.bind (tR Θ1)) = 1 → ∃ l, o.bind (tL Θ1) = some l) → (∃ w, o = some w) → E K 106 [(0, .ref a), (1, .ref x), (2, va_rf o)] [] u 0 := by
      rintro k1 ⟨w, rfl⟩
      have sw := hoS w rfl
      refine E.aload_n C dJ19_fixAfterDeletion_106 rfl ?_
      refine E.callS C (m_rightOf Tu (some w) (tR Θ1 w) (S1 sw) rfl) dJ19_fixAfterDeletion_107 q1161 q1162 q75 q1163 mh_J19_rightOf (by decide) (by decide) rfl (Nat.le_of_ble_eq_true rfl) (by omega) (fun _ _ hx => hx.elim) ?_
      rintro v u9 ⟨rfl, rfl⟩
      refine E.callS C (m_colorOfC Tu (tR Θ1 w) hoB) dJ19_fixAfterDeletion_110 q1164 q1165 q75 q1166 mh_J19_colorOf (by decide) (by decide) rfl (Nat.le_of_ble_eq_true rfl) (by omega) (fun _ _ hx => hx.elim) ?_
      rintro v u9 ⟨rfl, rfl⟩
      refine E.iconst C dJ19_fixAfterDeletion_113 (v := 1) (by decide) ?_
      refine E.icmp_ne C dJ19_fixAfterDeletion_114 (tgt := 143) (by decide) (fun c3 => ?_) (fun c3 => ?_)
      · exact k143L _ Θ1 root1 _ _ _ _ x q w Tu fu eu Iu sq hx hw hl
      · obtain ⟨b, hb⟩ := k1 (by first | exact c3 | exact Classical.not_not.mp c3)
        have sb := hoA b hb
        refine E.aload_n C dJ19_fixAfterDeletion_117 rfl ?_
        refine E.callS C (m_leftOf Tu (some w) (some b) (S1 sw) hb) dJ19_fixAfterDeletion_118 q1158 q1159 q75 q1160 mh_J19_leftOf (by decide) (by decide) rfl (Nat.le_of_ble_eq_true rfl) (by omega) (fun _ _ hx => hx.elim) ?_
        rintro v u9 ⟨rfl, rfl⟩
        refine E.iconst C dJ19_fixAfterDeletion_121 (v := 1) (by decide) ?_
        refine E.callS C (m_setColorO Tu ht (some b) 1 (S1 sb) (Or.inr rfl)) dJ19_fixAfterDeletion_122 q1167 q1168 q75 q1169 mh_J19_setColor (by decide) (by decide) rfl (Nat.le_of_ble_eq_true rfl) (by omega) (fun _ _ hx => hx.elim) ?_
        rintro v ub ⟨rfl, Tb, fb⟩
        refine E.aload_n C dJ19_fixAfterDeletion_125 rfl ?_
        refine E.iconst C dJ19_fixAfterDeletion_126 (v := 0) (by decide) ?_
        refine E.callS C (m_setColorO Tb ht (some w) 0 (S1 sw) (Or.inl rfl)) dJ19_fixAfterDeletion_127 q1167 q1168 q75 q1169 mh_J19_setColor (by decide) (by decide) rfl (Nat.le_of_ble_eq_true rfl) (by omega) (fun _ _ hx => hx.elim) ?_
        rintro v uc ⟨rfl, Tc, fc⟩
        refine E.aload_n C dJ19_fixAfterDeletion_130 rfl ?_
        refine E.aload_n C dJ19_fixAfterDeletion_131 rfl ?_
        refine E.callV C (m_rotateRight Tc ht Iu w b sw hb) dJ19_fixAfterDeletion_132 q1174 q1176 qs7 q75 q1177 mh_J19_rotateRight (by decide) (by decide) (TH.rv Tc) rfl (Nat.le_of_ble_eq_true rfl) (by omega) (fun _ _ hx => hx.elim) ?_
        rintro v ud ⟨rfl, Td, fd⟩
        have kk := rotR_w Iu sq hx hw hb
        have bw := Iu.2.2.1 q w sq hw
        have bb := Iu.2.1 w b sw hb
        have iw := Iu.1 w sw
        have ib := Iu.1 b sb
        have iq := Iu.1 q sq
        refine E.aload_n C dJ19_fixAfterDeletion_135 rfl ?_
        refine E.callS C (m_parentOf Td (some x) (some q) (S1 sx) kk.2.2.1) dJ19_fixAfterDeletion_136 q1155 q1156 q75 q1157 mh_J19_parentOf (by decide) (by decide) rfl (Nat.le_of_ble_eq_true rfl) (by omega) (fun _ _ hx => hx.elim) ?_
        rintro v u9 ⟨rfl, rfl⟩
        refine E.callS C (m_rightOf Td (some q) (some b) (S1 sq) kk.2.1) dJ19_fixAfterDeletion_139 q1161 q1162 q75 q1163 mh_J19_rightOf (by decide) (by decide) rfl (Nat.le_of_ble_eq_true rfl) (by omega) (fun _ _ hx => hx.elim) ?_
        rintro v u9 ⟨rfl, rfl⟩
        refine E.astore_n C dJ19_fixAfterDeletion_142 (kn_ _ (by decide)) ?_
        refine k143L _ _ _ _ _ _ _ x q b Td (fu.tr (fb.tr (fc.tr fd))) (eu.tr ⟨rfl, rfl, rfl, rfl⟩) (TI.rotR Iu sw hb) sq kk.1 kk.2.1 (fun z hz => ?_)
        obtain ⟨z1, z2, z3, z4⟩ := hl z hz
        have z5 := rotR_lf (z := z) (p := w) (r := b) Iu sw (fun e => by rw [e] at z3 z4; omega) (fun e => by rw [e] at z3 z4; omega) z1 z2
        refine ⟨z5.1, z5.2, ?_, ?_⟩
        · refine Int.lt_of_le_of_lt (Int.le_of_eq ?_) z3
          exact kk.2.2.2.1
        · refine Int.lt_of_lt_of_le z4 (Int.le_of_eq ?_)
          exact kk.2.2.2.2.symm
    refine E.aload_n C dJ19_fixAfterDeletion_71 rfl ?_
    refine E.callS C (m_leftOf Tu o (o.bind (tL Θ1)) hoS rfl) dJ19_fixAfterDeletion_72 q1158 q1159 q75 q1160 mh_J19_leftOf (by decide) (by decide) rfl (Nat.le_of_ble_eq_true rfl) (by omega) (fun _ _ hx => hx.elim) ?_
    rintro v u9 ⟨rfl, rfl⟩
    refine E.callS C (m_colorOfC Tu (o.bind (tL Θ1)) hoA) dJ19_fixAfterDeletion_75 q1164 q1165 q75 q1166 mh_J19_colorOf (by decide) (by decide) rfl (Nat.le_of_ble_eq_true rfl) (by omega) (fun _ _ hx => hx.elim) ?_
    rintro v u9 ⟨rfl, rfl⟩
    refine E.iconst C dJ19_fixAfterDeletion_78 (v := 1) (by decide) ?_
    refine E.icmp_ne C dJ19_fixAfterDeletion_79 (tgt := 106) (by decide) (fun c3 => ?_) (fun c3 => ?_)
    · have hs : ∃ l, o.bind (tL Θ1) = some l := by
        cases e : o.bind (tL Θ1) with
        | none => rw [e] at c3; exact absurd (show (1 : Int32) = 1 from rfl) c3
        | some l => exact ⟨l, rfl⟩
      refine k106 (fun _ => hs) ?_
      obtain ⟨l, hl9⟩ := hs
      cases o with
      | none => cases hl9
      | some w => exact ⟨w, rfl⟩
    · refine E.aload_n C dJ19_fixAfterDeletion_82 rfl ?_
      refine E.callS C (m_rightOf Tu o (o.bind (tR Θ1)) hoS rfl) dJ19_fixAfterDeletion_83 q1161 q1162 q75 q1163 mh_J19_rightOf (by decide) (by decide) rfl (Nat.le_of_ble_eq_true rfl) (by omega) (fun _ _ hx => hx.elim) ?_
      rintro v u9 ⟨rfl, rfl⟩
      refine E.callS C (m_colorOfC Tu (o.bind (tR Θ1)) hoB) dJ19_fixAfterDeletion_86 q1164 q1165 q75 q1166 mh_J19_colorOf (by decide) (by decide) rfl (Nat.le_of_ble_eq_true rfl) (by omega) (fun _ _ hx => hx.elim) ?_
      rintro v u9 ⟨rfl, rfl⟩
      refine E.iconst C dJ19_fixAfterDeletion_89 (v := 1) (by decide) ?_
      refine E.icmp_ne C dJ19_fixAfterDeletion_90 (tgt := 106) (by decide) (fun c4 => ?_) (fun c4 => ?_)
      · refine k106 (fun e => absurd e c4) ?_
        cases o with
        | none => exact absurd rfl c4
        | some w => exact ⟨w, rfl⟩
      · refine E.aload_n C dJ19_fixAfterDeletion_93 rfl ?_
        refine E.iconst C dJ19_fixAfterDeletion_94 (v := 0) (by decide) ?_
        refine E.callS C (m_setColorO Tu ht o 0 hoS (Or.inl rfl)) dJ19_fixAfterDeletion_95 q1167 q1168 q75 q1169 mh_J19_setColor (by decide) (by decide) rfl (Nat.le_of_ble_eq_true rfl) (by omega) (fun _ _ hx => hx.elim) ?_
        rintro v ub ⟨rfl, Tb, fb⟩
        refine E.aload_n C dJ19_fixAfterDeletion_98 rfl ?_
        refine E.callS C (m_parentOf Tb (some x) (some q) (S1 sx) px) dJ19_fixAfterDeletion_99 q1155 q1156 q75 q1157 mh_J19_parentOf (by decide) (by decide) rfl (Nat.le_of_ble_eq_true rfl) (by omega) (fun _ _ hx => hx.elim) ?_
        rintro v u9 ⟨rfl, rfl⟩
        refine E.astore_n C dJ19_fixAfterDeletion_102 (kn_ _ (by decide)) ?_
        refine E.goto C dJ19_fixAfterDeletion_103 (tgt := 183) (by decide) ?_
        refine E.goto C dJ19_fixAfterDeletion_183 (tgt := 0) (by decide) ?_
        refine E.sub (l' := [(0, .ref a), (1, .ref q)]) [0, 1] (by cases o <;> rfl) ?_
        refine kq _ (sCO Θ1 o 0) rfl rfl rfl rfl ?_ Tb (fu.tr fb) (eu.tr ⟨rfl, rfl, rfl, rfl⟩)
        show (if o = some q then 0 else tC Θ1 q) = tC Θ1 q
        refine if_neg (fun e => ?_)
        have r1 := (Iu.2.2.1 q q sq (hw.trans e))
        have r2 := Iu.1 q sq
        omega
  have k143R : ∀ (u : gH) (Θ1 : gT) (root1 : Option Nat) (lq1 hq1 : Nat → Option Nat) (lo1 hi1 : Nat → Int) (x q w : Nat), TH u t a Θ1 root1 sz md → gfr t h u → tEq Θ Θ1 → TI (tS Θ1) gk (tL Θ1) (tR Θ1) (tP Θ1) root1 lq1 hq1 lo1 hi1 → tS Θ1 q → tR Θ1 q = some x → tL Θ1 q = some w → (∀ z, Lk z → tL Θ1 z = none ∧ tR Θ1 z = none ∧ lo1 x < gk z ∧ gk z < hi1 x) → E K 302 [(0, .ref a), (1, .ref x), (2, .ref w)] [] u 0 := by
    intro u Θ1 root1 lq1 hq1 lo1 hi1 x q w Tu fu eu Iu sq hx hw hl
    have bx := Iu.2.2.1 q x sq hx
    have bw := Iu.2.1 q w sq hw
    have sx := bx.1
    have px := bx.2.1
    have sw := bw.1
    have iw := Iu.1 w sw
    have hwS : ∀ b, (tL Θ1 w) = some b → tS Θ1 b := fun b e => (Iu.2.1 w b sw e).1
    refine E.aload_n C dJ19_fixAfterDeletion_302 rfl ?_
    refine E.aload_n C dJ19_fixAfterDeletion_303 rfl ?_
    refine E.callS C (m_parentOf Tu (some x) (some q) (S1 sx) px) dJ19_fixAfterDeletion_304 q1155 q1156 q75 q1157 mh_J19_parentOf (by decide) (by decide) rfl (Nat.le_of_ble_eq_true rfl) (by omega) (fun _ _ hx => hx.elim) ?_
    rintro v u9 ⟨rfl, rfl⟩
    refine E.callS C (m_colorOfC Tu (some q) (S1 sq)) dJ19_fixAfterDeletion_307 q1164 q1165 q75 q1166 mh_J19_colorOf (by decide) (by decide) rfl (Nat.le_of_ble_eq_true rfl) (by omega) (fun _ _ hx => hx.elim) ?_
    rintro v u9 ⟨rfl, rfl⟩
    refine E.callS C (m_setColorO Tu ht (some w) (tC Θ1 q) (S1 sw) (Tu.2.2 q sq)) dJ19_fixAfterDeletion_310 q1167 q1168 q75 q1169 mh_J19_setColor (by decide) (by decide) rfl (Nat.le_of_ble_eq_true rfl) (by omega) (fun _ _ hx => hx.elim) ?_
    rintro v ub ⟨rfl, Tb, fb⟩
    refine E.aload_n C dJ19_fixAfterDeletion_313 rfl ?_
    refine E.callS C (m_parentOf Tb (some x) (some q) (S1 sx) px) dJ19_fixAfterDeletion_314 q1155 q1156 q75 q1157 mh_J19_parentOf (by decide) (by decide) rfl (Nat.le_of_ble_eq_true rfl) (by omega) (fun _ _ hx => hx.elim) ?_
    rintro v u9 ⟨rfl, rfl⟩
    refine E.iconst C dJ19_fixAfterDeletion_317 (v := 1) (by decide) ?_
    refine E.callS C (m_setColorO Tb ht (some q) 1 (S1 sq) (Or.inr rfl)) dJ19_fixAfterDeletion_318 q1167 q1168 q75 q1169 mh_J19_setColor (by decide) (by decide) rfl (Nat.le_of_ble_eq_true rfl) (by omega) (fun _ _ hx => hx.elim) ?_
    rintro v uc ⟨rfl, Tc, fc⟩
    refine E.aload_n C dJ19_fixAfterDeletion_321 rfl ?_
    refine E.callS C (m_leftOf Tc (some w) (tL Θ1 w) (S1 sw) rfl) dJ19_fixAfterDeletion_322 q1158 q1159 q75 q1160 mh_J19_leftOf (by decide) (by decide) rfl (Nat.le_of_ble_eq_true rfl) (by omega) (fun _ _ hx => hx.elim) ?_
    rintro v u9 ⟨rfl, rfl⟩
    refine E.iconst C dJ19_fixAfterDeletion_325 (v := 1) (by decide) ?_
    refine E.callS C (m_setColorO Tc ht (tL Θ1 w) 1 hwS (Or.inr rfl)) dJ19_fixAfterDeletion_326 q1167 q1168 q75 q1169 mh_J19_setColor (by decide) (by decide) rfl (Nat.le_of_ble_eq_true rfl) (by omega) (fun _ _ hx => hx.elim) ?_
    rintro v ud ⟨rfl, Td, fd⟩
    refine E.aload_n C dJ19_fixAfterDeletion_329 rfl ?_
    refine E.aload_n C dJ19_fixAfterDeletion_330 rfl ?_
    refine E.callS C (m_parentOf Td (some x) (some q) (S1 sx) px) dJ19_fixAfterDeletion_331 q1155 q1156 q75 q1157 mh_J19_parentOf (by decide) (by decide) rfl (Nat.le_of_ble_eq_true rfl) (by omega) (fun _ _ hx => hx.elim) ?_
    rintro v u9 ⟨rfl, rfl⟩
    refine E.callV C (m_rotateRight Td ht Iu q w sq hw) dJ19_fixAfterDeletion_334 q1174 q1176 qs7 q75 q1177 mh_J19_rotateRight (by decide) (by decide) (TH.rv Td) rfl (Nat.le_of_ble_eq_true rfl) (by omega) (fun _ _ hx => hx.elim) ?_
    rintro v ue ⟨rfl, Te, fe⟩
    refine E.aload_n C dJ19_fixAfterDeletion_337 rfl ?_
    refine E.tgetRoot C Te dJ19_fixAfterDeletion_338 q469 ?_
    refine E.astore_n C dJ19_fixAfterDeletion_341 (kn_ _ (by decide)) ?_
    refine E.loc (l' := [(0, .ref a), (1, va_rf (rLo (tP Θ1) root1 q w)), (2, .ref w)]) (by cases (rLo (tP Θ1) root1 q w) <;> rfl) ?_
    refine E.goto C dJ19_fixAfterDeletion_342 (tgt := 0) (by decide) ?_
    refine E.sub (l' := [(0, .ref a), (1, va_rf (rLo (tP Θ1) root1 q w))]) [0, 1] (by cases (rLo (tP Θ1) root1 q w) <;> rfl) ?_
    refine kroot ue _ _ _ _ _ _ Te (fu.tr (fb.tr (fc.tr (fd.tr fe)))) (eu.tr ⟨rfl, rfl, rfl, rfl⟩) (TI.rotR Iu sq hw) (fun z hz => ?_)
    obtain ⟨z1, z2, z3, z4⟩ := hl z hz
    refine rotR_lf Iu sq (fun e => ?_) (fun e => ?_) z1 z2
    · rw [e] at z3 z4; omega
    · rw [e] at z3 z4; omega
  have k71R : ∀ (u : gH) (Θ1 : gT) (root1 : Option Nat) (lq1 hq1 : Nat → Option Nat) (lo1 hi1 : Nat → Int) (x q : Nat) (o : Option Nat), TH u t a Θ1 root1 sz md → gfr t h u → tEq Θ Θ1 → TI (tS Θ1) gk (tL Θ1) (tR Θ1) (tP Θ1) root1 lq1 hq1 lo1 hi1 → tS Θ1 q → tR Θ1 q = some x → tL Θ1 q = o → (∀ z, Lk z → tL Θ1 z = none ∧ tR Θ1 z = none ∧ lo1 x < gk z ∧ gk z < hi1 x) → (∀ (u2 : gH) (Θ2 : gT), tS Θ2 = tS Θ1 → tL Θ2 = tL Θ1 → tR Θ2 = tR Θ1 → tP Θ2 = tP Θ1 → tC Θ2 q = tC Θ1 q → TH u2 t a Θ2 root1 sz md → gfr t h u2 → tEq Θ Θ2 → E K 0 [(0, .ref a), (1, .ref q)] [] u2 0) → E K 230 [(0, .ref a), (1, .ref x), (2, va_rf o)] [] u 0 := by
    intro u Θ1 root1 lq1 hq1 lo1 hi1 x q o Tu fu eu Iu sq hx hw hl kq
    have bx := Iu.2.2.1 q x sq hx
    have sx := bx.1
    have px := bx.2.1
    have hoS : ∀ b, o = some b → tS Θ1 b := fun b e => (Iu.2.1 q b sq (hw.trans e)).1
    have hoA : ∀ b, o.bind (tR Θ1) = some b → tS Θ1 b := fun b e => by
      cases o with
      | none => cases e
      | some w => exact (Iu.2.2.1 w b (hoS w rfl) e).1
    have hoB : ∀ b, o.bind (tL Θ1) = some b → tS Θ1 b := fun b e => by
      cases o with
      | none => cases e
      | some w => exact (Iu.2.1 w b (hoS w rfl) e).1
    have k106 : (tCo Θ1 (o.bind (tL Θ1)) = 1 → ∃ l, o.bind (tR Θ1) = some l) → (∃ w, o = some w) → E K 265 [(0, .ref a), (1, .ref x), (2, va_rf o)] [] u 0 := by
      rintro k1 ⟨w, rfl⟩
      have sw := hoS w rfl
      refine E.aload_n C dJ19_fixAfterDeletion_265 rfl ?_
      refine E.callS C (m_leftOf Tu (some w) (tL Θ1 w) (S1 sw) rfl) dJ19_fixAfterDeletion_266 q1158 q1159 q75 q1160 mh_J19_leftOf (by decide) (by decide) rfl (Nat.le_of_ble_eq_true rfl) (by omega) (fun _ _ hx => hx.elim) ?_
      rintro v u9 ⟨rfl, rfl⟩
      refine E.callS C (m_colorOfC Tu (tL Θ1 w) hoB) dJ19_fixAfterDeletion_269 q1164 q1165 q75 q1166 mh_J19_colorOf (by decide) (by decide) rfl (Nat.le_of_ble_eq_true rfl) (by omega) (fun _ _ hx => hx.elim) ?_
      rintro v u9 ⟨rfl, rfl⟩
      refine E.iconst C dJ19_fixAfterDeletion_272 (v := 1) (by decide) ?_
      refine E.icmp_ne C dJ19_fixAfterDeletion_273 (tgt := 302) (by decide) (fun c3 => ?_) (fun c3 => ?_)
      · exact k143R _ Θ1 root1 _ _ _ _ x q w Tu fu eu Iu sq hx hw hl
      · obtain ⟨b, hb⟩ := k1 (by first | exact c3 | exact Classical.not_not.mp c3)
        have sb := hoA b hb
        refine E.aload_n C dJ19_fixAfterDeletion_276 rfl ?_
        refine E.callS C (m_rightOf Tu (some w) (some b) (S1 sw) hb) dJ19_fixAfterDeletion_277 q1161 q1162 q75 q1163 mh_J19_rightOf (by decide) (by decide) rfl (Nat.le_of_ble_eq_true rfl) (by omega) (fun _ _ hx => hx.elim) ?_
        rintro v u9 ⟨rfl, rfl⟩
        refine E.iconst C dJ19_fixAfterDeletion_280 (v := 1) (by decide) ?_
        refine E.callS C (m_setColorO Tu ht (some b) 1 (S1 sb) (Or.inr rfl)) dJ19_fixAfterDeletion_281 q1167 q1168 q75 q1169 mh_J19_setColor (by decide) (by decide) rfl (Nat.le_of_ble_eq_true rfl) (by omega) (fun _ _ hx => hx.elim) ?_
        rintro v ub ⟨rfl, Tb, fb⟩
        refine E.aload_n C dJ19_fixAfterDeletion_284 rfl ?_
        refine E.iconst C dJ19_fixAfterDeletion_285 (v := 0) (by decide) ?_
        refine E.callS C (m_setColorO Tb ht (some w) 0 (S1 sw) (Or.inl rfl)) dJ19_fixAfterDeletion_286 q1167 q1168 q75 q1169 mh_J19_setColor (by decide) (by decide) rfl (Nat.le_of_ble_eq_true rfl) (by omega) (fun _ _ hx => hx.elim) ?_
        rintro v uc ⟨rfl, Tc, fc⟩
        refine E.aload_n C dJ19_fixAfterDeletion_289 rfl ?_
        refine E.aload_n C dJ19_fixAfterDeletion_290 rfl ?_
        refine E.callV C (m_rotateLeft Tc ht Iu w b sw hb) dJ19_fixAfterDeletion_291 q1170 q1172 qs6 q75 q1173 mh_J19_rotateLeft (by decide) (by decide) (TH.rv Tc) rfl (Nat.le_of_ble_eq_true rfl) (by omega) (fun _ _ hx => hx.elim) ?_
        rintro v ud ⟨rfl, Td, fd⟩
        have kk := rotL_w Iu sq hx hw hb
        have bw := Iu.2.1 q w sq hw
        have bb := Iu.2.2.1 w b sw hb
        have iw := Iu.1 w sw
        have ib := Iu.1 b sb
        have iq := Iu.1 q sq
        refine E.aload_n C dJ19_fixAfterDeletion_294 rfl ?_
        refine E.callS C (m_parentOf Td (some x) (some q) (S1 sx) kk.2.2.1) dJ19_fixAfterDeletion_295 q1155 q1156 q75 q1157 mh_J19_parentOf (by decide) (by decide) rfl (Nat.le_of_ble_eq_true rfl) (by omega) (fun _ _ hx => hx.elim) ?_
        rintro v u9 ⟨rfl, rfl⟩
        refine E.callS C (m_leftOf Td (some q) (some b) (S1 sq) kk.2.1) dJ19_fixAfterDeletion_298 q1158 q1159 q75 q1160 mh_J19_leftOf (by decide) (by decide) rfl (Nat.le_of_ble_eq_true rfl) (by omega) (fun _ _ hx => hx.elim) ?_
        rintro v u9 ⟨rfl, rfl⟩
        refine E.astore_n C dJ19_fixAfterDeletion_301 (kn_ _ (by decide)) ?_
        refine k143R _ _ _ _ _ _ _ x q b Td (fu.tr (fb.tr (fc.tr fd))) (eu.tr ⟨rfl, rfl, rfl, rfl⟩) (TI.rotL Iu sw hb) sq kk.1 kk.2.1 (fun z hz => ?_)
        obtain ⟨z1, z2, z3, z4⟩ := hl z hz
        have z5 := rotL_lf (z := z) (p := w) (r := b) Iu sw (fun e => by rw [e] at z3 z4; omega) (fun e => by rw [e] at z3 z4; omega) z1 z2
        refine ⟨z5.1, z5.2, ?_, ?_⟩
        · refine Int.lt_of_le_of_lt (Int.le_of_eq ?_) z3
          exact kk.2.2.2.2
        · refine Int.lt_of_lt_of_le z4 (Int.le_of_eq ?_)
          exact kk.2.2.2.1.symm
    refine E.aload_n C dJ19_fixAfterDeletion_230 rfl ?_
    refine E.callS C (m_rightOf Tu o (o.bind (tR Θ1)) hoS rfl) dJ19_fixAfterDeletion_231 q1161 q1162 q75 q1163 mh_J19_rightOf (by decide) (by decide) rfl (Nat.le_of_ble_eq_true rfl) (by omega) (fun _ _ hx => hx.elim) ?_
    rintro v u9 ⟨rfl, rfl⟩
    refine E.callS C (m_colorOfC Tu (o.bind (tR Θ1)) hoA) dJ19_fixAfterDeletion_234 q1164 q1165 q75 q1166 mh_J19_colorOf (by decide) (by decide) rfl (Nat.le_of_ble_eq_true rfl) (by omega) (fun _ _ hx => hx.elim) ?_
    rintro v u9 ⟨rfl, rfl⟩
    refine E.iconst C dJ19_fixAfterDeletion_237 (v := 1) (by decide) ?_
    refine E.icmp_ne C dJ19_fixAfterDeletion_238 (tgt := 265) (by decide) (fun c3 => ?_) (fun c3 => ?_)
    · have hs : ∃ l, o.bind (tR Θ1) = some l := by
        cases e : o.bind (tR Θ1) with
        | none => rw [e] at c3; exact absurd (show (1 : Int32) = 1 from rfl) c3
        | some l => exact ⟨l, rfl⟩
      refine k106 (fun _ => hs) ?_
      obtain ⟨l, hl9⟩ := hs
      cases o with
      | none => cases hl9
      | some w => exact ⟨w, rfl⟩
    · refine E.aload_n C dJ19_fixAfterDeletion_241 rfl ?_
      refine E.callS C (m_leftOf Tu o (o.bind (tL Θ1)) hoS rfl) dJ19_fixAfterDeletion_242 q1158 q1159 q75 q1160 mh_J19_leftOf (by decide) (by decide) rfl (Nat.le_of_ble_eq_true rfl) (by omega) (fun _ _ hx => hx.elim) ?_
      rintro v u9 ⟨rfl, rfl⟩
      refine E.callS C (m_colorOfC Tu (o.bind (tL Θ1)) hoB) dJ19_fixAfterDeletion_245 q1164 q1165 q75 q1166 mh_J19_colorOf (by decide) (by decide) rfl (Nat.le_of_ble_eq_true rfl) (by omega) (fun _ _ hx => hx.elim) ?_
      rintro v u9 ⟨rfl, rfl⟩
      refine E.iconst C dJ19_fixAfterDeletion_248 (v := 1) (by decide) ?_
      refine E.icmp_ne C dJ19_fixAfterDeletion_249 (tgt := 265) (by decide) (fun c4 => ?_) (fun c4 => ?_)
      · refine k106 (fun e => absurd e c4) ?_
        cases o with
        | none => exact absurd rfl c4
        | some w => exact ⟨w, rfl⟩
      · refine E.aload_n C dJ19_fixAfterDeletion_252 rfl ?_
        refine E.iconst C dJ19_fixAfterDeletion_253 (v := 0) (by decide) ?_
        refine E.callS C (m_setColorO Tu ht o 0 hoS (Or.inl rfl)) dJ19_fixAfterDeletion_254 q1167 q1168 q75 q1169 mh_J19_setColor (by decide) (by decide) rfl (Nat.le_of_ble_eq_true rfl) (by omega) (fun _ _ hx => hx.elim) ?_
        rintro v ub ⟨rfl, Tb, fb⟩
        refine E.aload_n C dJ19_fixAfterDeletion_257 rfl ?_
        refine E.callS C (m_parentOf Tb (some x) (some q) (S1 sx) px) dJ19_fixAfterDeletion_258 q1155 q1156 q75 q1157 mh_J19_parentOf (by decide) (by decide) rfl (Nat.le_of_ble_eq_true rfl) (by omega) (fun _ _ hx => hx.elim) ?_
        rintro v u9 ⟨rfl, rfl⟩
        refine E.astore_n C dJ19_fixAfterDeletion_261 (kn_ _ (by decide)) ?_
        refine E.goto C dJ19_fixAfterDeletion_262 (tgt := 342) (by decide) ?_
        refine E.goto C dJ19_fixAfterDeletion_342 (tgt := 0) (by decide) ?_
        refine E.sub (l' := [(0, .ref a), (1, .ref q)]) [0, 1] (by cases o <;> rfl) ?_
        refine kq _ (sCO Θ1 o 0) rfl rfl rfl rfl ?_ Tb (fu.tr fb) (eu.tr ⟨rfl, rfl, rfl, rfl⟩)
        show (if o = some q then 0 else tC Θ1 q) = tC Θ1 q
        refine if_neg (fun e => ?_)
        have r1 := (Iu.2.1 q q sq (hw.trans e))
        have r2 := Iu.1 q sq
        omega
  have lp : ∀ (n : Nat) (u : gH) (Θ1 : gT) (root1 : Option Nat) (lq1 hq1 : Nat → Option Nat) (lo1 hi1 : Nat → Int) (x : Nat), TH u t a Θ1 root1 sz md → gfr t h u → tEq Θ Θ1 → TI (tS Θ1) gk (tL Θ1) (tR Θ1) (tP Θ1) root1 lq1 hq1 lo1 hi1 → tS Θ1 x → (∀ z, Lk z → tL Θ1 z = none ∧ tR Θ1 z = none ∧ lo1 x < gk z ∧ gk z < hi1 x) → (2 * tB - (hi1 x - lo1 x)).toNat < n → E K 0 [(0, .ref a), (1, .ref x)] [] u 0 := by
    intro n
    induction n with
    | zero => intro u Θ1 root1 lq1 hq1 lo1 hi1 x _ _ _ _ _ _ c; exact absurd c (Nat.not_lt_zero _)
    | succ n ih =>
      intro u Θ1 root1 lq1 hq1 lo1 hi1 x Tu fu eu Iu sx hl hm
      refine E.aload_n C dJ19_fixAfterDeletion_0 rfl ?_
      refine E.aload_n C dJ19_fixAfterDeletion_1 rfl ?_
      refine E.tgetRoot C Tu dJ19_fixAfterDeletion_2 q469 ?_
      refine E.acmp_eq (x := some x) (y := root1) C dJ19_fixAfterDeletion_5 (tgt := 345) (by decide) (fun c => ?_) (fun c => ?_)
      · exact kx _ Θ1 root1 _ _ _ _ (some x) Tu fu eu Iu (S1 sx) (fun z hz => ⟨(hl z hz).1, (hl z hz).2.1⟩)
      obtain ⟨q, px⟩ : ∃ q, tP Θ1 x = some q := by
        cases e : tP Θ1 x with
        | none => exact absurd (Iu.2.2.2.1 x sx e).1.symm c
        | some q => exact ⟨q, rfl⟩
      obtain ⟨sq, mq, dq⟩ := Iu.up sx px
      have bd := Iu.bd (fun z hz => hB z (by rw [eu.1] at hz; exact hz)) q sq
      refine E.aload_n C dJ19_fixAfterDeletion_8 rfl ?_
      refine E.callS C (m_colorOfC Tu (some x) (S1 sx)) dJ19_fixAfterDeletion_9 q1164 q1165 q75 q1166 mh_J19_colorOf (by decide) (by decide) rfl (Nat.le_of_ble_eq_true rfl) (by omega) (fun _ _ hx => hx.elim) ?_
      rintro v u9 ⟨rfl, rfl⟩
      refine E.iconst C dJ19_fixAfterDeletion_12 (v := 1) (by decide) ?_
      refine E.icmp_ne C dJ19_fixAfterDeletion_13 (tgt := 345) (by decide) (fun c2 => ?_) (fun c2 => ?_)
      · exact kx _ Θ1 root1 _ _ _ _ (some x) Tu fu eu Iu (S1 sx) (fun z hz => ⟨(hl z hz).1, (hl z hz).2.1⟩)
      refine E.aload_n C dJ19_fixAfterDeletion_16 rfl ?_
      refine E.aload_n C dJ19_fixAfterDeletion_17 rfl ?_
      refine E.callS C (m_parentOf Tu (some x) (some q) (S1 sx) px) dJ19_fixAfterDeletion_18 q1155 q1156 q75 q1157 mh_J19_parentOf (by decide) (by decide) rfl (Nat.le_of_ble_eq_true rfl) (by omega) (fun _ _ hx => hx.elim) ?_
      rintro v u9 ⟨rfl, rfl⟩
      refine E.callS C (m_leftOf Tu (some q) (tL Θ1 q) (S1 sq) rfl) dJ19_fixAfterDeletion_21 q1158 q1159 q75 q1160 mh_J19_leftOf (by decide) (by decide) rfl (Nat.le_of_ble_eq_true rfl) (by omega) (fun _ _ hx => hx.elim) ?_
      rintro v u9 ⟨rfl, rfl⟩
      refine E.acmp_ne (x := some x) (y := tL Θ1 q) C dJ19_fixAfterDeletion_24 (tgt := 186) (by decide) (fun cl => ?_) (fun cl => ?_)
      · have hx : tR Θ1 q = some x := dq.resolve_left (fun z => cl z.symm)
        have bx := Iu.2.2.1 q x sq hx
        have bq := Iu.1 q sq
        have bx1 := Iu.1 x sx
        refine E.aload_n C dJ19_fixAfterDeletion_186 rfl ?_
        refine E.callS C (m_parentOf Tu (some x) (some q) (S1 sx) px) dJ19_fixAfterDeletion_187 q1155 q1156 q75 q1157 mh_J19_parentOf (by decide) (by decide) rfl (Nat.le_of_ble_eq_true rfl) (by omega) (fun _ _ hx => hx.elim) ?_
        rintro v u9 ⟨rfl, rfl⟩
        refine E.callS C (m_leftOf Tu (some q) (tL Θ1 q) (S1 sq) rfl) dJ19_fixAfterDeletion_190 q1158 q1159 q75 q1160 mh_J19_leftOf (by decide) (by decide) rfl (Nat.le_of_ble_eq_true rfl) (by omega) (fun _ _ hx => hx.elim) ?_
        rintro v u9 ⟨rfl, rfl⟩
        refine E.astore_n C dJ19_fixAfterDeletion_193 (kn_ _ (by decide)) ?_
        refine E.aload_n C dJ19_fixAfterDeletion_194 rfl ?_
        refine E.loc (l' := [(0, .ref a), (1, .ref x), (2, va_rf (tL Θ1 q))]) (by cases (tL Θ1 q) <;> rfl) ?_
        have hoS : ∀ b, tL Θ1 q = some b → tS Θ1 b := fun b e => (Iu.2.1 q b sq e).1
        refine E.callS C (m_colorOfC Tu (tL Θ1 q) hoS) dJ19_fixAfterDeletion_195 q1164 q1165 q75 q1166 mh_J19_colorOf (by decide) (by decide) rfl (Nat.le_of_ble_eq_true rfl) (by omega) (fun _ _ hx => hx.elim) ?_
        rintro v u9 ⟨rfl, rfl⟩
        refine E.if_ne C dJ19_fixAfterDeletion_198 (tgt := 230) (by decide) (fun c3 => ?_) (fun c3 => ?_)
        · refine k71R _ Θ1 root1 _ _ _ _ x q (tL Θ1 q) Tu fu eu Iu sq hx rfl hl (fun u2 Θ2 e1 e2 e3 e4 e5 T2 f2 eu2 => ?_)
          refine ih _ Θ2 root1 lq1 hq1 lo1 hi1 q T2 f2 eu2 (by rw [e1, e2, e3, e4]; exact Iu) (by rw [e1]; exact sq) (fun z hz => ?_) (by omega)
          obtain ⟨z1, z2, z3, z4⟩ := hl z hz
          rw [e2, e3]
          exact ⟨z1, z2, by omega, by omega⟩
        · obtain ⟨w, ew⟩ : ∃ w, tL Θ1 q = some w := by
            cases e : tL Θ1 q with
            | none => rw [e] at c3; exact absurd (show (1 : Int32) = 0 from c3) (by decide)
            | some w => exact ⟨w, rfl⟩
          have sw := hoS w ew
          have iw := Iu.1 w sw
          have bw := Iu.2.1 q w sq ew
          rw [ew]
          refine E.aload_n C dJ19_fixAfterDeletion_201 rfl ?_
          refine E.iconst C dJ19_fixAfterDeletion_202 (v := 1) (by decide) ?_
          refine E.callS C (m_setColorO Tu ht (some w) 1 (S1 sw) (Or.inr rfl)) dJ19_fixAfterDeletion_203 q1167 q1168 q75 q1169 mh_J19_setColor (by decide) (by decide) rfl (Nat.le_of_ble_eq_true rfl) (by omega) (fun _ _ hx => hx.elim) ?_
          rintro v ub ⟨rfl, Tb, fb⟩
          refine E.aload_n C dJ19_fixAfterDeletion_206 rfl ?_
          refine E.callS C (m_parentOf Tb (some x) (some q) (S1 sx) px) dJ19_fixAfterDeletion_207 q1155 q1156 q75 q1157 mh_J19_parentOf (by decide) (by decide) rfl (Nat.le_of_ble_eq_true rfl) (by omega) (fun _ _ hx => hx.elim) ?_
          rintro v u9 ⟨rfl, rfl⟩
          refine E.iconst C dJ19_fixAfterDeletion_210 (v := 0) (by decide) ?_
          refine E.callS C (m_setColorO Tb ht (some q) 0 (S1 sq) (Or.inl rfl)) dJ19_fixAfterDeletion_211 q1167 q1168 q75 q1169 mh_J19_setColor (by decide) (by decide) rfl (Nat.le_of_ble_eq_true rfl) (by omega) (fun _ _ hx => hx.elim) ?_
          rintro v uc ⟨rfl, Tc, fc⟩
          refine E.aload_n C dJ19_fixAfterDeletion_214 rfl ?_
          refine E.aload_n C dJ19_fixAfterDeletion_215 rfl ?_
          refine E.callS C (m_parentOf Tc (some x) (some q) (S1 sx) px) dJ19_fixAfterDeletion_216 q1155 q1156 q75 q1157 mh_J19_parentOf (by decide) (by decide) rfl (Nat.le_of_ble_eq_true rfl) (by omega) (fun _ _ hx => hx.elim) ?_
          rintro v u9 ⟨rfl, rfl⟩
          refine E.callV C (m_rotateRight Tc ht Iu q w sq ew) dJ19_fixAfterDeletion_219 q1174 q1176 qs7 q75 q1177 mh_J19_rotateRight (by decide) (by decide) (TH.rv Tc) rfl (Nat.le_of_ble_eq_true rfl) (by omega) (fun _ _ hx => hx.elim) ?_
          rintro v ud ⟨rfl, Td, fd⟩
          have kk := rotR_x Iu sq hx ew
          have hl2 : ∀ z, Lk z → _ ∧ _ := fun z hz => rotR_lf (z := z) (p := q) (r := w) Iu sq (fun e => by have z3 := (hl z hz).2.2; rw [e] at z3; omega) (fun e => by have z3 := (hl z hz).2.2; rw [e] at z3; omega) (hl z hz).1 (hl z hz).2.1
          refine E.aload_n C dJ19_fixAfterDeletion_222 rfl ?_
          refine E.callS C (m_parentOf Td (some x) (some q) (S1 sx) kk.2.2.1) dJ19_fixAfterDeletion_223 q1155 q1156 q75 q1157 mh_J19_parentOf (by decide) (by decide) rfl (Nat.le_of_ble_eq_true rfl) (by omega) (fun _ _ hx => hx.elim) ?_
          rintro v u9 ⟨rfl, rfl⟩
          refine E.callS C (m_leftOf Td (some q) (tR Θ1 w) (S1 sq) kk.2.1) dJ19_fixAfterDeletion_226 q1158 q1159 q75 q1160 mh_J19_leftOf (by decide) (by decide) rfl (Nat.le_of_ble_eq_true rfl) (by omega) (fun _ _ hx => hx.elim) ?_
          rintro v u9 ⟨rfl, rfl⟩
          refine E.astore_n C dJ19_fixAfterDeletion_229 (kn_ _ (by decide)) ?_
          refine E.loc (l' := [(0, .ref a), (1, .ref x), (2, va_rf (tR Θ1 w))]) (by cases (tR Θ1 w) <;> rfl) ?_
          refine k71R _ _ _ _ _ _ _ x q (tR Θ1 w) Td (fu.tr (fb.tr (fc.tr fd))) (eu.tr ⟨rfl, rfl, rfl, rfl⟩) (TI.rotR Iu sq ew) sq kk.1 kk.2.1 (fun z hz => ⟨(hl2 z hz).1, (hl2 z hz).2, ?_, ?_⟩) (fun u2 Θ2 e1 e2 e3 e4 e5 T2 f2 eu2 => ?_)
          · refine Int.lt_of_le_of_lt (Int.le_of_eq ?_) (hl z hz).2.2.1
            exact kk.2.2.2.2
          · refine Int.lt_of_lt_of_le (hl z hz).2.2.2 (Int.le_of_eq ?_)
            exact kk.2.2.2.1.symm
          · refine kred _ Θ2 _ _ _ _ _ q T2 f2 eu2 (by rw [e1, e2, e3, e4]; exact TI.rotR Iu sq ew) (by rw [e1]; exact sq) ?_ (fun z hz => ?_)
            · rw [e5]; exact if_pos rfl
            · rw [e2, e3]; exact hl2 z hz
      · have hx : tL Θ1 q = some x := cl.symm
        have bx := Iu.2.1 q x sq hx
        have bq := Iu.1 q sq
        have bx1 := Iu.1 x sx
        refine E.aload_n C dJ19_fixAfterDeletion_27 rfl ?_
        refine E.callS C (m_parentOf Tu (some x) (some q) (S1 sx) px) dJ19_fixAfterDeletion_28 q1155 q1156 q75 q1157 mh_J19_parentOf (by decide) (by decide) rfl (Nat.le_of_ble_eq_true rfl) (by omega) (fun _ _ hx => hx.elim) ?_
        rintro v u9 ⟨rfl, rfl⟩
        refine E.callS C (m_rightOf Tu (some q) (tR Θ1 q) (S1 sq) rfl) dJ19_fixAfterDeletion_31 q1161 q1162 q75 q1163 mh_J19_rightOf (by decide) (by decide) rfl (Nat.le_of_ble_eq_true rfl) (by omega) (fun _ _ hx => hx.elim) ?_
        rintro v u9 ⟨rfl, rfl⟩
        refine E.astore_n C dJ19_fixAfterDeletion_34 (kn_ _ (by decide)) ?_
        refine E.aload_n C dJ19_fixAfterDeletion_35 rfl ?_
        refine E.loc (l' := [(0, .ref a), (1, .ref x), (2, va_rf (tR Θ1 q))]) (by cases (tR Θ1 q) <;> rfl) ?_
        have hoS : ∀ b, tR Θ1 q = some b → tS Θ1 b := fun b e => (Iu.2.2.1 q b sq e).1
        refine E.callS C (m_colorOfC Tu (tR Θ1 q) hoS) dJ19_fixAfterDeletion_36 q1164 q1165 q75 q1166 mh_J19_colorOf (by decide) (by decide) rfl (Nat.le_of_ble_eq_true rfl) (by omega) (fun _ _ hx => hx.elim) ?_
        rintro v u9 ⟨rfl, rfl⟩
        refine E.if_ne C dJ19_fixAfterDeletion_39 (tgt := 71) (by decide) (fun c3 => ?_) (fun c3 => ?_)
        · refine k71L _ Θ1 root1 _ _ _ _ x q (tR Θ1 q) Tu fu eu Iu sq hx rfl hl (fun u2 Θ2 e1 e2 e3 e4 e5 T2 f2 eu2 => ?_)
          refine ih _ Θ2 root1 lq1 hq1 lo1 hi1 q T2 f2 eu2 (by rw [e1, e2, e3, e4]; exact Iu) (by rw [e1]; exact sq) (fun z hz => ?_) (by omega)
          obtain ⟨z1, z2, z3, z4⟩ := hl z hz
          rw [e2, e3]
          exact ⟨z1, z2, by omega, by omega⟩
        · obtain ⟨w, ew⟩ : ∃ w, tR Θ1 q = some w := by
            cases e : tR Θ1 q with
            | none => rw [e] at c3; exact absurd (show (1 : Int32) = 0 from c3) (by decide)
            | some w => exact ⟨w, rfl⟩
          have sw := hoS w ew
          have iw := Iu.1 w sw
          have bw := Iu.2.2.1 q w sq ew
          rw [ew]
          refine E.aload_n C dJ19_fixAfterDeletion_42 rfl ?_
          refine E.iconst C dJ19_fixAfterDeletion_43 (v := 1) (by decide) ?_
          refine E.callS C (m_setColorO Tu ht (some w) 1 (S1 sw) (Or.inr rfl)) dJ19_fixAfterDeletion_44 q1167 q1168 q75 q1169 mh_J19_setColor (by decide) (by decide) rfl (Nat.le_of_ble_eq_true rfl) (by omega) (fun _ _ hx => hx.elim) ?_
          rintro v ub ⟨rfl, Tb, fb⟩
          refine E.aload_n C dJ19_fixAfterDeletion_47 rfl ?_
          refine E.callS C (m_parentOf Tb (some x) (some q) (S1 sx) px) dJ19_fixAfterDeletion_48 q1155 q1156 q75 q1157 mh_J19_parentOf (by decide) (by decide) rfl (Nat.le_of_ble_eq_true rfl) (by omega) (fun _ _ hx => hx.elim) ?_
          rintro v u9 ⟨rfl, rfl⟩
          refine E.iconst C dJ19_fixAfterDeletion_51 (v := 0) (by decide) ?_
          refine E.callS C (m_setColorO Tb ht (some q) 0 (S1 sq) (Or.inl rfl)) dJ19_fixAfterDeletion_52 q1167 q1168 q75 q1169 mh_J19_setColor (by decide) (by decide) rfl (Nat.le_of_ble_eq_true rfl) (by omega) (fun _ _ hx => hx.elim) ?_
          rintro v uc ⟨rfl, Tc, fc⟩
          refine E.aload_n C dJ19_fixAfterDeletion_55 rfl ?_
          refine E.aload_n C dJ19_fixAfterDeletion_56 rfl ?_
          refine E.callS C (m_parentOf Tc (some x) (some q) (S1 sx) px) dJ19_fixAfterDeletion_57 q1155 q1156 q75 q1157 mh_J19_parentOf (by decide) (by decide) rfl (Nat.le_of_ble_eq_true rfl) (by omega) (fun _ _ hx => hx.elim) ?_
          rintro v u9 ⟨rfl, rfl⟩
          refine E.callV C (m_rotateLeft Tc ht Iu q w sq ew) dJ19_fixAfterDeletion_60 q1170 q1172 qs6 q75 q1173 mh_J19_rotateLeft (by decide) (by decide) (TH.rv Tc) rfl (Nat.le_of_ble_eq_true rfl) (by omega) (fun _ _ hx => hx.elim) ?_
          rintro v ud ⟨rfl, Td, fd⟩
          have kk := rotL_x Iu sq hx ew
          have hl2 : ∀ z, Lk z → _ ∧ _ := fun z hz => rotL_lf (z := z) (p := q) (r := w) Iu sq (fun e => by have z3 := (hl z hz).2.2; rw [e] at z3; omega) (fun e => by have z3 := (hl z hz).2.2; rw [e] at z3; omega) (hl z hz).1 (hl z hz).2.1
          refine E.aload_n C dJ19_fixAfterDeletion_63 rfl ?_
          refine E.callS C (m_parentOf Td (some x) (some q) (S1 sx) kk.2.2.1) dJ19_fixAfterDeletion_64 q1155 q1156 q75 q1157 mh_J19_parentOf (by decide) (by decide) rfl (Nat.le_of_ble_eq_true rfl) (by omega) (fun _ _ hx => hx.elim) ?_
          rintro v u9 ⟨rfl, rfl⟩
          refine E.callS C (m_rightOf Td (some q) (tL Θ1 w) (S1 sq) kk.2.1) dJ19_fixAfterDeletion_67 q1161 q1162 q75 q1163 mh_J19_rightOf (by decide) (by decide) rfl (Nat.le_of_ble_eq_true rfl) (by omega) (fun _ _ hx => hx.elim) ?_
          rintro v u9 ⟨rfl, rfl⟩
          refine E.astore_n C dJ19_fixAfterDeletion_70 (kn_ _ (by decide)) ?_
          refine E.loc (l' := [(0, .ref a), (1, .ref x), (2, va_rf (tL Θ1 w))]) (by cases (tL Θ1 w) <;> rfl) ?_
          refine k71L _ _ _ _ _ _ _ x q (tL Θ1 w) Td (fu.tr (fb.tr (fc.tr fd))) (eu.tr ⟨rfl, rfl, rfl, rfl⟩) (TI.rotL Iu sq ew) sq kk.1 kk.2.1 (fun z hz => ⟨(hl2 z hz).1, (hl2 z hz).2, ?_, ?_⟩) (fun u2 Θ2 e1 e2 e3 e4 e5 T2 f2 eu2 => ?_)
          · refine Int.lt_of_le_of_lt (Int.le_of_eq ?_) (hl z hz).2.2.1
            exact kk.2.2.2.1
          · refine Int.lt_of_lt_of_le (hl z hz).2.2.2 (Int.le_of_eq ?_)
            exact kk.2.2.2.2.symm
          · refine kred _ Θ2 _ _ _ _ _ q T2 f2 eu2 (by rw [e1, e2, e3, e4]; exact TI.rotL Iu sq ew) (by rw [e1]; exact sq) ?_ (fun z hz => ?_)
            · rw [e5]; exact if_pos rfl
            · rw [e2, e3]; exact hl2 z hz
  exact lp _ h Θ root lq hq lo hi x0 T gfr.rf tEq.rf I hx0 hLk (Nat.lt_succ_self _)
end TFIXD
