/-! JDK: TreeMap's repair behind an insertion -/
set_option maxRecDepth 100000
theorem S1 {Θ : gT} {x : Nat} (h : tS Θ x) : ∀ b, some x = some b → tS Θ b := fun b e => by cases e; exact h
/-- the same nodes, keys, boxes, values -/
def tEq (Θ Θ' : gT) : Prop := tS Θ' = tS Θ ∧ tK Θ' = tK Θ ∧ tX Θ' = tX Θ ∧ tV Θ' = tV Θ
theorem tEq.rf {Θ : gT} : tEq Θ Θ := ⟨rfl, rfl, rfl, rfl⟩
theorem tEq.tr {A B C : gT} (p : tEq A B) (q : tEq B C) : tEq A C := ⟨q.1.trans p.1, q.2.1.trans p.2.1, q.2.2.1.trans p.2.2.1, q.2.2.2.trans p.2.2.2⟩
theorem tEq.c {Θ : gT} {q : Nat} {v : Int32} : tEq Θ (sC Θ q v) := ⟨rfl, rfl, rfl, rfl⟩
theorem TI.bd {S : Nat → Prop} {gk : Nat → Int} {L R P : Nat → Option Nat} {root : Option Nat} {lq hq : Nat → Option Nat} {lo hi : Nat → Int} (h : TI S gk L R P root lq hq lo hi) (hB : ∀ q, S q → gk q < tB ∧ -tB < gk q) : ∀ q, S q → -tB ≤ lo q ∧ hi q ≤ tB := by
  obtain ⟨h1, h2, h3, h4, h5, h6, h7, h8, h9, h10, h11, h12, h13⟩ := h
  intro q hq9
  constructor
  · cases e : lq q with
    | none => rw [(h12 q hq9).1 e]; omega
    | some c => have := (h13 q c hq9).1 e; have := (hB c this.1).2; omega
  · cases e : hq q with
    | none => rw [(h12 q hq9).2 e]; omega
    | some c => have := (h13 q c hq9).2 e; have := (hB c this.1).1; omega
/-- a child's interval is smaller -/
theorem TI.up {S : Nat → Prop} {gk : Nat → Int} {L R P : Nat → Option Nat} {root : Option Nat} {lq hq : Nat → Option Nat} {lo hi : Nat → Int} (h : TI S gk L R P root lq hq lo hi) {x q : Nat} (hx : S x) (hp : P x = some q) : S q ∧ hi x - lo x < hi q - lo q ∧ (L q = some x ∨ R q = some x) := by
  obtain ⟨h1, h2, h3, h4, h5, h6, h7, h8, h9, h10, h11, h12, h13⟩ := h
  have r := h5 x q hx hp
  refine ⟨r.1, ?_, r.2⟩
  have b := h1 q r.1
  rcases r.2 with e | e
  · have := h2 q x r.1 e; omega
  · have := h3 q x r.1 e; omega
/-- a node's colour, black for none -/
def tCo (Θ : gT) : Option Nat → Int32 | none => 1 | some b => tC Θ b
section TFIX
variable {G : gG} {h : gH} {t a : Nat} {Θ : gT} {root : Option Nat} {sz md : Int32} {gk : Nat → Int} {lq hq : Nat → Option Nat} {lo hi : Nat → Int}
theorem m_colorOfC (T : TH h t a Θ root sz md) (o : Option Nat) (ho : ∀ b, o = some b → tS Θ b) : gMet 1 yJ19_colorOf cJ19_colorOf 1 (some .boolean) G h [va_rf o] (fun v u => v = some (.int (tCo Θ o)) ∧ u = h) gNo 0 := by
  cases o with
  | none => exact m_colorOf T none _ ho rfl
  | some b => exact m_colorOf T (some b) _ ho rfl
theorem m_rotateLeft0 : gMet 1 yJ19_rotateLeft cJ19_rotateLeft 3 none G h [.ref a, .null] (fun v u => v = none ∧ u = h) gNo 0 := by
  refine gMet.of (by decide) (Nat.le_of_ble_eq_true rfl) (fun K C N hG hn hin => ?_)
  subst hG
  have kn_ : ∀ j : Nat, j < 3 → j < kn K := fun j hj => by rw [hn]; exact hj
  refine E.aload_n C dJ19_rotateLeft_0 rfl ?_
  refine E.ifnull0 C dJ19_rotateLeft_1 (tgt := 95) (by decide) ?_
  refine E.endV C N dJ19_rotateLeft_95 (by omega) ?_
  exact ⟨rfl, rfl⟩
theorem m_rotateRight0 : gMet 1 yJ19_rotateRight cJ19_rotateRight 3 none G h [.ref a, .null] (fun v u => v = none ∧ u = h) gNo 0 := by
  refine gMet.of (by decide) (Nat.le_of_ble_eq_true rfl) (fun K C N hG hn hin => ?_)
  subst hG
  have kn_ : ∀ j : Nat, j < 3 → j < kn K := fun j hj => by rw [hn]; exact hj
  refine E.aload_n C dJ19_rotateRight_0 rfl ?_
  refine E.ifnull0 C dJ19_rotateRight_1 (tgt := 95) (by decide) ?_
  refine E.endV C N dJ19_rotateRight_95 (by omega) ?_
  exact ⟨rfl, rfl⟩
set_option maxHeartbeats 4000000 in
theorem m_fixAfterInsertion (T : TH h t a Θ root sz md) (ht : t ≠ 0) (I : TI (tS Θ) gk (tL Θ) (tR Θ) (tP Θ) root lq hq lo hi) (hB : ∀ q, tS Θ q → gk q < tB ∧ -tB < gk q) {x0 : Nat} (hx0 : tS Θ x0) :
    gMet 2 yJ19_fixAfterInsertion cJ19_fixAfterInsertion 3 none G h [.ref a, .ref x0] (fun v u => v = none ∧ gfr t h u ∧ ∃ Θ' root' lq' hq' lo' hi', TH u t a Θ' root' sz md ∧ tEq Θ Θ' ∧ TI (tS Θ') gk (tL Θ') (tR Θ') (tP Θ') root' lq' hq' lo' hi') gNo 0 := by
  refine gMet.of (by decide) (Nat.le_of_ble_eq_true rfl) (fun K C N hG hn hin => ?_)
  subst hG
  have kn_ : ∀ j : Nat, j < 3 → j < kn K := fun j hj => by rw [hn]; exact hj
  have kx : ∀ (u : gH) (Θ1 : gT) (root1 : Option Nat) (lq1 hq1 : Nat → Option Nat) (lo1 hi1 : Nat → Int) (cur : Option Nat), TH u t a Θ1 root1 sz md → gfr t h u → tEq Θ Θ1 → TI (tS Θ1) gk (tL Θ1) (tR Θ1) (tP Θ1) root1 lq1 hq1 lo1 hi1 → E K 258 [(0, .ref a), (1, va_rf cur)] [] u 0 := by
    intro u Θ1 root1 lq1 hq1 lo1 hi1 cur Tu fu eu Iu
    refine E.aload_n C dJ19_fixAfterInsertion_258 rfl ?_
    refine E.tgetRoot C Tu dJ19_fixAfterInsertion_259 q469 ?_
    have hx1 : tS Θ1 x0 := by rw [eu.1]; exact hx0
    cases root1 with
    | none => exact absurd hx1 (Iu.2.2.2.2.2.2.2.2.1 rfl x0)
    | some r =>
      have hr := (Iu.2.2.2.2.2.2.2.1 r rfl).1
      refine E.iconst C dJ19_fixAfterInsertion_262 (v := 1) (by decide) ?_
      refine E.tputC C Tu (ht := ht) (d := dJ19_fixAfterInsertion_263) (w := q1133) (hq := hr) (hv := Or.inr rfl) ?_
      intro u2 T2 f2
      refine E.endV C N dJ19_fixAfterInsertion_266 (by omega) ?_
      exact ⟨rfl, fu.tr f2, _, _, _, _, _, _, T2, eu.tr tEq.c, Iu⟩
  have kbl : ∀ (u : gH) (Θ1 : gT) (root1 : Option Nat) (lq1 hq1 : Nat → Option Nat) (lo1 hi1 : Nat → Int) (x q : Nat), TH u t a Θ1 root1 sz md → gfr t h u → tEq Θ Θ1 → TI (tS Θ1) gk (tL Θ1) (tR Θ1) (tP Θ1) root1 lq1 hq1 lo1 hi1 → tS Θ1 x → tP Θ1 x = some q → tC Θ1 q = 1 → E K 5 [(0, .ref a), (1, .ref x)] [] u 0 := by
    intro u Θ1 root1 lq1 hq1 lo1 hi1 x q Tu fu eu Iu sx px cq
    refine E.aload_n C dJ19_fixAfterInsertion_5 rfl ?_
    refine E.ifnull1 C dJ19_fixAfterInsertion_6 ?_
    refine E.aload_n C dJ19_fixAfterInsertion_9 rfl ?_
    refine E.aload_n C dJ19_fixAfterInsertion_10 rfl ?_
    refine E.tgetRoot C Tu dJ19_fixAfterInsertion_11 q469 ?_
    refine E.acmp_eq (x := some x) (y := root1) C dJ19_fixAfterInsertion_14 (tgt := 258) (by decide) (fun c => ?_) (fun c => ?_)
    · exact kx u Θ1 root1 _ _ _ _ (some x) Tu fu eu Iu
    · refine E.aload_n C dJ19_fixAfterInsertion_17 rfl ?_
      refine E.getf C dJ19_fixAfterInsertion_18 ((Tu.en sx)) rfl 4 q1131 (by decide) rfl rfl ?_
      refine E.rv (congrArg va_rf px) ?_
      refine E.getf C dJ19_fixAfterInsertion_21 ((Tu.en (Iu.up sx px).1)) rfl 5 q1133 (by decide) rfl rfl ?_
      refine E.if_ne C dJ19_fixAfterInsertion_24 (tgt := 258) (by decide) (fun c2 => ?_) (fun c2 => ?_)
      · exact kx u Θ1 root1 _ _ _ _ (some x) Tu fu eu Iu
      · rw [cq] at c2; exact absurd c2 (by decide)
  have lp : ∀ (n : Nat) (u : gH) (Θ1 : gT) (root1 : Option Nat) (lq1 hq1 : Nat → Option Nat) (lo1 hi1 : Nat → Int) (cur : Option Nat), TH u t a Θ1 root1 sz md → gfr t h u → tEq Θ Θ1 → TI (tS Θ1) gk (tL Θ1) (tR Θ1) (tP Θ1) root1 lq1 hq1 lo1 hi1 → (∀ x, cur = some x → tS Θ1 x ∧ (2 * tB - (hi1 x - lo1 x)).toNat < n) → E K 5 [(0, .ref a), (1, va_rf cur)] [] u 0 := by
    intro n
    induction n with
    | zero =>
      intro u Θ1 root1 lq1 hq1 lo1 hi1 cur Tu fu eu Iu hc
      refine E.aload_n C dJ19_fixAfterInsertion_5 rfl ?_
      refine E.ifnull C dJ19_fixAfterInsertion_6 (tgt := 258) (by decide) (fun e => ?_) (fun x e => ?_)
      · exact kx u Θ1 root1 _ _ _ _ cur Tu fu eu Iu
      · exact absurd (hc x e).2 (Nat.not_lt_zero _)
    | succ n ih =>
      intro u Θ1 root1 lq1 hq1 lo1 hi1 cur Tu fu eu Iu hc
      refine E.aload_n C dJ19_fixAfterInsertion_5 rfl ?_
      refine E.ifnull C dJ19_fixAfterInsertion_6 (tgt := 258) (by decide) (fun e => ?_) (fun x e => ?_)
      · exact kx u Θ1 root1 _ _ _ _ cur Tu fu eu Iu
      subst e
      obtain ⟨sx, hm⟩ := hc x rfl
      refine E.aload_n C dJ19_fixAfterInsertion_9 rfl ?_
      refine E.aload_n C dJ19_fixAfterInsertion_10 rfl ?_
      refine E.tgetRoot C Tu dJ19_fixAfterInsertion_11 q469 ?_
      refine E.acmp_eq (x := some x) (y := root1) C dJ19_fixAfterInsertion_14 (tgt := 258) (by decide) (fun c => ?_) (fun c => ?_)
      · exact kx u Θ1 root1 _ _ _ _ (some x) Tu fu eu Iu
      obtain ⟨q, px⟩ : ∃ q, tP Θ1 x = some q := by
        cases e : tP Θ1 x with
        | none => exact absurd (Iu.2.2.2.1 x sx e).1.symm c
        | some q => exact ⟨q, rfl⟩
      obtain ⟨sq, mq, dq⟩ := Iu.up sx px
      have bd := Iu.bd (fun z hz => hB z (by rw [eu.1] at hz; exact hz))
      refine E.aload_n C dJ19_fixAfterInsertion_17 rfl ?_
      refine E.getf C dJ19_fixAfterInsertion_18 ((Tu.en sx)) rfl 4 q1131 (by decide) rfl rfl ?_
      refine E.rv (congrArg va_rf px) ?_
      refine E.getf C dJ19_fixAfterInsertion_21 ((Tu.en sq)) rfl 5 q1133 (by decide) rfl rfl ?_
      refine E.if_ne C dJ19_fixAfterInsertion_24 (tgt := 258) (by decide) (fun c2 => ?_) (fun c2 => ?_)
      · exact kx u Θ1 root1 _ _ _ _ (some x) Tu fu eu Iu
      have hgS : ∀ b, tP Θ1 q = some b → tS Θ1 b := fun b e => (Iu.up sq e).1
      refine E.aload_n C dJ19_fixAfterInsertion_27 rfl ?_
      refine E.callS C (m_parentOf Tu (some x) (some q) (S1 sx) px) dJ19_fixAfterInsertion_28 q1155 q1156 q75 q1157 mh_J19_parentOf (by decide) (by decide) rfl (Nat.le_of_ble_eq_true rfl) (by omega) (fun _ _ hx => hx.elim) ?_
      rintro v u9 ⟨rfl, rfl⟩
      refine E.aload_n C dJ19_fixAfterInsertion_31 rfl ?_
      refine E.callS C (m_parentOf Tu (some x) (some q) (S1 sx) px) dJ19_fixAfterInsertion_32 q1155 q1156 q75 q1157 mh_J19_parentOf (by decide) (by decide) rfl (Nat.le_of_ble_eq_true rfl) (by omega) (fun _ _ hx => hx.elim) ?_
      rintro v u9 ⟨rfl, rfl⟩
      refine E.callS C (m_parentOf Tu (some q) (tP Θ1 q) (S1 sq) rfl) dJ19_fixAfterInsertion_35 q1155 q1156 q75 q1157 mh_J19_parentOf (by decide) (by decide) rfl (Nat.le_of_ble_eq_true rfl) (by omega) (fun _ _ hx => hx.elim) ?_
      rintro v u9 ⟨rfl, rfl⟩
      refine E.callS C (m_leftOf Tu (tP Θ1 q) ((tP Θ1 q).bind (tL Θ1)) hgS rfl) dJ19_fixAfterInsertion_38 q1158 q1159 q75 q1160 mh_J19_leftOf (by decide) (by decide) rfl (Nat.le_of_ble_eq_true rfl) (by omega) (fun _ _ hx => hx.elim) ?_
      rintro v u9 ⟨rfl, rfl⟩
      refine E.acmp_ne (x := some q) (y := (tP Θ1 q).bind (tL Θ1)) C dJ19_fixAfterInsertion_41 (tgt := 151) (by decide) (fun cl => ?_) (fun cl => ?_)
      · have rg : ∀ g, tP Θ1 q = some g → tR Θ1 g = some q := fun g pg => (Iu.up sq pg).2.2.resolve_left (fun z => cl (by rw [pg]; exact z.symm))
        have k225 : ∀ (u1 : gH) (Θ2 : gT) (root2 : Option Nat) (lq2 hq2 : Nat → Option Nat) (lo2 hi2 : Nat → Int) (x q : Nat) (gp : Option Nat) (y2 : Option Nat), TH u1 t a Θ2 root2 sz md → gfr t h u1 → tEq Θ Θ2 → TI (tS Θ2) gk (tL Θ2) (tR Θ2) (tP Θ2) root2 lq2 hq2 lo2 hi2 → tS Θ2 x → tP Θ2 x = some q → tS Θ2 q → tR Θ2 q = some x → tP Θ2 q = gp → (∀ g, gp = some g → tS Θ2 g ∧ tR Θ2 g = some q) → E K 225 [(0, .ref a), (1, .ref x), (2, va_rf y2)] [] u1 0 := by
          intro u1 Θ2 root2 lq2 hq2 lo2 hi2 x q gp y2 Tu fu eu Iu sx px sq lx pg hgp
          refine E.aload_n C dJ19_fixAfterInsertion_225 rfl ?_
          refine E.callS C (m_parentOf Tu (some x) (some q) (S1 sx) px) dJ19_fixAfterInsertion_226 q1155 q1156 q75 q1157 mh_J19_parentOf (by decide) (by decide) rfl (Nat.le_of_ble_eq_true rfl) (by omega) (fun _ _ hx => hx.elim) ?_
          rintro v u9 ⟨rfl, rfl⟩
          refine E.iconst C dJ19_fixAfterInsertion_229 (v := 1) (by decide) ?_
          refine E.callS C (m_setColor Tu ht q 1 sq (Or.inr rfl)) dJ19_fixAfterInsertion_230 q1167 q1168 q75 q1169 mh_J19_setColor (by decide) (by decide) rfl (Nat.le_of_ble_eq_true rfl) (by omega) (fun _ _ hx => hx.elim) ?_
          rintro v ub ⟨rfl, Tb, fb⟩
          cases gp with
          | some g =>
            obtain ⟨sg, lg⟩ := hgp g rfl
            refine E.aload_n C dJ19_fixAfterInsertion_233 rfl ?_
            refine E.callS C (m_parentOf Tb (some x) (some q) (S1 sx) px) dJ19_fixAfterInsertion_234 q1155 q1156 q75 q1157 mh_J19_parentOf (by decide) (by decide) rfl (Nat.le_of_ble_eq_true rfl) (by omega) (fun _ _ hx => hx.elim) ?_
            rintro v u9 ⟨rfl, rfl⟩
            refine E.callS C (m_parentOf Tb (some q) (some g) (S1 sq) pg) dJ19_fixAfterInsertion_237 q1155 q1156 q75 q1157 mh_J19_parentOf (by decide) (by decide) rfl (Nat.le_of_ble_eq_true rfl) (by omega) (fun _ _ hx => hx.elim) ?_
            rintro v u9 ⟨rfl, rfl⟩
            refine E.iconst C dJ19_fixAfterInsertion_240 (v := 0) (by decide) ?_
            refine E.callS C (m_setColor Tb ht g 0 sg (Or.inl rfl)) dJ19_fixAfterInsertion_241 q1167 q1168 q75 q1169 mh_J19_setColor (by decide) (by decide) rfl (Nat.le_of_ble_eq_true rfl) (by omega) (fun _ _ hx => hx.elim) ?_
            rintro v uc ⟨rfl, Tc, fc⟩
            refine E.aload_n C dJ19_fixAfterInsertion_244 rfl ?_
            refine E.aload_n C dJ19_fixAfterInsertion_245 rfl ?_
            refine E.callS C (m_parentOf Tc (some x) (some q) (S1 sx) px) dJ19_fixAfterInsertion_246 q1155 q1156 q75 q1157 mh_J19_parentOf (by decide) (by decide) rfl (Nat.le_of_ble_eq_true rfl) (by omega) (fun _ _ hx => hx.elim) ?_
            rintro v u9 ⟨rfl, rfl⟩
            refine E.callS C (m_parentOf Tc (some q) (some g) (S1 sq) pg) dJ19_fixAfterInsertion_249 q1155 q1156 q75 q1157 mh_J19_parentOf (by decide) (by decide) rfl (Nat.le_of_ble_eq_true rfl) (by omega) (fun _ _ hx => hx.elim) ?_
            rintro v u9 ⟨rfl, rfl⟩
            refine E.callV C (m_rotateLeft Tc ht Iu g q sg lg) dJ19_fixAfterInsertion_252 q1170 q1172 qs6 q75 q1173 mh_J19_rotateLeft (by decide) (by decide) (TH.rv Tc) rfl (Nat.le_of_ble_eq_true rfl) (by omega) (fun _ _ hx => hx.elim) ?_
            rintro v ud ⟨rfl, Td, fd⟩
            refine E.goto C dJ19_fixAfterInsertion_255 (tgt := 5) (by decide) ?_
            refine E.sub (l' := [(0, .ref a), (1, .ref x)]) [0, 1] (by cases y2 <;> rfl) ?_
            have hqg : q ≠ g := fun e => by have := (Iu.up sq pg).2.1; rw [e] at this; omega
            have hxg : x ≠ g := fun e => by have := (Iu.up sq pg).2.1; have := (Iu.up sx px).2.1; rw [e] at this; omega
            have hxq : x ≠ q := fun e => by have := (Iu.up sx px).2.1; rw [e] at this; omega
            have hnr : ¬ tL Θ2 q = some x := fun e => by have r1 := Iu.2.1 q x sq e; have r2 := Iu.2.2.1 q x sq lx; have r3 := Iu.1 q sq; have r4 := Iu.1 x sx; omega
            refine kbl ud _ _ _ _ _ _ x q Td (fu.tr (fb.tr (fc.tr fd))) (eu.tr ⟨rfl, rfl, rfl, rfl⟩) (TI.rotL Iu sg lg) sx ?_ ?_
            · show (if x = g then _ else if x = q then _ else if tL Θ2 q = some x then _ else tP Θ2 x) = some q
              rw [if_neg hxg, if_neg hxq, if_neg hnr]; exact px
            · show va_up (va_up (tC Θ2) q 1) g 0 q = 1
              rw [up_n hqg, up_s]
          | none =>
            refine E.aload_n C dJ19_fixAfterInsertion_233 rfl ?_
            refine E.callS C (m_parentOf Tb (some x) (some q) (S1 sx) px) dJ19_fixAfterInsertion_234 q1155 q1156 q75 q1157 mh_J19_parentOf (by decide) (by decide) rfl (Nat.le_of_ble_eq_true rfl) (by omega) (fun _ _ hx => hx.elim) ?_
            rintro v u9 ⟨rfl, rfl⟩
            refine E.callS C (m_parentOf Tb (some q) none (S1 sq) pg) dJ19_fixAfterInsertion_237 q1155 q1156 q75 q1157 mh_J19_parentOf (by decide) (by decide) rfl (Nat.le_of_ble_eq_true rfl) (by omega) (fun _ _ hx => hx.elim) ?_
            rintro v u9 ⟨rfl, rfl⟩
            refine E.iconst C dJ19_fixAfterInsertion_240 (v := 0) (by decide) ?_
            refine E.callS C (m_setColor0 0) dJ19_fixAfterInsertion_241 q1167 q1168 q75 q1169 mh_J19_setColor (by decide) (by decide) rfl (Nat.le_of_ble_eq_true rfl) (by omega) (fun _ _ hx => hx.elim) ?_
            rintro v uc ⟨rfl, rfl⟩
            refine E.aload_n C dJ19_fixAfterInsertion_244 rfl ?_
            refine E.aload_n C dJ19_fixAfterInsertion_245 rfl ?_
            refine E.callS C (m_parentOf Tb (some x) (some q) (S1 sx) px) dJ19_fixAfterInsertion_246 q1155 q1156 q75 q1157 mh_J19_parentOf (by decide) (by decide) rfl (Nat.le_of_ble_eq_true rfl) (by omega) (fun _ _ hx => hx.elim) ?_
            rintro v u9 ⟨rfl, rfl⟩
            refine E.callS C (m_parentOf Tb (some q) none (S1 sq) pg) dJ19_fixAfterInsertion_249 q1155 q1156 q75 q1157 mh_J19_parentOf (by decide) (by decide) rfl (Nat.le_of_ble_eq_true rfl) (by omega) (fun _ _ hx => hx.elim) ?_
            rintro v u9 ⟨rfl, rfl⟩
            refine E.callV C (m_rotateLeft0) dJ19_fixAfterInsertion_252 q1170 q1172 qs6 q75 q1173 mh_J19_rotateLeft (by decide) (by decide) (TH.rv Tb) rfl (Nat.le_of_ble_eq_true rfl) (by omega) (fun _ _ hx => hx.elim) ?_
            rintro v ud ⟨rfl, rfl⟩
            refine E.goto C dJ19_fixAfterInsertion_255 (tgt := 5) (by decide) ?_
            refine E.sub (l' := [(0, .ref a), (1, .ref x)]) [0, 1] (by cases y2 <;> rfl) ?_
            exact kbl _ _ _ _ _ _ _ x q Tb (fu.tr fb) (eu.tr tEq.c) Iu sx px (up_s)
        refine E.aload_n C dJ19_fixAfterInsertion_151 rfl ?_
        refine E.callS C (m_parentOf Tu (some x) (some q) (S1 sx) px) dJ19_fixAfterInsertion_152 q1155 q1156 q75 q1157 mh_J19_parentOf (by decide) (by decide) rfl (Nat.le_of_ble_eq_true rfl) (by omega) (fun _ _ hx => hx.elim) ?_
        rintro v u9 ⟨rfl, rfl⟩
        refine E.callS C (m_parentOf Tu (some q) (tP Θ1 q) (S1 sq) rfl) dJ19_fixAfterInsertion_155 q1155 q1156 q75 q1157 mh_J19_parentOf (by decide) (by decide) rfl (Nat.le_of_ble_eq_true rfl) (by omega) (fun _ _ hx => hx.elim) ?_
        rintro v u9 ⟨rfl, rfl⟩
        refine E.callS C (m_leftOf Tu (tP Θ1 q) ((tP Θ1 q).bind (tL Θ1)) hgS rfl) dJ19_fixAfterInsertion_158 q1158 q1159 q75 q1160 mh_J19_leftOf (by decide) (by decide) rfl (Nat.le_of_ble_eq_true rfl) (by omega) (fun _ _ hx => hx.elim) ?_
        rintro v u9 ⟨rfl, rfl⟩
        have hyS : ∀ b, ((tP Θ1 q).bind (tL Θ1)) = some b → tS Θ1 b := (fun b e => by cases e9 : tP Θ1 q with | none => rw [e9] at e; cases e | some g => rw [e9] at e; exact (Iu.2.1 g b (hgS g e9) e).1)
        refine E.astore_n C dJ19_fixAfterInsertion_161 (kn_ _ (by decide)) ?_
        refine E.aload_n C dJ19_fixAfterInsertion_162 rfl ?_
        refine E.loc (l' := [(0, .ref a), (1, .ref x), (2, va_rf ((tP Θ1 q).bind (tL Θ1)))]) (by cases ((tP Θ1 q).bind (tL Θ1)) <;> rfl) ?_
        refine E.callS C (m_colorOfC Tu ((tP Θ1 q).bind (tL Θ1)) hyS) dJ19_fixAfterInsertion_163 q1164 q1165 q75 q1166 mh_J19_colorOf (by decide) (by decide) rfl (Nat.le_of_ble_eq_true rfl) (by omega) (fun _ _ hx => hx.elim) ?_
        rintro v u9 ⟨rfl, rfl⟩
        refine E.if_ne C dJ19_fixAfterInsertion_166 (tgt := 204) (by decide) (fun c3 => ?_) (fun c3 => ?_)
        · refine E.aload_n C dJ19_fixAfterInsertion_204 rfl ?_
          refine E.aload_n C dJ19_fixAfterInsertion_205 rfl ?_
          refine E.callS C (m_parentOf Tu (some x) (some q) (S1 sx) px) dJ19_fixAfterInsertion_206 q1155 q1156 q75 q1157 mh_J19_parentOf (by decide) (by decide) rfl (Nat.le_of_ble_eq_true rfl) (by omega) (fun _ _ hx => hx.elim) ?_
          rintro v u9 ⟨rfl, rfl⟩
          refine E.callS C (m_leftOf Tu (some q) (tL Θ1 q) (S1 sq) rfl) dJ19_fixAfterInsertion_209 q1158 q1159 q75 q1160 mh_J19_leftOf (by decide) (by decide) rfl (Nat.le_of_ble_eq_true rfl) (by omega) (fun _ _ hx => hx.elim) ?_
          rintro v u9 ⟨rfl, rfl⟩
          refine E.acmp_ne (x := some x) (y := tL Θ1 q) C dJ19_fixAfterInsertion_212 (tgt := 225) (by decide) (fun c4 => ?_) (fun c4 => ?_)
          · exact k225 _ Θ1 root1 _ _ _ _ x q (tP Θ1 q) ((tP Θ1 q).bind (tL Θ1)) Tu fu eu Iu sx px sq (dq.resolve_left (fun z => c4 z.symm)) rfl (fun g pg => ⟨hgS g pg, rg g pg⟩)
          · refine E.aload_n C dJ19_fixAfterInsertion_215 rfl ?_
            refine E.callS C (m_parentOf Tu (some x) (some q) (S1 sx) px) dJ19_fixAfterInsertion_216 q1155 q1156 q75 q1157 mh_J19_parentOf (by decide) (by decide) rfl (Nat.le_of_ble_eq_true rfl) (by omega) (fun _ _ hx => hx.elim) ?_
            rintro v u9 ⟨rfl, rfl⟩
            refine E.astore_n C dJ19_fixAfterInsertion_219 (kn_ _ (by decide)) ?_
            refine E.aload_n C dJ19_fixAfterInsertion_220 rfl ?_
            refine E.aload_n C dJ19_fixAfterInsertion_221 rfl ?_
            refine E.callV C (m_rotateRight Tu ht Iu q x sq c4.symm) dJ19_fixAfterInsertion_222 q1174 q1176 qs7 q75 q1177 mh_J19_rotateRight (by decide) (by decide) (TH.rv Tu) rfl (Nat.le_of_ble_eq_true rfl) (by omega) (fun _ _ hx => hx.elim) ?_
            rintro v ua ⟨rfl, Ta, fa⟩
            have hxq : x ≠ q := fun e => by rw [e] at mq; omega
            refine E.loc (l' := [(0, .ref a), (1, .ref q), (2, va_rf ((tP Θ1 q).bind (tL Θ1)))]) (by generalize ((tP Θ1 q).bind (tL Θ1)) = y9; cases y9 <;> rfl) ?_
            refine k225 ua _ _ _ _ _ _ q x (tP Θ1 q) ((tP Θ1 q).bind (tL Θ1)) Ta (fu.tr fa) (eu.tr ⟨rfl, rfl, rfl, rfl⟩) (TI.rotR Iu sq c4.symm) sq ?_ sx ?_ ?_ (fun g pg => ⟨hgS g pg, ?_⟩)
            · exact if_pos rfl
            · exact if_pos rfl
            · show (if x = q then _ else if x = x then tP Θ1 q else _) = tP Θ1 q
              rw [if_neg hxq, if_pos rfl]
            · have hqg : q ≠ g := fun e => by have := (Iu.up sq pg).2.1; rw [e] at this; omega
              have hxg : x ≠ g := fun e => by have := (Iu.up sq pg).2.1; rw [e] at mq; omega
              show (if g = x then _ else if tP Θ1 q = some g ∧ tR Θ1 g = some q then some x else _) = some x
              rw [if_neg hxg.symm, if_pos ⟨pg, rg g pg⟩]
        · obtain ⟨w, ew⟩ : ∃ w, ((tP Θ1 q).bind (tL Θ1)) = some w := by
            cases e : ((tP Θ1 q).bind (tL Θ1)) with
            | none => rw [e] at c3; exact absurd (show (1 : Int32) = 0 from c3) (by decide)
            | some w => exact ⟨w, rfl⟩
          have sw := hyS w ew
          obtain ⟨g, pg⟩ : ∃ g, tP Θ1 q = some g := by
            cases e : tP Θ1 q with
            | none => rw [e] at ew; cases ew
            | some g => exact ⟨g, rfl⟩
          have sg := hgS g pg
          rw [ew]
          refine E.aload_n C dJ19_fixAfterInsertion_169 rfl ?_
          refine E.callS C (m_parentOf Tu (some x) (some q) (S1 sx) px) dJ19_fixAfterInsertion_170 q1155 q1156 q75 q1157 mh_J19_parentOf (by decide) (by decide) rfl (Nat.le_of_ble_eq_true rfl) (by omega) (fun _ _ hx => hx.elim) ?_
          rintro v u9 ⟨rfl, rfl⟩
          refine E.iconst C dJ19_fixAfterInsertion_173 (v := 1) (by decide) ?_
          refine E.callS C (m_setColor Tu ht q 1 sq (Or.inr rfl)) dJ19_fixAfterInsertion_174 q1167 q1168 q75 q1169 mh_J19_setColor (by decide) (by decide) rfl (Nat.le_of_ble_eq_true rfl) (by omega) (fun _ _ hx => hx.elim) ?_
          rintro v ua ⟨rfl, Ta, fa⟩
          refine E.aload_n C dJ19_fixAfterInsertion_177 rfl ?_
          refine E.iconst C dJ19_fixAfterInsertion_178 (v := 1) (by decide) ?_
          refine E.callS C (m_setColor Ta ht w 1 sw (Or.inr rfl)) dJ19_fixAfterInsertion_179 q1167 q1168 q75 q1169 mh_J19_setColor (by decide) (by decide) rfl (Nat.le_of_ble_eq_true rfl) (by omega) (fun _ _ hx => hx.elim) ?_
          rintro v ub ⟨rfl, Tb, fb⟩
          refine E.aload_n C dJ19_fixAfterInsertion_182 rfl ?_
          refine E.callS C (m_parentOf Tb (some x) (some q) (S1 sx) px) dJ19_fixAfterInsertion_183 q1155 q1156 q75 q1157 mh_J19_parentOf (by decide) (by decide) rfl (Nat.le_of_ble_eq_true rfl) (by omega) (fun _ _ hx => hx.elim) ?_
          rintro v u9 ⟨rfl, rfl⟩
          refine E.callS C (m_parentOf Tb (some q) (some g) (S1 sq) pg) dJ19_fixAfterInsertion_186 q1155 q1156 q75 q1157 mh_J19_parentOf (by decide) (by decide) rfl (Nat.le_of_ble_eq_true rfl) (by omega) (fun _ _ hx => hx.elim) ?_
          rintro v u9 ⟨rfl, rfl⟩
          refine E.iconst C dJ19_fixAfterInsertion_189 (v := 0) (by decide) ?_
          refine E.callS C (m_setColor Tb ht g 0 sg (Or.inl rfl)) dJ19_fixAfterInsertion_190 q1167 q1168 q75 q1169 mh_J19_setColor (by decide) (by decide) rfl (Nat.le_of_ble_eq_true rfl) (by omega) (fun _ _ hx => hx.elim) ?_
          rintro v uc ⟨rfl, Tc, fc⟩
          refine E.aload_n C dJ19_fixAfterInsertion_193 rfl ?_
          refine E.callS C (m_parentOf Tc (some x) (some q) (S1 sx) px) dJ19_fixAfterInsertion_194 q1155 q1156 q75 q1157 mh_J19_parentOf (by decide) (by decide) rfl (Nat.le_of_ble_eq_true rfl) (by omega) (fun _ _ hx => hx.elim) ?_
          rintro v u9 ⟨rfl, rfl⟩
          refine E.callS C (m_parentOf Tc (some q) (some g) (S1 sq) pg) dJ19_fixAfterInsertion_197 q1155 q1156 q75 q1157 mh_J19_parentOf (by decide) (by decide) rfl (Nat.le_of_ble_eq_true rfl) (by omega) (fun _ _ hx => hx.elim) ?_
          rintro v u9 ⟨rfl, rfl⟩
          refine E.astore_n C dJ19_fixAfterInsertion_200 (kn_ _ (by decide)) ?_
          refine E.goto C dJ19_fixAfterInsertion_201 (tgt := 255) (by decide) ?_
          refine E.goto C dJ19_fixAfterInsertion_255 (tgt := 5) (by decide) ?_
          refine E.sub (l' := [(0, .ref a), (1, .ref g)]) [0, 1] rfl ?_
          refine ih _ _ root1 lq1 hq1 lo1 hi1 (some g) Tc (fu.tr (fa.tr (fb.tr fc))) (eu.tr ⟨rfl, rfl, rfl, rfl⟩) Iu (fun z hz => ?_)
          cases hz
          have m2 := (Iu.up sq pg).2.1
          have m3 := bd g sg
          refine ⟨sg, ?_⟩
          omega
      · obtain ⟨g, pg, lg⟩ : ∃ g, tP Θ1 q = some g ∧ tL Θ1 g = some q := by
          cases e : tP Θ1 q with
          | none => rw [e] at cl; cases cl
          | some g => rw [e] at cl; exact ⟨g, rfl, cl.symm⟩
        have sg := hgS g pg
        have k118 : ∀ (u1 : gH) (Θ2 : gT) (root2 : Option Nat) (lq2 hq2 : Nat → Option Nat) (lo2 hi2 : Nat → Int) (x q : Nat) (y2 : Option Nat), TH u1 t a Θ2 root2 sz md → gfr t h u1 → tEq Θ Θ2 → TI (tS Θ2) gk (tL Θ2) (tR Θ2) (tP Θ2) root2 lq2 hq2 lo2 hi2 → tS Θ2 x → tP Θ2 x = some q → tS Θ2 q → tL Θ2 q = some x → tS Θ2 g → tP Θ2 q = some g → tL Θ2 g = some q → E K 118 [(0, .ref a), (1, .ref x), (2, va_rf y2)] [] u1 0 := by
          intro u1 Θ2 root2 lq2 hq2 lo2 hi2 x q y2 Tu fu eu Iu sx px sq lx sg pg lg
          refine E.aload_n C dJ19_fixAfterInsertion_118 rfl ?_
          refine E.callS C (m_parentOf Tu (some x) (some q) (S1 sx) px) dJ19_fixAfterInsertion_119 q1155 q1156 q75 q1157 mh_J19_parentOf (by decide) (by decide) rfl (Nat.le_of_ble_eq_true rfl) (by omega) (fun _ _ hx => hx.elim) ?_
          rintro v u9 ⟨rfl, rfl⟩
          refine E.iconst C dJ19_fixAfterInsertion_122 (v := 1) (by decide) ?_
          refine E.callS C (m_setColor Tu ht q 1 sq (Or.inr rfl)) dJ19_fixAfterInsertion_123 q1167 q1168 q75 q1169 mh_J19_setColor (by decide) (by decide) rfl (Nat.le_of_ble_eq_true rfl) (by omega) (fun _ _ hx => hx.elim) ?_
          rintro v ub ⟨rfl, Tb, fb⟩
          refine E.aload_n C dJ19_fixAfterInsertion_126 rfl ?_
          refine E.callS C (m_parentOf Tb (some x) (some q) (S1 sx) px) dJ19_fixAfterInsertion_127 q1155 q1156 q75 q1157 mh_J19_parentOf (by decide) (by decide) rfl (Nat.le_of_ble_eq_true rfl) (by omega) (fun _ _ hx => hx.elim) ?_
          rintro v u9 ⟨rfl, rfl⟩
          refine E.callS C (m_parentOf Tb (some q) (some g) (S1 sq) pg) dJ19_fixAfterInsertion_130 q1155 q1156 q75 q1157 mh_J19_parentOf (by decide) (by decide) rfl (Nat.le_of_ble_eq_true rfl) (by omega) (fun _ _ hx => hx.elim) ?_
          rintro v u9 ⟨rfl, rfl⟩
          refine E.iconst C dJ19_fixAfterInsertion_133 (v := 0) (by decide) ?_
          refine E.callS C (m_setColor Tb ht g 0 sg (Or.inl rfl)) dJ19_fixAfterInsertion_134 q1167 q1168 q75 q1169 mh_J19_setColor (by decide) (by decide) rfl (Nat.le_of_ble_eq_true rfl) (by omega) (fun _ _ hx => hx.elim) ?_
          rintro v uc ⟨rfl, Tc, fc⟩
          refine E.aload_n C dJ19_fixAfterInsertion_137 rfl ?_
          refine E.aload_n C dJ19_fixAfterInsertion_138 rfl ?_
          refine E.callS C (m_parentOf Tc (some x) (some q) (S1 sx) px) dJ19_fixAfterInsertion_139 q1155 q1156 q75 q1157 mh_J19_parentOf (by decide) (by decide) rfl (Nat.le_of_ble_eq_true rfl) (by omega) (fun _ _ hx => hx.elim) ?_
          rintro v u9 ⟨rfl, rfl⟩
          refine E.callS C (m_parentOf Tc (some q) (some g) (S1 sq) pg) dJ19_fixAfterInsertion_142 q1155 q1156 q75 q1157 mh_J19_parentOf (by decide) (by decide) rfl (Nat.le_of_ble_eq_true rfl) (by omega) (fun _ _ hx => hx.elim) ?_
          rintro v u9 ⟨rfl, rfl⟩
          refine E.callV C (m_rotateRight Tc ht Iu g q sg lg) dJ19_fixAfterInsertion_145 q1174 q1176 qs7 q75 q1177 mh_J19_rotateRight (by decide) (by decide) (TH.rv Tc) rfl (Nat.le_of_ble_eq_true rfl) (by omega) (fun _ _ hx => hx.elim) ?_
          rintro v ud ⟨rfl, Td, fd⟩
          refine E.goto C dJ19_fixAfterInsertion_148 (tgt := 5) (by decide) ?_
          refine E.sub (l' := [(0, .ref a), (1, .ref x)]) [0, 1] (by cases y2 <;> rfl) ?_
          have hqg : q ≠ g := fun e => by have := (Iu.up sq pg).2.1; rw [e] at this; omega
          have hxg : x ≠ g := fun e => by have := (Iu.up sq pg).2.1; have := (Iu.up sx px).2.1; rw [e] at this; omega
          have hxq : x ≠ q := fun e => by have := (Iu.up sx px).2.1; rw [e] at this; omega
          have hnr : ¬ tR Θ2 q = some x := fun e => by have r1 := Iu.2.1 q x sq lx; have r2 := Iu.2.2.1 q x sq e; have r3 := Iu.1 q sq; have r4 := Iu.1 x sx; omega
          refine kbl ud _ _ _ _ _ _ x q Td (fu.tr (fb.tr (fc.tr fd))) (eu.tr ⟨rfl, rfl, rfl, rfl⟩) (TI.rotR Iu sg lg) sx ?_ ?_
          · show (if x = g then _ else if x = q then _ else if tR Θ2 q = some x then _ else tP Θ2 x) = some q
            rw [if_neg hxg, if_neg hxq, if_neg hnr]; exact px
          · show va_up (va_up (tC Θ2) q 1) g 0 q = 1
            rw [up_n hqg, up_s]
        refine E.aload_n C dJ19_fixAfterInsertion_44 rfl ?_
        refine E.callS C (m_parentOf Tu (some x) (some q) (S1 sx) px) dJ19_fixAfterInsertion_45 q1155 q1156 q75 q1157 mh_J19_parentOf (by decide) (by decide) rfl (Nat.le_of_ble_eq_true rfl) (by omega) (fun _ _ hx => hx.elim) ?_
        rintro v u9 ⟨rfl, rfl⟩
        refine E.callS C (m_parentOf Tu (some q) (some g) (S1 sq) pg) dJ19_fixAfterInsertion_48 q1155 q1156 q75 q1157 mh_J19_parentOf (by decide) (by decide) rfl (Nat.le_of_ble_eq_true rfl) (by omega) (fun _ _ hx => hx.elim) ?_
        rintro v u9 ⟨rfl, rfl⟩
        refine E.callS C (m_rightOf Tu (some g) (tR Θ1 g) (S1 sg) rfl) dJ19_fixAfterInsertion_51 q1161 q1162 q75 q1163 mh_J19_rightOf (by decide) (by decide) rfl (Nat.le_of_ble_eq_true rfl) (by omega) (fun _ _ hx => hx.elim) ?_
        rintro v u9 ⟨rfl, rfl⟩
        have hyS : ∀ b, (tR Θ1 g) = some b → tS Θ1 b := (fun b e => (Iu.2.2.1 g b sg e).1)
        refine E.astore_n C dJ19_fixAfterInsertion_54 (kn_ _ (by decide)) ?_
        refine E.aload_n C dJ19_fixAfterInsertion_55 rfl ?_
        refine E.loc (l' := [(0, .ref a), (1, .ref x), (2, va_rf (tR Θ1 g))]) (by cases (tR Θ1 g) <;> rfl) ?_
        refine E.callS C (m_colorOfC Tu (tR Θ1 g) hyS) dJ19_fixAfterInsertion_56 q1164 q1165 q75 q1166 mh_J19_colorOf (by decide) (by decide) rfl (Nat.le_of_ble_eq_true rfl) (by omega) (fun _ _ hx => hx.elim) ?_
        rintro v u9 ⟨rfl, rfl⟩
        refine E.if_ne C dJ19_fixAfterInsertion_59 (tgt := 97) (by decide) (fun c3 => ?_) (fun c3 => ?_)
        · refine E.aload_n C dJ19_fixAfterInsertion_97 rfl ?_
          refine E.aload_n C dJ19_fixAfterInsertion_98 rfl ?_
          refine E.callS C (m_parentOf Tu (some x) (some q) (S1 sx) px) dJ19_fixAfterInsertion_99 q1155 q1156 q75 q1157 mh_J19_parentOf (by decide) (by decide) rfl (Nat.le_of_ble_eq_true rfl) (by omega) (fun _ _ hx => hx.elim) ?_
          rintro v u9 ⟨rfl, rfl⟩
          refine E.callS C (m_rightOf Tu (some q) (tR Θ1 q) (S1 sq) rfl) dJ19_fixAfterInsertion_102 q1161 q1162 q75 q1163 mh_J19_rightOf (by decide) (by decide) rfl (Nat.le_of_ble_eq_true rfl) (by omega) (fun _ _ hx => hx.elim) ?_
          rintro v u9 ⟨rfl, rfl⟩
          refine E.acmp_ne (x := some x) (y := tR Θ1 q) C dJ19_fixAfterInsertion_105 (tgt := 118) (by decide) (fun c4 => ?_) (fun c4 => ?_)
          · exact k118 _ Θ1 root1 _ _ _ _ x q (tR Θ1 g) Tu fu eu Iu sx px sq (dq.resolve_right (fun z => c4 z.symm)) sg pg lg
          · refine E.aload_n C dJ19_fixAfterInsertion_108 rfl ?_
            refine E.callS C (m_parentOf Tu (some x) (some q) (S1 sx) px) dJ19_fixAfterInsertion_109 q1155 q1156 q75 q1157 mh_J19_parentOf (by decide) (by decide) rfl (Nat.le_of_ble_eq_true rfl) (by omega) (fun _ _ hx => hx.elim) ?_
            rintro v u9 ⟨rfl, rfl⟩
            refine E.astore_n C dJ19_fixAfterInsertion_112 (kn_ _ (by decide)) ?_
            refine E.aload_n C dJ19_fixAfterInsertion_113 rfl ?_
            refine E.aload_n C dJ19_fixAfterInsertion_114 rfl ?_
            refine E.callV C (m_rotateLeft Tu ht Iu q x sq c4.symm) dJ19_fixAfterInsertion_115 q1170 q1172 qs6 q75 q1173 mh_J19_rotateLeft (by decide) (by decide) (TH.rv Tu) rfl (Nat.le_of_ble_eq_true rfl) (by omega) (fun _ _ hx => hx.elim) ?_
            rintro v ua ⟨rfl, Ta, fa⟩
            have hxq : x ≠ q := fun e => by rw [e] at mq; omega
            have hqg : q ≠ g := fun e => by have := (Iu.up sq pg).2.1; rw [e] at this; omega
            have hxg : x ≠ g := fun e => by have := (Iu.up sq pg).2.1; rw [e] at mq; omega
            refine E.loc (l' := [(0, .ref a), (1, .ref q), (2, va_rf (tR Θ1 g))]) (by cases (tR Θ1 g) <;> rfl) ?_
            refine k118 ua _ _ _ _ _ _ q x (tR Θ1 g) Ta (fu.tr fa) (eu.tr ⟨rfl, rfl, rfl, rfl⟩) (TI.rotL Iu sq c4.symm) sq ?_ sx ?_ sg ?_ ?_
            · exact if_pos rfl
            · exact if_pos rfl
            · show (if x = q then _ else if x = x then tP Θ1 q else _) = some g
              rw [if_neg hxq, if_pos rfl]; exact pg
            · show (if g = x then _ else if tP Θ1 q = some g ∧ tL Θ1 g = some q then some x else _) = some x
              rw [if_neg hxg.symm, if_pos ⟨pg, lg⟩]
        · obtain ⟨w, ew⟩ : ∃ w, (tR Θ1 g) = some w := by
            cases e : (tR Θ1 g) with
            | none => rw [e] at c3; exact absurd (show (1 : Int32) = 0 from c3) (by decide)
            | some w => exact ⟨w, rfl⟩
          have sw := hyS w ew
          rw [ew]
          refine E.aload_n C dJ19_fixAfterInsertion_62 rfl ?_
          refine E.callS C (m_parentOf Tu (some x) (some q) (S1 sx) px) dJ19_fixAfterInsertion_63 q1155 q1156 q75 q1157 mh_J19_parentOf (by decide) (by decide) rfl (Nat.le_of_ble_eq_true rfl) (by omega) (fun _ _ hx => hx.elim) ?_
          rintro v u9 ⟨rfl, rfl⟩
          refine E.iconst C dJ19_fixAfterInsertion_66 (v := 1) (by decide) ?_
          refine E.callS C (m_setColor Tu ht q 1 sq (Or.inr rfl)) dJ19_fixAfterInsertion_67 q1167 q1168 q75 q1169 mh_J19_setColor (by decide) (by decide) rfl (Nat.le_of_ble_eq_true rfl) (by omega) (fun _ _ hx => hx.elim) ?_
          rintro v ua ⟨rfl, Ta, fa⟩
          refine E.aload_n C dJ19_fixAfterInsertion_70 rfl ?_
          refine E.iconst C dJ19_fixAfterInsertion_71 (v := 1) (by decide) ?_
          refine E.callS C (m_setColor Ta ht w 1 sw (Or.inr rfl)) dJ19_fixAfterInsertion_72 q1167 q1168 q75 q1169 mh_J19_setColor (by decide) (by decide) rfl (Nat.le_of_ble_eq_true rfl) (by omega) (fun _ _ hx => hx.elim) ?_
          rintro v ub ⟨rfl, Tb, fb⟩
          refine E.aload_n C dJ19_fixAfterInsertion_75 rfl ?_
          refine E.callS C (m_parentOf Tb (some x) (some q) (S1 sx) px) dJ19_fixAfterInsertion_76 q1155 q1156 q75 q1157 mh_J19_parentOf (by decide) (by decide) rfl (Nat.le_of_ble_eq_true rfl) (by omega) (fun _ _ hx => hx.elim) ?_
          rintro v u9 ⟨rfl, rfl⟩
          refine E.callS C (m_parentOf Tb (some q) (some g) (S1 sq) pg) dJ19_fixAfterInsertion_79 q1155 q1156 q75 q1157 mh_J19_parentOf (by decide) (by decide) rfl (Nat.le_of_ble_eq_true rfl) (by omega) (fun _ _ hx => hx.elim) ?_
          rintro v u9 ⟨rfl, rfl⟩
          refine E.iconst C dJ19_fixAfterInsertion_82 (v := 0) (by decide) ?_
          refine E.callS C (m_setColor Tb ht g 0 sg (Or.inl rfl)) dJ19_fixAfterInsertion_83 q1167 q1168 q75 q1169 mh_J19_setColor (by decide) (by decide) rfl (Nat.le_of_ble_eq_true rfl) (by omega) (fun _ _ hx => hx.elim) ?_
          rintro v uc ⟨rfl, Tc, fc⟩
          refine E.aload_n C dJ19_fixAfterInsertion_86 rfl ?_
          refine E.callS C (m_parentOf Tc (some x) (some q) (S1 sx) px) dJ19_fixAfterInsertion_87 q1155 q1156 q75 q1157 mh_J19_parentOf (by decide) (by decide) rfl (Nat.le_of_ble_eq_true rfl) (by omega) (fun _ _ hx => hx.elim) ?_
          rintro v u9 ⟨rfl, rfl⟩
          refine E.callS C (m_parentOf Tc (some q) (some g) (S1 sq) pg) dJ19_fixAfterInsertion_90 q1155 q1156 q75 q1157 mh_J19_parentOf (by decide) (by decide) rfl (Nat.le_of_ble_eq_true rfl) (by omega) (fun _ _ hx => hx.elim) ?_
          rintro v u9 ⟨rfl, rfl⟩
          refine E.astore_n C dJ19_fixAfterInsertion_93 (kn_ _ (by decide)) ?_
          refine E.goto C dJ19_fixAfterInsertion_94 (tgt := 148) (by decide) ?_
          refine E.goto C dJ19_fixAfterInsertion_148 (tgt := 5) (by decide) ?_
          refine E.sub (l' := [(0, .ref a), (1, .ref g)]) [0, 1] rfl ?_
          refine ih _ _ root1 lq1 hq1 lo1 hi1 (some g) Tc (fu.tr (fa.tr (fb.tr fc))) (eu.tr ⟨rfl, rfl, rfl, rfl⟩) Iu (fun z hz => ?_)
          cases hz
          have m2 := (Iu.up sq pg).2.1
          have m3 := bd g sg
          refine ⟨sg, ?_⟩
          omega
  refine E.aload_n C dJ19_fixAfterInsertion_0 rfl ?_
  refine E.iconst C dJ19_fixAfterInsertion_1 (v := 0) (by decide) ?_
  refine E.tputC C T (ht := ht) (d := dJ19_fixAfterInsertion_2) (w := q1133) (hq := hx0) (hv := Or.inl rfl) ?_
  intro u Tu fu
  exact lp _ u _ root lq hq lo hi (some x0) Tu fu tEq.c I (fun z hz => by cases hz; exact ⟨hx0, Nat.lt_succ_self _⟩)
end TFIX
