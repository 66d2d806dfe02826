/-! search trees by local conditions: pure -/
/-- bounds of all keys -/
def tB : Int := 2 ^ 40
/-- S: the nodes; gk: their keys; L, R, P: children, parent; lo, hi: between what a subtree's keys lie -/
def TI (S : Nat → Prop) (gk : Nat → Int) (L R P : Nat → Option Nat) (root : Option Nat) (lq hq : Nat → Option Nat) (lo hi : Nat → Int) : Prop :=
  (∀ a, S a → lo a < gk a ∧ gk a < hi a) ∧
  (∀ a b, S a → L a = some b → S b ∧ P b = some a ∧ lo b = lo a ∧ hi b = gk a ∧ lq b = lq a ∧ hq b = some a) ∧
  (∀ a b, S a → R a = some b → S b ∧ P b = some a ∧ lo b = gk a ∧ hi b = hi a ∧ lq b = some a ∧ hq b = hq a) ∧
  (∀ a, S a → P a = none → root = some a ∧ lo a = -tB ∧ hi a = tB) ∧
  (∀ a b, S a → P a = some b → S b ∧ (L b = some a ∨ R b = some a)) ∧
  (∀ a c, S a → L a = none → S c → ¬ (lo a < gk c ∧ gk c < gk a)) ∧
  (∀ a c, S a → R a = none → S c → ¬ (gk a < gk c ∧ gk c < hi a)) ∧
  (∀ a, root = some a → S a ∧ P a = none) ∧
  (root = none → ∀ a, ¬ S a) ∧
  (∀ a b, S a → S b → gk a = gk b → a = b) ∧
  (∀ a c, S a → S c → gk a < gk c → (gk c < hi a ∧ gk a ≤ lo c ∧ hi c ≤ hi a) ∨ hi a ≤ lo c ∨ (lo c < gk a ∧ hi a ≤ gk c ∧ lo c ≤ lo a)) ∧
  (∀ a, S a → (lq a = none → lo a = -tB) ∧ (hq a = none → hi a = tB)) ∧
  (∀ a c, S a → (lq a = some c → S c ∧ lo a = gk c) ∧ (hq a = some c → S c ∧ hi a = gk c))
def rLl (L P : Nat → Option Nat) (p r : Nat) : Nat → Option Nat := fun q => if q = r then some p else if P p = some q ∧ L q = some p then some r else L q
def rLr (L R P : Nat → Option Nat) (p r : Nat) : Nat → Option Nat := fun q => if q = p then L r else if P p = some q ∧ ¬ L q = some p then some r else R q
def rLp (L P : Nat → Option Nat) (p r : Nat) : Nat → Option Nat := fun q => if q = p then some r else if q = r then P p else if L r = some q then some p else P q
def rLo (P : Nat → Option Nat) (root : Option Nat) (p r : Nat) : Option Nat := if P p = none then some r else root
set_option maxHeartbeats 2000000 in
theorem TI.rotL {S : Nat → Prop} {gk : Nat → Int} {L R P : Nat → Option Nat} {root : Option Nat} {lq hq : Nat → Option Nat} {lo hi : Nat → Int} {p r : Nat} (h : TI S gk L R P root lq hq lo hi) (hp : S p) (hr : R p = some r) :
    TI S gk (rLl L P p r) (rLr L R P p r) (rLp L P p r) (rLo P root p r) (fun q => if q = r then lq p else lq q) (fun q => if q = p then some r else hq q) (fun q => if q = r then lo p else lo q) (fun q => if q = p then gk r else hi q) := by
  obtain ⟨h1, h2, h3, h4, h5, h6, h7, h8, h9, h10, h11, h12, h13⟩ := h
  have hr2 := h3 p r hp hr
  unfold rLl rLr rLp rLo
  refine ⟨?_, ?_, ?_, ?_, ?_, ?_, ?_, ?_, ?_, h10, ?_, ?_, ?_⟩
  · grind
  · grind
  · grind
  · grind
  · grind
  · grind
  · grind
  · grind
  · grind
  · grind
  · grind
  · grind
def rRl (L R P : Nat → Option Nat) (p l : Nat) : Nat → Option Nat := fun q => if q = p then R l else if P p = some q ∧ ¬ R q = some p then some l else L q
def rRr (R P : Nat → Option Nat) (p l : Nat) : Nat → Option Nat := fun q => if q = l then some p else if P p = some q ∧ R q = some p then some l else R q
def rRp (R P : Nat → Option Nat) (p l : Nat) : Nat → Option Nat := fun q => if q = p then some l else if q = l then P p else if R l = some q then some p else P q
set_option maxHeartbeats 2000000 in
theorem TI.rotR {S : Nat → Prop} {gk : Nat → Int} {L R P : Nat → Option Nat} {root : Option Nat} {lq hq : Nat → Option Nat} {lo hi : Nat → Int} {p l : Nat} (h : TI S gk L R P root lq hq lo hi) (hp : S p) (hl : L p = some l) :
    TI S gk (rRl L R P p l) (rRr R P p l) (rRp R P p l) (rLo P root p l) (fun q => if q = p then some l else lq q) (fun q => if q = l then hq p else hq q) (fun q => if q = p then gk l else lo q) (fun q => if q = l then hi p else hi q) := by
  obtain ⟨h1, h2, h3, h4, h5, h6, h7, h8, h9, h10, h11, h12, h13⟩ := h
  have hr2 := h2 p l hp hl
  unfold rRl rRr rRp rLo
  refine ⟨?_, ?_, ?_, ?_, ?_, ?_, ?_, ?_, ?_, h10, ?_, ?_, ?_⟩
  · grind
  · grind
  · grind
  · grind
  · grind
  · grind
  · grind
  · grind
  · grind
  · grind
  · grind
  · grind
set_option maxHeartbeats 2000000 in
/-- a new node as a left child -/
theorem TI.insL {S : Nat → Prop} {gk : Nat → Int} {L R P : Nat → Option Nat} {root : Option Nat} {lq hq : Nat → Option Nat} {lo hi : Nat → Int} {p n : Nat} {v : Int} (h : TI S gk L R P root lq hq lo hi) (hp : S p) (hl : L p = none) (hn : ¬ S n) (hv : lo p < v ∧ v < gk p) :
    TI (fun q => q = n ∨ S q) (fun q => if q = n then v else gk q) (fun q => if q = p then some n else if q = n then none else L q) (fun q => if q = n then none else R q) (fun q => if q = n then some p else P q) root (fun q => if q = n then lq p else lq q) (fun q => if q = n then some p else hq q) (fun q => if q = n then lo p else lo q) (fun q => if q = n then gk p else hi q) := by
  obtain ⟨h1, h2, h3, h4, h5, h6, h7, h8, h9, h10, h11, h12, h13⟩ := h
  have hpn : p ≠ n := fun e => hn (e ▸ hp)
  refine ⟨?_, ?_, ?_, ?_, ?_, ?_, ?_, ?_, ?_, ?_, ?_, ?_, ?_⟩
  · grind
  · grind
  · grind
  · grind
  · grind
  · grind
  · grind
  · grind
  · grind
  · grind
  · grind
  · grind
  · grind
set_option maxHeartbeats 2000000 in
/-- a new node as a right child -/
theorem TI.insR {S : Nat → Prop} {gk : Nat → Int} {L R P : Nat → Option Nat} {root : Option Nat} {lq hq : Nat → Option Nat} {lo hi : Nat → Int} {p n : Nat} {v : Int} (h : TI S gk L R P root lq hq lo hi) (hp : S p) (hl : R p = none) (hn : ¬ S n) (hv : gk p < v ∧ v < hi p) :
    TI (fun q => q = n ∨ S q) (fun q => if q = n then v else gk q) (fun q => if q = n then none else L q) (fun q => if q = p then some n else if q = n then none else R q) (fun q => if q = n then some p else P q) root (fun q => if q = n then some p else lq q) (fun q => if q = n then hq p else hq q) (fun q => if q = n then gk p else lo q) (fun q => if q = n then hi p else hi q) := by
  obtain ⟨h1, h2, h3, h4, h5, h6, h7, h8, h9, h10, h11, h12, h13⟩ := h
  have hpn : p ≠ n := fun e => hn (e ▸ hp)
  refine ⟨?_, ?_, ?_, ?_, ?_, ?_, ?_, ?_, ?_, ?_, ?_, ?_, ?_⟩
  · grind
  · grind
  · grind
  · grind
  · grind
  · grind
  · grind
  · grind
  · grind
  · grind
  · grind
  · grind
  · grind
/-- the first node -/
theorem TI.one {n : Nat} {v : Int} (hv : -tB < v ∧ v < tB) : TI (fun q => q = n) (fun _ => v) (fun _ => none) (fun _ => none) (fun _ => none) (some n) (fun _ => none) (fun _ => none) (fun _ => -tB) (fun _ => tB) := by
  refine ⟨?_, ?_, ?_, ?_, ?_, ?_, ?_, ?_, ?_, ?_, ?_, ?_, ?_⟩ <;> grind
theorem TI.emp : TI (fun _ => False) (fun _ => 0) (fun _ => none) (fun _ => none) (fun _ => none) none (fun _ => none) (fun _ => none) (fun _ => 0) (fun _ => 0) := by
  refine ⟨?_, ?_, ?_, ?_, ?_, ?_, ?_, ?_, ?_, ?_, ?_, ?_, ?_⟩ <;> grind
set_option maxHeartbeats 2000000 in
/-- a node gets another key, that no other node's lies between -/
theorem TI.rekey {S : Nat → Prop} {gk : Nat → Int} {L R P : Nat → Option Nat} {root : Option Nat} {lq hq : Nat → Option Nat} {lo hi : Nat → Int} {p : Nat} {v : Int} (h : TI S gk L R P root lq hq lo hi) (hp : S p) (hv : gk p < v) (hno : ∀ c, S c → c ≠ p → ¬ (gk p < gk c ∧ gk c ≤ v)) (hB : v < tB) (hB2 : ∀ a, S a → gk a < tB ∧ -tB < gk a) :
    TI S (fun q => if q = p then v else gk q) L R P root lq hq (fun q => if lq q = some p then v else lo q) (fun q => if hq q = some p then v else hi q) := by
  obtain ⟨h1, h2, h3, h4, h5, h6, h7, h8, h9, h10, h11, h12, h13⟩ := h
  have hvp : v < hi p := by
    cases e : hq p with
    | none => rw [(h12 p hp).2 e]; exact hB
    | some c =>
      have e1 := (h13 p c hp).2 e
      have e2 := h1 p hp
      have e3 := hno c e1.1
      grind
  have f1 : ∀ a c, S a → S c → ((if a = p then v else gk a) < (if c = p then v else gk c) ↔ gk a < gk c) := by grind
  have f2 : ∀ a c, S a → S c → ((if lq a = some p then v else lo a) < (if c = p then v else gk c) ↔ lo a < gk c) := by
    intro a c ha hc
    cases e : lq a with
    | none => have := (h12 a ha).1 e; have := hB2 c hc; grind
    | some d => have := (h13 a d ha).1 e; have := f1 d c this.1 hc; grind
  have f3 : ∀ a c, S a → S c → ((if c = p then v else gk c) < (if hq a = some p then v else hi a) ↔ gk c < hi a) := by
    intro a c ha hc
    cases e : hq a with
    | none => have := (h12 a ha).2 e; have := hB2 c hc; grind
    | some d => have := (h13 a d ha).2 e; have := f1 c d hc this.1; grind
  have f4 : ∀ a c, S a → S c → ((if lq a = some p then v else lo a) < (if hq c = some p then v else hi c) ↔ lo a < hi c) := by
    intro a c ha hc
    cases e : lq a with
    | none => have := (h12 a ha).1 e; have := h1 c hc; have := f3 c c hc hc; have := hB2 c hc; grind
    | some d => have := (h13 a d ha).1 e; have := f3 c d hc this.1; grind
  have f5 : ∀ a c, S a → S c → ((if hq a = some p then v else hi a) < (if hq c = some p then v else hi c) ↔ hi a < hi c) := by
    intro a c ha hc
    cases e : hq a with
    | none =>
      cases e2 : hq c with
      | none => have := (h12 a ha).2 e; have := (h12 c hc).2 e2; grind
      | some d => have := (h12 a ha).2 e; have := (h13 c d hc).2 e2; have := hB2 d this.1; grind
    | some d => have := (h13 a d ha).2 e; have := f3 c d hc this.1; grind
  have f6 : ∀ a c, S a → S c → ((if lq a = some p then v else lo a) < (if lq c = some p then v else lo c) ↔ lo a < lo c) := by
    intro a c ha hc
    cases e : lq c with
    | none =>
      cases e2 : lq a with
      | none => have := (h12 c hc).1 e; have := (h12 a ha).1 e2; grind
      | some d => have := (h12 c hc).1 e; have := (h13 a d ha).1 e2; have := hB2 d this.1; grind
    | some d => have := (h13 c d hc).1 e; have := f2 a d ha this.1; grind
  refine ⟨?_, ?_, ?_, ?_, ?_, ?_, ?_, ?_, ?_, ?_, ?_, ?_, ?_⟩
  · intro a ha; exact ⟨(f2 a a ha ha).mpr (h1 a ha).1, (f3 a a ha ha).mpr (h1 a ha).2⟩
  · clear f1 f2 f3 f4 f5 f6; grind
  · clear f1 f2 f3 f4 f5 f6; grind
  · clear f1 f2 f3 f4 f5 f6; grind
  · exact h5
  · intro a c ha hl hc hx; exact h6 a c ha hl hc ⟨(f2 a c ha hc).mp hx.1, (f1 c a hc ha).mp hx.2⟩
  · intro a c ha hl hc hx; exact h7 a c ha hl hc ⟨(f1 a c ha hc).mp hx.1, (f3 a c ha hc).mp hx.2⟩
  · exact h8
  · exact h9
  · intro a c ha hc hx
    refine h10 a c ha hc ?_
    have := f1 a c ha hc
    have := f1 c a hc ha
    grind
  · intro a c ha hc hx
    rcases h11 a c ha hc ((f1 a c ha hc).mp hx) with ⟨q1, q2, q3⟩ | q | ⟨q1, q2, q3⟩
    · exact Or.inl ⟨(f3 a c ha hc).mpr q1, Int.not_lt.mp (fun z => Int.not_lt.mpr q2 ((f2 c a hc ha).mp z)), Int.not_lt.mp (fun z => Int.not_lt.mpr q3 ((f5 a c ha hc).mp z))⟩
    · exact Or.inr (Or.inl (Int.not_lt.mp (fun z => Int.not_lt.mpr q ((f4 c a hc ha).mp z))))
    · exact Or.inr (Or.inr ⟨(f2 c a hc ha).mpr q1, Int.not_lt.mp (fun z => Int.not_lt.mpr q2 ((f3 a c ha hc).mp z)), Int.not_lt.mp (fun z => Int.not_lt.mpr q3 ((f6 a c ha hc).mp z))⟩)
  · clear f1 f2 f3 f4 f5 f6; grind
  · clear f1 f2 f3 f4 f5 f6; grind
set_option maxHeartbeats 2000000 in
/-- a leaf is taken out -/
theorem TI.leaf {S : Nat → Prop} {gk : Nat → Int} {L R P : Nat → Option Nat} {root : Option Nat} {lq hq : Nat → Option Nat} {lo hi : Nat → Int} {p g : Nat} (h : TI S gk L R P root lq hq lo hi) (hp : S p) (hl : L p = none) (hr : R p = none) (hg : P p = some g) :
    TI (fun q => S q ∧ q ≠ p) gk (fun q => if q = g ∧ L g = some p then none else L q) (fun q => if q = g ∧ ¬ L g = some p then none else R q) P root lq hq lo hi := by
  obtain ⟨h1, h2, h3, h4, h5, h6, h7, h8, h9, h10, h11, h12, h13⟩ := h
  refine ⟨?_, ?_, ?_, ?_, ?_, ?_, ?_, ?_, ?_, ?_, ?_, ?_, ?_⟩
  · grind
  · grind
  · grind
  · grind
  · grind
  · grind
  · grind
  · grind
  · grind
  · grind
  · grind
  · grind
  · grind
set_option maxHeartbeats 2000000 in
/-- the only node is taken out -/
theorem TI.last {S : Nat → Prop} {gk : Nat → Int} {L R P : Nat → Option Nat} {root : Option Nat} {lq hq : Nat → Option Nat} {lo hi : Nat → Int} {p : Nat} (h : TI S gk L R P root lq hq lo hi) (hp : S p) (hl : L p = none) (hr : R p = none) (hg : P p = none) (hB : ∀ a, S a → gk a < tB ∧ -tB < gk a) : ∀ a, S a → a = p := by
  obtain ⟨h1, h2, h3, h4, h5, h6, h7, h8, h9, h10, h11, h12, h13⟩ := h
  grind
set_option maxHeartbeats 2000000 in
/-- a node with one child x is taken out -/
theorem TI.splice {S : Nat → Prop} {gk : Nat → Int} {L R P : Nat → Option Nat} {root : Option Nat} {lq hq : Nat → Option Nat} {lo hi : Nat → Int} {p x : Nat} (h : TI S gk L R P root lq hq lo hi) (hp : S p) (hB2 : ∀ a, S a → gk a < tB ∧ -tB < gk a) (hx : (L p = some x ∧ R p = none) ∨ (L p = none ∧ R p = some x)) :
    TI (fun q => S q ∧ q ≠ p) gk (fun q => if P p = some q ∧ L q = some p then some x else L q) (fun q => if P p = some q ∧ ¬ L q = some p then some x else R q) (fun q => if q = x then P p else P q) (if P p = none then some x else root)
      (fun q => if lq q = some p then lq p else lq q) (fun q => if hq q = some p then hq p else hq q) (fun q => if lq q = some p then lo p else lo q) (fun q => if hq q = some p then hi p else hi q) := by
  obtain ⟨h1, h2, h3, h4, h5, h6, h7, h8, h9, h10, h11, h12, h13⟩ := h
  rcases hx with ⟨hxl, hxr⟩ | ⟨hxl, hxr⟩
  · have hno : ∀ a, S a → ¬ lq a = some p := by
      intro a ha e
      have e1 := (h13 a p ha).1 e
      have e2 := h1 a ha
      have e3 := h7 p a hp hxr ha
      have e4 := h11 p a hp ha (by omega)
      have e5 := h1 p hp
      grind
    have hxx := h2 p x hp hxl
    refine ⟨?_, ?_, ?_, ?_, ?_, ?_, ?_, ?_, ?_, ?_, ?_, ?_, ?_⟩
    · grind (splits := 14)
    · grind (splits := 14)
    · grind (splits := 14)
    · have := hB2 p hp
      grind (splits := 14)
    · grind (splits := 14)
    · grind (splits := 14)
    · grind (splits := 14)
    · grind (splits := 14)
    · grind (splits := 14)
    · grind (splits := 14)
    · intro a c ha hc hac
      have e1 := h11 a c ha.1 hc.1 hac
      have e2 := h11 a p ha.1 hp
      have e3 := h11 c p hc.1 hp
      have e4 := h11 p a hp ha.1
      have e5 := h11 p c hp hc.1
      have e6 := h13 a p ha.1
      have e7 := h13 c p hc.1
      have e8 := hno a ha.1
      have e9 := hno c hc.1
      have f1 := h1 a ha.1
      have f2 := h1 c hc.1
      have f3 := h1 p hp
      have f4 := h10 a p ha.1 hp
      have f5 := h10 c p hc.1 hp
      have f6 : hi a = gk p → hq a = some p := by
        intro z
        cases e : hq a with
        | none => have := (h12 a ha.1).2 e; have := hB2 p hp; omega
        | some d => have := (h13 a d ha.1).2 e; rw [h10 d p this.1 hp (by omega)]
      have f7 : hi c = gk p → hq c = some p := by
        intro z
        cases e : hq c with
        | none => have := (h12 c hc.1).2 e; have := hB2 p hp; omega
        | some d => have := (h13 c d hc.1).2 e; rw [h10 d p this.1 hp (by omega)]
      have f8 : lo a = gk p → lq a = some p := by
        intro z
        cases e : lq a with
        | none => have := (h12 a ha.1).1 e; have := hB2 p hp; omega
        | some d => have := (h13 a d ha.1).1 e; rw [h10 d p this.1 hp (by omega)]
      have f9 : lo c = gk p → lq c = some p := by
        intro z
        cases e : lq c with
        | none => have := (h12 c hc.1).1 e; have := hB2 p hp; omega
        | some d => have := (h13 c d hc.1).1 e; rw [h10 d p this.1 hp (by omega)]
      clear h1 h2 h3 h4 h5 h6 h7 h8 h9 h10 h11 h12 h13 hno hB2
      grind (splits := 30)
    · grind (splits := 14)
    · grind (splits := 14)
  · have hno : ∀ a, S a → ¬ hq a = some p := by
      intro a ha e
      have e1 := (h13 a p ha).2 e
      have e2 := h1 a ha
      have e3 := h6 p a hp hxl ha
      have e4 := h11 a p ha hp (by omega)
      have e5 := h1 p hp
      grind
    have hxx := h3 p x hp hxr
    refine ⟨?_, ?_, ?_, ?_, ?_, ?_, ?_, ?_, ?_, ?_, ?_, ?_, ?_⟩
    · grind (splits := 14)
    · grind (splits := 14)
    · grind (splits := 14)
    · have := hB2 p hp
      grind (splits := 14)
    · grind (splits := 14)
    · grind (splits := 14)
    · grind (splits := 14)
    · grind (splits := 14)
    · grind (splits := 14)
    · grind (splits := 14)
    · intro a c ha hc hac
      have e1 := h11 a c ha.1 hc.1 hac
      have e2 := h11 a p ha.1 hp
      have e3 := h11 c p hc.1 hp
      have e4 := h11 p a hp ha.1
      have e5 := h11 p c hp hc.1
      have e6 := h13 a p ha.1
      have e7 := h13 c p hc.1
      have e8 := hno a ha.1
      have e9 := hno c hc.1
      have f1 := h1 a ha.1
      have f2 := h1 c hc.1
      have f3 := h1 p hp
      have f4 := h10 a p ha.1 hp
      have f5 := h10 c p hc.1 hp
      have f6 : hi a = gk p → hq a = some p := by
        intro z
        cases e : hq a with
        | none => have := (h12 a ha.1).2 e; have := hB2 p hp; omega
        | some d => have := (h13 a d ha.1).2 e; rw [h10 d p this.1 hp (by omega)]
      have f7 : hi c = gk p → hq c = some p := by
        intro z
        cases e : hq c with
        | none => have := (h12 c hc.1).2 e; have := hB2 p hp; omega
        | some d => have := (h13 c d hc.1).2 e; rw [h10 d p this.1 hp (by omega)]
      have f8 : lo a = gk p → lq a = some p := by
        intro z
        cases e : lq a with
        | none => have := (h12 a ha.1).1 e; have := hB2 p hp; omega
        | some d => have := (h13 a d ha.1).1 e; rw [h10 d p this.1 hp (by omega)]
      have f9 : lo c = gk p → lq c = some p := by
        intro z
        cases e : lq c with
        | none => have := (h12 c hc.1).1 e; have := hB2 p hp; omega
        | some d => have := (h13 c d hc.1).1 e; rw [h10 d p this.1 hp (by omega)]
      clear h1 h2 h3 h4 h5 h6 h7 h8 h9 h10 h11 h12 h13 hno hB2
      grind (splits := 30)
    · grind (splits := 14)
    · grind (splits := 14)
