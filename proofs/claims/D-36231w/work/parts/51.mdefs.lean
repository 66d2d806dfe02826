/-! WHAT THE REFERENCE COMPUTES, as functions of its state -/
set_option maxRecDepth 100000
def bt (v lo hi : Int32) : Bool := decide (lo ≤ v) && decide (v ≤ hi)
theorem bt_t {v lo hi : Int32} (h1 : lo ≤ v) (h2 : v ≤ hi) : bt v lo hi = true := by simp [bt, h1, h2]
theorem bt_f1 {v lo hi : Int32} (h1 : ¬ lo ≤ v) : bt v lo hi = false := by simp [bt, h1]
theorem bt_f2 {v lo hi : Int32} (h1 : ¬ v ≤ hi) : bt v lo hi = false := by simp [bt, h1]
theorem bt_1 {v lo hi : Int32} (h : bt v lo hi = true) : lo ≤ v := by simp [bt] at h; exact h.1
theorem bt_2 {v lo hi : Int32} (h : bt v lo hi = true) : v ≤ hi := by simp [bt] at h; exact h.2
/-- a place below n -/
theorem bt_ix {v : Int32} {n : Nat} (hn : n < 2 ^ 31) (h : bt v (nI 0) (nI n - nI 1) = true) : ∃ i, i < n ∧ v = nI i := by
  have h1 := bt_1 h
  have h2 := bt_2 h
  obtain ⟨j, hj, rfl⟩ := nI_of (x := v) (Int32.not_lt.mpr h1)
  refine ⟨j, ?_, rfl⟩
  rcases Nat.eq_zero_or_pos n with e | e
  · subst e
    exfalso
    have e2 : nI 0 - nI 1 = -1 := by decide
    rw [e2] at h2
    have h3 := Int32.le_iff_toInt_le.mp h2
    rw [nI_toInt hj] at h3
    have : (-1 : Int32).toInt = -1 := by decide
    omega
  · rw [pk_sub e, nI_leI hj (by omega)] at h2
    omega
theorem bt_ix2 {i n : Nat} (hn : n < 2 ^ 31) (h : i < n) : bt (nI i) (nI 0) (nI n - nI 1) = true := by
  refine bt_t ((nI_leI (by decide) (by omega)).mpr (Nat.zero_le _)) ?_
  rw [pk_sub (by omega)]
  exact (nI_leI (by omega) (by omega)).mpr (by omega)
theorem nI_m1 {n : Nat} (h : n < 2 ^ 31) : ¬ nI n = -1 := fun e => by
  have h1 := congrArg Int32.toInt e
  rw [nI_toInt h] at h1
  have h2 : (-1 : Int32).toInt = -1 := by decide
  omega
theorem nI_s1 (n : Nat) : nI (n + 1) - nI 1 = nI n := by rw [pk_sub (by omega)]; rfl
def sumN (f : Nat → Nat) : Nat → Nat
  | 0 => 0
  | n + 1 => sumN f n + f n
def anyN (f : Nat → Bool) : Nat → Bool
  | 0 => false
  | n + 1 => anyN f n || f n
theorem sumN_le {f : Nat → Nat} {b : Nat} (h : ∀ i, f i ≤ b) : ∀ n, sumN f n ≤ n * b
  | 0 => by simp [sumN]
  | n + 1 => by
    have := sumN_le h n
    have := h n
    rw [sumN, Nat.succ_mul]
    omega
theorem sumN_leB {f : Nat → Nat} {b : Nat} : ∀ n, (∀ i, i < n → f i ≤ b) → sumN f n ≤ n * b
  | 0, _ => by simp [sumN]
  | n + 1, h => by
    have := sumN_leB n (fun i hi => h i (by omega))
    have := h n (by omega)
    rw [sumN, Nat.succ_mul]
    omega
theorem sumN_congr {f g : Nat → Nat} : ∀ n, (∀ i, i < n → f i = g i) → sumN f n = sumN g n
  | 0, _ => rfl
  | n + 1, h => by rw [sumN, sumN, sumN_congr n (fun i hi => h i (by omega)), h n (by omega)]
theorem anyN_congr {f g : Nat → Bool} : ∀ n, (∀ i, i < n → f i = g i) → anyN f n = anyN g n
  | 0, _ => rfl
  | n + 1, h => by rw [anyN, anyN, anyN_congr n (fun i hi => h i (by omega)), h n (by omega)]
theorem anyN_t {f : Nat → Bool} : ∀ n, anyN f n = true ↔ ∃ i, i < n ∧ f i = true
  | 0 => by simp [anyN]
  | n + 1 => by
    rw [anyN, Bool.or_eq_true, anyN_t n]
    constructor
    · rintro (⟨i, h1, h2⟩ | h)
      · exact ⟨i, by omega, h2⟩
      · exact ⟨n, by omega, h⟩
    · rintro ⟨i, h1, h2⟩
      rcases Nat.lt_or_ge i n with c | c
      · exact Or.inl ⟨i, c, h2⟩
      · have : i = n := by omega
        subst this
        exact Or.inr h2
def bN (b : Bool) : Nat := if b then 1 else 0
theorem bN_le (b : Bool) : bN b ≤ 1 := by cases b <;> decide
def rlOk (x : Int32) : Prop := x = nI 104 ∨ x = nI 100 ∨ x = nI 103 ∨ x = nI 115
/-- bounds that keep the reference within its arrays -/
def Wb (σ : Sg) : Prop := σ.1 0 0 ≤ 4 ∧ σ.1 1 0 ≤ 12 ∧ σ.1 2 0 ≤ 10 ∧ σ.1 3 0 ≤ 60 ∧ σ.1 4 0 ≤ 40 ∧ σ.1 5 0 ≤ 40 ∧ σ.1 6 0 ≤ 60 ∧
  (∀ k, k < σ.1 1 0 → σ.1 7 k < σ.1 0 0) ∧ (∀ k, k < σ.1 2 0 → σ.1 8 k < σ.1 0 0 ∧ rlOk (σ.2 6 k)) ∧
  (∀ k, k < σ.1 3 0 → σ.1 9 k < σ.1 1 0 ∧ σ.1 10 k < σ.1 2 0 ∧ σ.1 12 k ≤ 40 ∧ σ.1 15 k ≤ 37 ∧ (σ.2 15 k = -1 ∨ ∃ p, p < k ∧ σ.2 15 k = nI p)) ∧
  (∀ k, k < σ.1 5 0 → σ.1 16 k < σ.1 3 0 ∧ σ.1 17 k < σ.1 3 0) ∧
  (∀ k, σ.1 13 k ≤ 2 ∧ σ.1 14 k ≤ 60 ∧ σ.1 18 k ≤ 1600 ∧ σ.1 19 k ≤ 1)
abbrev Rs : Type := Sg × Int32
def oF (σ : Sg) (n : Int32) : Rs := (sI σ 14 0 n, nI 0)
def oT (σ : Sg) (r : Int32) : Rs := (sI σ 14 0 (nI 0), r)
/-- how a contract of the reference answers -/
def MR (G : gG) (h : gH) (m : Nat) (ad : Nat → Nat) (o : Rs) : Option Value → gH → Prop := fun v u => v = some (.int o.2) ∧ MP G u m ad o.1 ∧ gfr 1 h u
theorem MR.mk {G : gG} {h u : gH} {m : Nat} {ad : Nat → Nat} {o : Rs} {σ : Sg} {r : Int32} (e : o = (σ, r)) (hM : MP G u m ad σ) (hg : gfr 1 h u) : MR G h m ad o (some (.int r)) u := by rw [e]; exact ⟨rfl, hM, hg⟩
def sA (σ : Sg) (q : Nat) (f : Nat → Int32) : Sg := (σ.1, va_up σ.2 q f)
theorem sA_1 (σ : Sg) (q : Nat) (f : Nat → Int32) : (sA σ q f).1 = σ.1 := rfl
theorem sA_2 (σ : Sg) (q : Nat) (f : Nat → Int32) (a : Nat) : (sA σ q f).2 a = if a = q then f else σ.2 a := by
  by_cases h : a = q <;> simp [sA, va_up, h]
theorem sA_s (σ : Sg) (q : Nat) : sA σ q (σ.2 q) = σ := by
  have : va_up σ.2 q (σ.2 q) = σ.2 := by
    funext a
    by_cases h : a = q <;> simp [va_up, h]
  simp [sA, this]
theorem sA_sI (σ : Sg) (q i : Nat) (x : Int32) (f : Nat → Int32) : sI (sA σ q f) q i x = sA σ q (va_up f i x) := by
  have : va_up (va_up σ.2 q f) q (va_up (va_up σ.2 q f q) i x) = va_up σ.2 q (va_up f i x) := by
    funext a
    by_cases h : a = q <;> simp [va_up, h]
  simp [sA, sI, this]
/-! the text -/
def mcs (c : Int32) : Nat := if c ≤ nI 65535 then 1 else 2
theorem mcs_le (c : Int32) : mcs c ≤ 2 := by unfold mcs; split <;> decide
def mco (c w : Int32) : Int32 := if c ≤ nI 65535 then c else if w = 0 then nI 55296 + (c - nI 65536) / nI 1024 else nI 56320 + ((c - nI 65536) - (c - nI 65536) / nI 1024 * nI 1024)
def sgn (c : Int32) : Bool := bt c (nI 97) (nI 122) || decide (c = nI 32) || bt c (nI 128512) (nI 128591)
def mchars (σ : Sg) : Nat := sumN (fun k => mcs (σ.2 7 k)) (σ.1 4 0)
def insC (f : Nat → Int32) (p n : Nat) (c : Int32) : Nat → Int32 := fun q => if q = p then c else if p < q ∧ q ≤ n then f (q - 1) else f q
def insT (f : Nat → Int32) (k n : Nat) : Nat → Int32 := fun q => if k < q ∧ q ≤ n then f (q - 1) else f q
theorem insT_n (f : Nat → Int32) (n : Nat) : insT f n n = f := by
  funext q
  simp only [insT]
  rw [if_neg (by omega)]
theorem insT_up {f : Nat → Int32} {k n : Nat} (h1 : 1 ≤ k) (h2 : k ≤ n) : va_up (insT f k n) k (insT f k n (k - 1)) = insT f (k - 1) n := by
  funext q
  simp only [insT, va_up]
  by_cases e : q = k
  · subst e
    rw [if_pos rfl, if_neg (by omega), if_pos (by omega)]
  · rw [if_neg e]
    by_cases c : k < q ∧ q ≤ n
    · rw [if_pos c, if_pos (by omega)]
    · rw [if_neg c, if_neg (by omega)]
theorem insT_fin {f : Nat → Int32} {k n : Nat} {c : Int32} : va_up (insT f k n) k c = insC f k n c := by
  funext q
  simp only [insT, va_up, insC]
theorem bt_ixle {v : Int32} {n : Nat} (hn : n < 2 ^ 31) (h : bt v (nI 0) (nI n) = true) : ∃ i, i ≤ n ∧ v = nI i := by
  obtain ⟨j, hj, rfl⟩ := nI_of (x := v) (Int32.not_lt.mpr (bt_1 h))
  exact ⟨j, (nI_leI hj hn).mp (bt_2 h), rfl⟩
def rvT (f : Nat → Int32) (k n : Nat) : Nat → Int32 := fun q => if q < k ∨ (n - k ≤ q ∧ q < n) then f (n - 1 - q) else f q
theorem rvT_0 (f : Nat → Int32) (n : Nat) : rvT f 0 n = f := by
  funext q
  simp only [rvT]
  rw [if_neg (by omega)]
theorem rvT_up {f : Nat → Int32} {k n : Nat} (h : k < n / 2) : va_up (va_up (rvT f k n) k (rvT f k n (n - 1 - k))) (n - 1 - k) (rvT f k n k) = rvT f (k + 1) n := by
  funext q
  simp only [rvT, va_up]
  by_cases e1 : q = n - 1 - k
  · subst e1
    rw [if_pos rfl, if_neg (by omega), if_pos (by omega)]
    congr 1
    omega
  · rw [if_neg e1]
    by_cases e2 : q = k
    · subst e2
      rw [if_pos rfl, if_neg (by omega), if_pos (by omega)]
    · rw [if_neg e2]
      by_cases c : q < k ∨ n - k ≤ q ∧ q < n
      · rw [if_pos c, if_pos (by omega)]
      · rw [if_neg c, if_neg (by omega)]
def chA (f : Nat → Int32) : Nat → Nat → Int32 → Option Int32
  | 0, _, _ => none
  | d + 1, k, left => if left < 0 then none else if left < nI (mcs (f k)) then some (mco (f k) left) else chA f d (k + 1) (left - nI (mcs (f k)))
def o_classroom (σ : Sg) (p : Int32) : Rs := if bt p (-720) (nI 720) then (if σ.1 0 0 = 4 then oF σ (nI 2) else oT (sN (sI σ 2 (σ.1 0 0) p) 0 0 (σ.1 0 0 + 1)) (nI (σ.1 0 0))) else oF σ (nI 1)
def o_pupil (σ : Sg) (c : Int32) : Rs := if bt c (nI 0) (nI (σ.1 0 0) - nI 1) then (if σ.1 1 0 = 12 then oF σ (nI 2) else oT (sN (sN σ 7 (σ.1 1 0) c.toNatClampNeg) 1 0 (σ.1 1 0 + 1)) (nI (σ.1 1 0))) else oF σ (nI 1)
def isRl (r : Int32) : Bool := decide (r = nI 104) || decide (r = nI 100) || decide (r = nI 103) || decide (r = nI 115)
def o_task (σ : Sg) (c due full rule am : Int32) : Rs :=
  if bt c (nI 0) (nI (σ.1 0 0) - nI 1) then
    (if bt due (nI 0) (nI 1000000) && bt full (nI 1) (nI 100) && isRl rule && bt am (nI 0) (nI 100) then
      (if σ.1 2 0 = 10 then oF σ (nI 3) else oT (sN (sI (sI (sI (sI (sN σ 8 (σ.1 2 0) c.toNatClampNeg) 3 (σ.1 2 0) due) 4 (σ.1 2 0) full) 6 (σ.1 2 0) rule) 5 (σ.1 2 0) am) 2 0 (σ.1 2 0 + 1)) (nI (σ.1 2 0)))
    else oF σ (nI 2))
  else oF σ (nI 1)
def o_pass (σ : Sg) (p : Int32) : Rs := if bt p (nI 1) (nI 100000) then (if nI 1000000 < σ.2 0 0 + p then oF σ (nI 2) else oT (sI σ 0 0 (σ.2 0 0 + p)) (σ.2 0 0 + p)) else oF σ (nI 1)
def o_clock (σ : Sg) (c : Int32) : Rs := if bt c (nI 0) (nI (σ.1 0 0) - nI 1) then oT σ (σ.2 0 0 + σ.2 2 c.toNatClampNeg) else oF σ (nI 1)
def o_type (σ : Sg) (c : Int32) : Rs := if sgn c then (if σ.1 4 0 = 40 then oF σ (nI 2) else oT (sN (sI σ 7 (σ.1 4 0) c) 4 0 (σ.1 4 0 + 1)) (nI (σ.1 4 0 + 1))) else oF σ (nI 1)
def o_insert (σ : Sg) (p c : Int32) : Rs := if bt p (nI 0) (nI (σ.1 4 0)) then (if sgn c then (if σ.1 4 0 = 40 then oF σ (nI 3) else oT (sN (sA σ 7 (insC (σ.2 7) p.toNatClampNeg (σ.1 4 0) c)) 4 0 (σ.1 4 0 + 1)) (nI (mchars (sN (sA σ 7 (insC (σ.2 7) p.toNatClampNeg (σ.1 4 0) c)) 4 0 (σ.1 4 0 + 1))))) else oF σ (nI 2)) else oF σ (nI 1)
def o_reverse (σ : Sg) : Rs := oT (sA σ 7 (rvT (σ.2 7) (σ.1 4 0 / 2) (σ.1 4 0))) (if σ.1 4 0 = 0 then nI 0 else rvT (σ.2 7) (σ.1 4 0 / 2) (σ.1 4 0) 0)
def o_wipe (σ : Sg) : Rs := oT (sN σ 4 0 0) (nI (σ.1 4 0))
def o_charAt (σ : Sg) (p : Int32) : Rs := match chA (σ.2 7) (σ.1 4 0) 0 p with
  | some r => (sI σ 14 0 (nI 0), (r.toUInt32 % 65536).toInt32)
  | none => (sI σ 14 0 (nI 1), nI 0)
/-! versions -/
def trn (h : Int32) : Int32 := h <<< (nI 5 &&& 31) ||| (h.toUInt32 >>> ((nI 27).toUInt32 &&& Int32.toUInt32 31)).toInt32
def hsN (f : Nat → Int32) (a : Nat) : Nat → Int32
  | 0 => nI 0
  | k + 1 => trn (hsN f a k) ^^^ f (a + k)
def hsh (f : Nat → Int32) (a : Nat) : Int32 := hsN f a 4 &&& nI 1048575
/-- the first of n places of s, at b, that isn't below h -/
def plc (s : Nat → Int32) (b : Nat) (h : Int32) : Nat → Nat → Nat
  | 0, k => k
  | d + 1, k => if s (b + k) < h then plc s b h d (k + 1) else k
/-- one more shingle -/
def fst1 (s : Nat → Int32) (b n : Nat) (h : Int32) : (Nat → Int32) × Nat := if plc s b h n 0 < n ∧ s (b + plc s b h n 0) = h then (s, n) else (insC s (b + plc s b h n 0) (b + n) h, n + 1)
def fnd (tx : Nat → Int32) (b : Nat) (s : Nat → Int32) : Nat → (Nat → Int32) × Nat
  | 0 => (s, 0)
  | k + 1 => fst1 (fnd tx b s k).1 b (fnd tx b s k).2 (hsh tx (b + k))
def cpT (f g : Nat → Int32) (b n : Nat) : Nat → Int32 := fun q => if b ≤ q ∧ q < b + n then g (q - b) else f q
def sav1 (σ : Sg) (p t : Nat) (par ago : Int32) : Sg := sI (sN (sI (sI (sN (sN σ 9 (σ.1 3 0) p) 10 (σ.1 3 0) t) 15 (σ.1 3 0) par) 8 (σ.1 3 0) (σ.2 0 0 - ago)) 12 (σ.1 3 0) (σ.1 4 0)) 9 (σ.1 3 0) (-1)
def sav2 (σ : Sg) (p t : Nat) (par ago : Int32) : Sg := sA (sav1 σ p t par ago) 11 (cpT (σ.2 11) (σ.2 7) (40 * σ.1 3 0) (σ.1 4 0))
def fnS (σ : Sg) (v : Nat) : Sg := sN (sA σ 12 (fnd (σ.2 11) (40 * v) (σ.2 12) (σ.1 12 v - 3)).1) 15 v (fnd (σ.2 11) (40 * v) (σ.2 12) (σ.1 12 v - 3)).2
def sav3 (σ : Sg) (p t : Nat) (par ago : Int32) : Sg := sN (sN (fnS (sav2 σ p t par ago) (σ.1 3 0)) 3 0 (σ.1 3 0 + 1)) 4 0 0
def wrg (σ : Sg) (p t : Nat) (par ago : Int32) : Bool := decide (¬ σ.1 8 t = σ.1 7 p) || (decide (¬ par = -1) && (decide (¬ σ.1 9 par.toNatClampNeg = p) || decide (¬ σ.1 10 par.toNatClampNeg = t) || decide (σ.2 0 0 - ago < σ.2 8 par.toNatClampNeg)))
def o_save (σ : Sg) (p t par ago : Int32) : Rs :=
  if bt p (nI 0) (nI (σ.1 1 0) - nI 1) && bt t (nI 0) (nI (σ.1 2 0) - nI 1) && (decide (par = -1) || bt par (nI 0) (nI (σ.1 3 0) - nI 1)) then
    (if bt ago (nI 0) (σ.2 0 0) then
      (if wrg σ p.toNatClampNeg t.toNatClampNeg par ago then oF σ (nI 3)
      else if σ.1 3 0 = 60 then oF σ (nI 4) else oT (sav3 σ p.toNatClampNeg t.toNatClampNeg par ago) (nI (σ.1 3 0)))
    else oF σ (nI 2))
  else oF σ (nI 1)
def chV (σ : Sg) (v : Nat) : Nat := sumN (fun k => mcs (σ.2 11 (40 * v + k))) (σ.1 12 v)
def ofV (σ : Sg) (v : Nat) (w : Int32) : Option Int32 := if w = nI 112 then some (σ.2 15 v) else if w = nI 115 then some (σ.2 8 v) else if w = nI 104 then some (σ.2 9 v) else if w = nI 110 then some (nI (σ.1 12 v)) else if w = nI 99 then some (nI (chV σ v)) else if w = nI 117 then some (nI (σ.1 15 v)) else if w = nI 103 then some (σ.2 10 v) else none
def o_of (σ : Sg) (v w : Int32) : Rs := if bt v (nI 0) (nI (σ.1 3 0) - nI 1) then (match ofV σ v.toNatClampNeg w with
  | some r => oT σ r
  | none => oF σ (nI 2)) else oF σ (nI 1)
def lik (σ : Sg) (v k : Nat) : Bool := decide (σ.1 9 k = σ.1 9 v) && decide (σ.1 10 k = σ.1 10 v) && decide (σ.2 15 k = σ.2 15 v)
def o_forks (σ : Sg) (v : Int32) : Rs := if bt v (nI 0) (nI (σ.1 3 0) - nI 1) then oT σ (nI (sumN (fun k => bN (lik σ v.toNatClampNeg k && decide (¬ k = v.toNatClampNeg))) (σ.1 3 0))) else oF σ (nI 1)
/-- no version of d from n on has the parent k -/
def hdN (σ : Sg) (k : Nat) : Nat → Nat → Bool
  | 0, _ => true
  | d + 1, n => decide (¬ σ.2 15 n = nI k) && hdN σ k d (n + 1)
def isHd (σ : Sg) (p t k : Nat) : Bool := decide (σ.1 9 k = p) && decide (σ.1 10 k = t) && hdN σ k (σ.1 3 0 - (k + 1)) (k + 1)
def o_heads (σ : Sg) (p t : Int32) : Rs := if bt p (nI 0) (nI (σ.1 1 0) - nI 1) && bt t (nI 0) (nI (σ.1 2 0) - nI 1) then oT σ (nI (sumN (fun k => bN (isHd σ p.toNatClampNeg t.toNatClampNeg k)) (σ.1 3 0))) else oF σ (nI 1)
/-! handing in -/
def cmA (σ : Sg) (x : Int32) (b : Nat) : Nat := sumN (fun j => bN (decide (x = σ.2 12 (40 * b + j)))) (σ.1 15 b)
def cm (σ : Sg) (a b : Nat) : Nat := sumN (fun i => cmA σ (σ.2 12 (40 * a + i)) b) (σ.1 15 a)
def hit (σ : Sg) (v k : Nat) : Bool := decide (σ.1 13 k = 1) && decide (¬ σ.1 9 k = σ.1 9 v) && decide (σ.2 1 0 ≤ nI (cm σ v k))
def nHit (σ : Sg) (v n : Nat) : Nat := sumN (fun k => bN (hit σ v k)) n
def hnd1 (σ : Sg) (v k : Nat) : Sg := sN (sI (sN (sN (sN σ 16 (σ.1 5 0) v) 17 (σ.1 5 0) k) 18 (σ.1 5 0) (cm σ v k)) 13 (σ.1 5 0) (-1)) 5 0 (σ.1 5 0 + 1)
def hndL (σ : Sg) (v : Nat) : Nat → Sg
  | 0 => σ
  | k + 1 => if hit σ v k then hnd1 (hndL σ v k) v k else hndL σ v k
def hndE (σ : Sg) (v : Nat) : Sg := sN (sN (sI (sN σ 13 v 1) 9 v (σ.2 0 0)) 6 0 (σ.1 6 0 + 1)) 14 v (σ.1 6 0 + 1)
def o_hand (σ : Sg) (v : Int32) : Rs := if bt v (nI 0) (nI (σ.1 3 0) - nI 1) then (if σ.1 13 v.toNatClampNeg = 0 then (if 40 < σ.1 5 0 + nHit σ v.toNatClampNeg (σ.1 3 0) then oF σ (nI 3) else oT (hndE (hndL σ v.toNatClampNeg (σ.1 3 0)) v.toNatClampNeg) (nI (nHit σ v.toNatClampNeg (σ.1 3 0)))) else oF σ (nI 2)) else oF σ (nI 1)
def rpr (o : Option Nat) : Int32 := match o with
  | none => -1
  | some k => nI k
def isC (σ : Sg) (p t k : Nat) : Bool := decide (σ.1 13 k = 1) && decide (σ.1 9 k = p) && decide (σ.1 10 k = t)
def cgt (σ : Sg) (p t : Nat) : Nat → Option Nat
  | 0 => none
  | n + 1 => match cgt σ p t n with
    | none => if isC σ p t n then some n else none
    | some b => if isC σ p t n && decide (σ.1 14 b < σ.1 14 n) then some n else some b
def cnt (σ : Sg) (p t : Nat) : Option Nat := cgt σ p t (σ.1 3 0)
def clk (σ : Sg) (t : Nat) : Int32 := σ.2 0 0 + σ.2 2 (σ.1 8 t)
def o_withdraw (σ : Sg) (v : Int32) : Rs := if bt v (nI 0) (nI (σ.1 3 0) - nI 1) then (if σ.1 13 v.toNatClampNeg = 1 ∧ clk σ (σ.1 10 v.toNatClampNeg) ≤ σ.2 3 (σ.1 10 v.toNatClampNeg) then (sN (sI σ 14 0 (nI 0)) 13 v.toNatClampNeg 2, nI (bN (cnt (sN σ 13 v.toNatClampNeg 2) (σ.1 9 v.toNatClampNeg) (σ.1 10 v.toNatClampNeg)).isSome)) else oF σ (nI 2)) else oF σ (nI 1)
def o_isIn (σ : Sg) (v : Int32) : Rs := if bt v (nI 0) (nI (σ.1 3 0) - nI 1) then oT σ (nI (bN (decide (σ.1 13 v.toNatClampNeg = 1)))) else oF σ (nI 1)
def mgr (x y : Int32) : Int32 := if y < x then x else y
def mle (x y : Int32) : Int32 := if x < y then x else y
def olt (σ : Sg) (v : Nat) : Int32 := mgr (nI 0) (σ.2 9 v + σ.2 2 (σ.1 8 (σ.1 10 v)) - σ.2 3 (σ.1 10 v))
def elN (σ : Sg) (v a : Nat) : Bool := decide (σ.1 13 a = 1) && decide (σ.1 15 v / 2 ≤ cm σ v a)
def ltL (σ : Sg) (v : Nat) : Nat → Int32 → Int32 → Int32
  | 0, _, r => r
  | d + 1, a, r => if a = -1 then r else ltL σ v d (σ.2 15 a.toNatClampNeg) (if elN σ v a.toNatClampNeg then mle r (olt σ a.toNatClampNeg) else r)
def lat (σ : Sg) (v : Nat) : Int32 := ltL σ v 61 (σ.2 15 v) (olt σ v)
def o_late (σ : Sg) (v : Int32) : Rs := if bt v (nI 0) (nI (σ.1 3 0) - nI 1) then (if σ.1 13 v.toNatClampNeg = 1 then oT σ (lat σ v.toNatClampNeg) else oF σ (nI 2)) else oF σ (nI 1)
def ofA (rule am late : Int32) : Int32 := if late = 0 then nI 0 else if rule = nI 104 then am * ((late + nI 59) / nI 60) else if rule = nI 100 then am * ((late + nI 1439) / nI 1440) else if rule = nI 103 then (if am < late then nI 10 else nI 0) else am * (nI 1 <<< (mle (nI 6) (late / nI 60) &&& 31))
def ofO (σ : Sg) (t : Nat) (late : Int32) : Int32 := ofA (σ.2 6 t) (σ.2 5 t) late
def o_off (σ : Sg) (t late : Int32) : Rs := if bt t (nI 0) (nI (σ.1 2 0) - nI 1) then (if bt late (nI 0) (nI 1000000) then oT σ (ofO σ t.toNatClampNeg late) else oF σ (nI 2)) else oF σ (nI 1)
def o_points (σ : Sg) (v p : Int32) : Rs := if bt v (nI 0) (nI (σ.1 3 0) - nI 1) then (if bt p (nI 0) (nI 100) then oT (sI σ 10 v.toNatClampNeg p) (σ.2 10 v.toNatClampNeg) else oF σ (nI 2)) else oF σ (nI 1)
theorem hndL_1 {σ : Sg} {v : Nat} {q : Nat} (h16 : q ≠ 16) (h17 : q ≠ 17) (h18 : q ≠ 18) (h5 : q ≠ 5) : ∀ k, (hndL σ v k).1 q = σ.1 q
  | 0 => rfl
  | k + 1 => by
    rw [hndL]
    split
    · funext i
      simp [hnd1, sN_1, sI_1, h16, h17, h18, h5, hndL_1 h16 h17 h18 h5 k]
    · exact hndL_1 h16 h17 h18 h5 k
theorem hndL_2 {σ : Sg} {v : Nat} {q : Nat} (h13 : q ≠ 13) : ∀ k, (hndL σ v k).2 q = σ.2 q
  | 0 => rfl
  | k + 1 => by
    rw [hndL]
    split
    · funext i
      simp [hnd1, sN_2, sI_2, h13, hndL_2 h13 k]
    · exact hndL_2 h13 k
theorem hndL_5 {σ : Sg} {v : Nat} : ∀ k, (hndL σ v k).1 5 0 = σ.1 5 0 + nHit σ v k
  | 0 => rfl
  | k + 1 => by
    have ih := hndL_5 (σ := σ) (v := v) k
    rw [hndL]
    cases e : hit σ v k with
    | true =>
      have e2 : nHit σ v (k + 1) = nHit σ v k + 1 := by rw [nHit, sumN, e]; rfl
      rw [e2, if_pos rfl, hnd1, sN_1, if_pos ⟨rfl, rfl⟩, ih]; omega
    | false =>
      have e2 : nHit σ v (k + 1) = nHit σ v k + 0 := by rw [nHit, sumN, e]; rfl
      rw [e2, if_neg (by decide), ih]; rfl
theorem cm_hndL {σ : Sg} {v k a b : Nat} : cm (hndL σ v k) a b = cm σ a b := by
  unfold cm cmA
  simp only [hndL_1 (q := 15) (by decide) (by decide) (by decide) (by decide), hndL_2 (q := 12) (by decide)]
theorem hit_hndL {σ : Sg} {v k a b : Nat} : hit (hndL σ v k) a b = hit σ a b := by
  unfold hit
  simp only [hndL_1 (q := 13) (by decide) (by decide) (by decide) (by decide), hndL_1 (q := 9) (by decide) (by decide) (by decide) (by decide), hndL_2 (q := 1) (by decide), cm_hndL]
def o_counting (σ : Sg) (p t : Int32) : Rs := if bt p (nI 0) (nI (σ.1 1 0) - nI 1) && bt t (nI 0) (nI (σ.1 2 0) - nI 1) then (match cnt σ p.toNatClampNeg t.toNatClampNeg with
  | some k => oT σ (nI k)
  | none => oF σ (nI 2)) else oF σ (nI 1)
def frH (σ : Sg) (p t k : Nat) : Bool := decide (σ.2 13 k = -1) && ((decide (σ.1 9 (σ.1 16 k) = p) && decide (σ.1 10 (σ.1 16 k) = t)) || (decide (σ.1 9 (σ.1 17 k) = p) && decide (σ.1 10 (σ.1 17 k) = t)))
def frz (σ : Sg) (p t : Nat) : Bool := anyN (frH σ p t) (σ.1 5 0)
def mrk (σ : Sg) (p t : Nat) : Int32 := if σ.1 19 (10 * p + t) = 0 then (match cnt σ p t with
  | some v => mgr (nI 0) (σ.2 4 t * σ.2 10 v / nI 100 - ofO σ t (lat σ v))
  | none => nI 0) else nI 0
def o_mark (σ : Sg) (p t : Int32) : Rs := if bt p (nI 0) (nI (σ.1 1 0) - nI 1) && bt t (nI 0) (nI (σ.1 2 0) - nI 1) then (if frz σ p.toNatClampNeg t.toNatClampNeg then oF σ (nI 2) else oT σ (mrk σ p.toNatClampNeg t.toNatClampNeg)) else oF σ (nI 1)
def o_isFrozen (σ : Sg) (p t : Int32) : Rs := if bt p (nI 0) (nI (σ.1 1 0) - nI 1) && bt t (nI 0) (nI (σ.1 2 0) - nI 1) then oT σ (nI (bN (frz σ p.toNatClampNeg t.toNatClampNeg))) else oF σ (nI 1)
def o_shared (σ : Sg) (a b : Int32) : Rs := if bt a (nI 0) (nI (σ.1 3 0) - nI 1) && bt b (nI 0) (nI (σ.1 3 0) - nI 1) then oT σ (nI (cm σ a.toNatClampNeg b.toNatClampNeg)) else oF σ (nI 1)
def o_shingle (σ : Sg) (v i : Int32) : Rs := if bt v (nI 0) (nI (σ.1 3 0) - nI 1) then (if bt i (nI 0) (nI (σ.1 15 v.toNatClampNeg) - nI 1) then oT σ (σ.2 12 (40 * v.toNatClampNeg + i.toNatClampNeg)) else oF σ (nI 2)) else oF σ (nI 1)
def hlV (σ : Sg) (x : Int32) (v : Nat) : Nat := sumN (fun k => bN (decide (σ.1 13 v = 1) && decide (σ.2 12 (40 * v + k) = x))) (σ.1 15 v)
def hol (σ : Sg) (x : Int32) (n : Nat) : Nat := sumN (hlV σ x) n
def ixV (σ : Sg) (v : Nat) : Nat := sumN (fun k => bN (decide (σ.1 13 v = 1) && decide (hol σ (σ.2 12 (40 * v + k)) v = 0))) (σ.1 15 v)
def o_indexed (σ : Sg) : Rs := oT σ (nI (sumN (ixV σ) (σ.1 3 0)))
def o_holders (σ : Sg) (x : Int32) : Rs := oT σ (nI (hol σ x (σ.1 3 0)))
def o_threshold (σ : Sg) (x : Int32) : Rs := if bt x (nI 1) (nI 37) then oT (sI σ 1 0 x) (σ.2 1 0) else oF σ (nI 1)
def o_hits (σ : Sg) : Rs := oT σ (nI (σ.1 5 0))
def htV (σ : Sg) (i : Nat) (w : Int32) : Option Int32 := if w = nI 110 then some (nI (σ.1 16 i)) else if w = nI 111 then some (nI (σ.1 17 i)) else if w = nI 99 then some (nI (σ.1 18 i)) else if w = nI 104 then some (σ.2 13 i) else none
def o_hit (σ : Sg) (i w : Int32) : Rs := if bt i (nI 0) (nI (σ.1 5 0) - nI 1) then (match htV σ i.toNatClampNeg w with
  | some r => oT σ r
  | none => oF σ (nI 2)) else oF σ (nI 1)
def los (σ : Sg) (v : Nat) : Sg := sN σ 19 (10 * σ.1 9 v + σ.1 10 v) 1
def opn (σ : Sg) (k : Nat) : Bool := decide (σ.2 13 k = -1)
def her1 (σ : Sg) (i : Nat) (w : Int32) : Sg := sI σ 13 i w
def her2 (σ : Sg) (i : Nat) (w : Int32) : Sg := if w = nI 1 ∨ w = nI 3 then los (her1 σ i w) (σ.1 16 i) else her1 σ i w
def her3 (σ : Sg) (i : Nat) (w : Int32) : Sg := if w = nI 2 ∨ w = nI 3 then los (her2 σ i w) (σ.1 17 i) else her2 σ i w
def o_hear (σ : Sg) (i w : Int32) : Rs := if bt i (nI 0) (nI (σ.1 5 0) - nI 1) then (if bt w (nI 0) (nI 3) then (if σ.2 13 i.toNatClampNeg = -1 then oT (her3 σ i.toNatClampNeg w) (nI (sumN (fun k => bN (opn (her3 σ i.toNatClampNeg w) k)) (σ.1 5 0))) else oF σ (nI 3)) else oF σ (nI 2)) else oF σ (nI 1)
def nxt (σ : Sg) : Nat → Option Nat
  | 0 => none
  | n + 1 => match nxt σ n with
    | none => if opn σ n then some n else none
    | some b => if opn σ n && decide (σ.1 18 b < σ.1 18 n) then some n else some b
def o_next (σ : Sg) : Rs := match nxt σ (σ.1 5 0) with
  | some k => oT σ (nI k)
  | none => oF σ (nI 1)
/-! sums -/
def bsC (c : Int32) : Nat → Int32 → Int32
  | 0, s => s
  | n + 1, s => (bsC c n s + mco c (nI n)).toInt8.toInt32
def bsV (σ : Sg) (v : Nat) : Nat → Int32
  | 0 => nI 0
  | k + 1 => bsC (σ.2 11 (40 * v + k)) (mcs (σ.2 11 (40 * v + k))) (bsV σ v k)
def ssC (c : Int32) : Nat → Int32 → Int32
  | 0, s => s
  | n + 1, s => (nI 31 * ssC c n s + mco c (nI n)).toInt16.toInt32
def ssV (σ : Sg) (v : Nat) : Nat → Int32
  | 0 => nI 0
  | k + 1 => ssC (σ.2 11 (40 * v + k)) (mcs (σ.2 11 (40 * v + k))) (ssV σ v k)
def o_byteSum (σ : Sg) (v : Int32) : Rs := if bt v (nI 0) (nI (σ.1 3 0) - nI 1) then oT σ (bsV σ v.toNatClampNeg (σ.1 12 v.toNatClampNeg)) else oF σ (nI 1)
def o_shortSum (σ : Sg) (v : Int32) : Rs := if bt v (nI 0) (nI (σ.1 3 0) - nI 1) then oT σ (ssV σ v.toNatClampNeg (σ.1 12 v.toNatClampNeg)) else oF σ (nI 1)
def nIn (σ : Sg) (n : Nat) : Nat := sumN (fun k => bN (decide (σ.1 13 k = 1))) n
def mmP (σ : Sg) (p t : Nat) : Bool := decide (σ.1 8 t = σ.1 7 p) && !frz σ p t
def mmS (σ : Sg) (p : Nat) : Nat → Int32 → Int32
  | 0, s => s
  | t + 1, s => if mmP σ p t then mmS σ p t s + mrk σ p t else mmS σ p t s
def mmSs (σ : Sg) : Nat → Int32
  | 0 => nI 0
  | p + 1 => mmS σ p (σ.1 2 0) (mmSs σ p)
def mmC (σ : Sg) (p n : Nat) : Nat := sumN (fun t => bN (mmP σ p t)) n
def mmCs (σ : Sg) (n : Nat) : Nat := sumN (fun p => mmC σ p (σ.1 2 0)) n
