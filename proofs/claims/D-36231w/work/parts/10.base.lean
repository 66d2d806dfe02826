/-! THE FRAME OF THESE WALKS: a ghost heap (address to tag and content) passed whole, one judgement E, one form of contract gMet -/
set_option maxRecDepth 100000
abbrev gE : Type := Nat × va_E
abbrev gH : Type := Nat → Option gE
/-- z0, classes, array classes, classes of boxes and lambdas, their slots, the Integer cache, reference statics -/
abbrev gG : Type := Nat × va_G × (Nat → ClassId) × (Nat → ClassId) × (Nat → Nat) × (Nat → Nat) × (Nat → Option Nat)
abbrev gz (G : gG) : Nat := G.1
abbrev gD (G : gG) : va_G := G.2.1
abbrev gci (G : gG) : Nat → ClassId := G.2.2.1
abbrev gxc (G : gG) : Nat → ClassId := G.2.2.2.1
abbrev gxs (G : gG) : Nat → Nat := G.2.2.2.2.1
abbrev gad (G : gG) : Nat → Nat := G.2.2.2.2.2.1
abbrev gst (G : gG) : Nat → Option Nat := G.2.2.2.2.2.2
abbrev gCl : List vw_C := [(RX1, TX1, 11), (RX2, TX2, 35), (RX3, TX3, 5), (RX4, TX4, 10), (RX5, TX5, 5), (RJ2, TJ2, 3), (RJ33, TJ33, 4), (RJ19, TJ19, 9), (RJ32, TJ32, 6), (RJ29, TJ29, 1), (RJ34, TJ34, 1), (RJ36, TJ36, 4), (RJ38, TJ38, 4), (RJ8, TJ8, 4), (RJ17, TJ17, 1)]
abbrev gTy (G : gG) : List (ClassId × FieldType) := [(gci G 0, .int), (gci G 1, .char), (gci G 2, .boolean), (gci G 3, .byte), (gci G 4, .long), (gci G 5, .double), (gci G 6, .object "java/lang/Object"), (gci G 7, .array .boolean)]
abbrev gA (G : gG) : Nat → Prop := fun q => gz G ≤ q
def gat (G : gG) (a : Nat) (e : va_E) (H : Heap) : Prop := match e with
  | .inl x => va_at (gD G) gCl (a, .inl x) H
  | .inr o => if o.1 < 50 then va_at (gD G) gCl (a, .inr o) H else ∃ cell : Cell, H[a]? = some cell ∧ cell.vm.isStatics = false ∧ cell.vm ≠ .unknown ∧ (50 < o.1 → cell.vm = .none) ∧ cell.cls = gxc G (o.1 - 50) ∧ cell.slots[gxs G (o.1 - 50)]? = some (o.2.getD 0 .null)
theorem gat.kept {G : gG} {a : Nat} {e : va_E} {H H1 : Heap} (h : gat G a e H) (hq : H1[a]? = H[a]?) : gat G a e H1 := by
  unfold gat at h ⊢
  cases e with
  | inl x => exact va_at.kept h hq
  | inr o =>
    dsimp only at h ⊢
    split
    · rename_i ho
      rw [if_pos ho] at h
      exact va_at.kept h hq
    · rename_i ho
      rw [if_neg ho] at h
      obtain ⟨cell, h1, h2⟩ := h
      exact ⟨cell, by rw [hq]; exact h1, h2⟩
theorem gat.lt {G : gG} {a : Nat} {e : va_E} {H : Heap} (h : gat G a e H) : a < H.size := by
  unfold gat at h
  cases e with
  | inl x => exact va_at.lt h
  | inr o =>
    dsimp only at h
    split at h
    · exact va_at.lt h
    · obtain ⟨cell, h1, h2⟩ := h
      exact (Array.getElem?_eq_some_iff.mp h1).1
theorem gat.obj {G : gG} {a ci : Nat} {fs : List Value} {H : Heap} (h : gat G a (.inr (ci, fs)) H) (hc : ci < 50) : va_P (gD G) gCl [(a, .inr (ci, fs))] H := by
  unfold gat at h
  dsimp only at h
  rw [if_pos hc] at h
  intro k q hk
  cases k with
  | zero => cases hk; exact h
  | succ k => simp at hk
theorem gat.arr {G : gG} {a : Nat} {x : ClassId × vp_A} {H : Heap} (h : gat G a (.inl x) H) : va_P (gD G) gCl [(a, .inl x)] H := by
  intro k q hk
  cases k with
  | zero => cases hk; exact h
  | succ k => simp at hk
theorem gat.ofP {G : gG} {a : Nat} {e : va_E} {H : Heap} (he : ∀ o, e = .inr o → o.1 < 50) (h : va_P (gD G) gCl [(a, e)] H) : gat G a e H := by
  have h0 := h 0 _ rfl
  unfold gat
  cases e with
  | inl x => exact h0
  | inr o =>
    dsimp only
    rw [if_pos (he o rfl)]
    exact h0
theorem gP1.d {A : Nat → Prop} {a : Nat} {e : va_E} (h : A a) : va_D A [(a, e)] := by
  refine ⟨fun i j p q hi hj _ => ?_, fun k q hk => ?_⟩
  · have h1 := (List.getElem?_eq_some_iff.mp hi).1
    have h2 := (List.getElem?_eq_some_iff.mp hj).1
    simp at h1 h2
    omega
  · cases k with
    | zero => cases hk; exact h
    | succ k => simp at hk
/-- the ghost heap is held: cells that may change are the run's own -/
def Hp (G : gG) (h : gH) (H : Heap) : Prop := ∀ (a t : Nat) (e : va_E), h a = some (t, e) → (t ≠ 0 → gz G ≤ a) ∧ gat G a e H
/-- h is part of h' -/
def gle (h h' : gH) : Prop := ∀ a x, h a = some x → h' a = some x
theorem gle.rf {h : gH} : gle h h := fun _ _ q => q
theorem gle.tr {h h' h'' : gH} (a : gle h h') (b : gle h' h'') : gle h h'' := fun x y q => b x y (a x y q)
theorem Hp.part {G : gG} {h h' : gH} {H : Heap} (q : Hp G h' H) (k : gle h h') : Hp G h H := fun a t e x => q a t e (k a _ x)
def gu (h : gH) (a : Nat) (x : gE) : gH := fun q => if q = a then some x else h q
theorem gu_s {h : gH} {a : Nat} {x : gE} : gu h a x a = some x := by simp [gu]
theorem gu_n {h : gH} {a q : Nat} {x : gE} (e : q ≠ a) : gu h a x q = h q := by simp [gu, e]
theorem gu_uu {h : gH} {a : Nat} {x y : gE} : gu (gu h a x) a y = gu h a y := by
  funext q
  by_cases e : q = a <;> simp [gu, e]
theorem gu_self {h : gH} {a : Nat} {x : gE} (e : h a = some x) : gu h a x = h := by
  funext q
  by_cases k : q = a
  · rw [k, gu_s, e]
  · exact gu_n k
theorem gu_comm {h : gH} {a b : Nat} {x y : gE} (n : a ≠ b) : gu (gu h a x) b y = gu (gu h b y) a x := by
  funext q
  by_cases e1 : q = a
  · subst e1; simp [gu, n]
  · by_cases e2 : q = b
    · subst e2; simp [gu, e1]
    · simp [gu, e1, e2]
theorem gle.up {h : gH} {a : Nat} {x : gE} (e : h a = none) : gle h (gu h a x) := by
  intro q y k
  by_cases n : q = a
  · rw [n, e] at k; cases k
  · rw [gu_n n]; exact k
theorem gle.at {h h' : gH} {a : Nat} {x : gE} (k : gle h h') (q : h a = some x) : h' a = some x := k a x q
theorem Hp.lt {G : gG} {h : gH} {H : Heap} (q : Hp G h H) {a : Nat} {x : gE} (e : h a = some x) : a < H.size := (q a x.1 x.2 e).2.lt
theorem Hp.none {G : gG} {h : gH} {H : Heap} (q : Hp G h H) {a : Nat} (e : H.size ≤ a) : h a = none := by
  cases k : h a with
  | none => rfl
  | some x => have := q.lt k; omega
theorem Hp.kept {G : gG} {h : gH} {H H1 : Heap} (q : Hp G h H) (k : ∀ a : Nat, a < H.size → H1[a]? = H[a]?) : Hp G h H1 := fun a t e x => ⟨(q a t e x).1, (q a t e x).2.kept (k a (q.lt x))⟩
/-- a cell is written -/
theorem Hp.set {G : gG} {h : gH} {H H1 : Heap} {a t : Nat} {e : va_E} (q : Hp G h H) (ha : t ≠ 0 → gz G ≤ a) (g : gat G a e H1) (k : ∀ b : Nat, b ≠ a → H1[b]? = H[b]?) : Hp G (gu h a (t, e)) H1 := by
  intro b u f x
  by_cases n : b = a
  · subst n
    rw [gu_s] at x
    cases x
    exact ⟨ha, g⟩
  · rw [gu_n n] at x
    exact ⟨(q b u f x).1, (q b u f x).2.kept (k b n)⟩
/-- a cell's tag may change, while it's the run's own -/
theorem Hp.retag {G : gG} {h : gH} {H : Heap} {a t t' : Nat} {e : va_E} (q : Hp G h H) (x : h a = some (t, e)) (n : t ≠ 0) : Hp G (gu h a (t', e)) H :=
  q.set (fun _ => (q a t e x).1 n) (q a t e x).2 (fun _ _ => rfl)
/-! ===== the tables: words that no list carries ===== -/
def gNw : List Cond := [Jvm.Cond.fieldLinkNest "java/util/ArrayList$Itr" (28 : Nat) "java/util/ArrayList" "size" "I" "java/util/ArrayList", Jvm.Cond.fieldLinkNest "java/util/TreeMap$PrivateEntryIterator" (13 : Nat) "java/util/TreeMap" "modCount" "I" "java/util/TreeMap", Jvm.Cond.fieldLinkNest "Homewatcher" (182 : Nat) "Homewatcher$Task" "number" "I" "Homewatcher", Jvm.Cond.fieldLinkNest "Homewatcher" (96 : Nat) "Homewatcher$Task" "classroom" "I" "Homewatcher", Jvm.Cond.fieldLinkNest "Homewatcher" (111 : Nat) "Homewatcher$Task" "due" "I" "Homewatcher", Jvm.Cond.fieldLinkNest "Homewatcher" (185 : Nat) "Homewatcher$Task" "full" "I" "Homewatcher", Jvm.Cond.fieldLinkNest "Homewatcher" (191 : Nat) "Homewatcher$Task" "rule" "LHomewatcher$Rule;" "Homewatcher", Jvm.Cond.fieldLinkNest "Homewatcher" (289 : Nat) "Homewatcher$Version" "number" "I" "Homewatcher", Jvm.Cond.fieldLinkNest "Homewatcher" (297 : Nat) "Homewatcher$Version" "pupil" "I" "Homewatcher", Jvm.Cond.fieldLinkNest "Homewatcher" (92 : Nat) "Homewatcher$Version" "task" "LHomewatcher$Task;" "Homewatcher", Jvm.Cond.fieldLinkNest "Homewatcher" (124 : Nat) "Homewatcher$Version" "parent" "LHomewatcher$Version;" "Homewatcher", Jvm.Cond.fieldLinkNest "Homewatcher" (280 : Nat) "Homewatcher$Version" "saved" "I" "Homewatcher", Jvm.Cond.fieldLinkNest "Homewatcher" (293 : Nat) "Homewatcher$Version" "chars" "[C" "Homewatcher", Jvm.Cond.fieldLinkNest "Homewatcher" (135 : Nat) "Homewatcher$Version" "shingles" "Ljava/util/TreeSet;" "Homewatcher", Jvm.Cond.fieldLinkNest "Homewatcher" (87 : Nat) "Homewatcher$Version" "handed" "I" "Homewatcher", Jvm.Cond.fieldLinkNest "Homewatcher" (188 : Nat) "Homewatcher$Version" "points" "I" "Homewatcher", Jvm.Cond.fieldLinkNest "Homewatcher" (128 : Nat) "Homewatcher$Version" "isIn" "Z" "Homewatcher", Jvm.Cond.fieldLinkNest "Homewatcher" (363 : Nat) "Homewatcher$Hit" "number" "I" "Homewatcher", Jvm.Cond.fieldLinkNest "Homewatcher" (336 : Nat) "Homewatcher$Hit" "fresh" "LHomewatcher$Version;" "Homewatcher", Jvm.Cond.fieldLinkNest "Homewatcher" (339 : Nat) "Homewatcher$Hit" "other" "LHomewatcher$Version;" "Homewatcher", Jvm.Cond.fieldLinkNest "Homewatcher" (342 : Nat) "Homewatcher$Hit" "common" "I" "Homewatcher", Jvm.Cond.fieldLinkNest "Homewatcher" (345 : Nat) "Homewatcher$Hit" "heard" "I" "Homewatcher", Jvm.Cond.methodLinkNest "Homewatcher$Version" (50 : Nat) ({ cls := "Homewatcher", name := "isHigh", desc := "(C)Z" } : Jvm.MethodName) "Homewatcher", Jvm.Cond.castable "java/lang/Integer" "java/lang/Comparable", Jvm.Cond.castable "java/util/TreeMap" "java/util/NavigableMap", Jvm.Cond.castable "java/util/TreeSet" "java/util/NavigableSet", Jvm.Cond.castable "java/util/TreeSet" "java/util/Set", Jvm.Cond.castable "java/util/ArrayList$Itr" "java/util/Iterator", Jvm.Cond.castable "java/util/TreeMap$KeySet" "java/util/NavigableSet", Jvm.Cond.castable "java/util/TreeMap$KeySet" "java/util/Set", Jvm.Cond.castable "java/util/TreeMap$KeyIterator" "java/util/Iterator", Jvm.Cond.castable "Homewatcher$Hit" "java/lang/Comparable", Jvm.Cond.castable "java/lang/Integer" "java/lang/Object", Jvm.Cond.castable "Homewatcher$Version" "java/lang/Object", Jvm.Cond.castable "Homewatcher$Task" "java/lang/Object", Jvm.Cond.castable "Homewatcher$Hit" "java/lang/Object", Jvm.Cond.castable "java/util/ArrayList" "java/lang/Object", Jvm.Cond.castable "java/util/TreeMap" "java/lang/Object", Jvm.Cond.castable "java/util/TreeMap$Entry" "java/lang/Object", Jvm.Cond.declares ({ cls := "java/util/AbstractCollection", name := "size", desc := "()I" } : Jvm.MethodName), Jvm.Cond.castable "java/lang/IllegalArgumentException" "java/lang/IllegalArgumentException", Jvm.Cond.castable "java/lang/IllegalStateException" "java/lang/IllegalStateException", Jvm.Cond.castable "java/lang/IndexOutOfBoundsException" "java/lang/IndexOutOfBoundsException", Jvm.Cond.castable "java/util/NoSuchElementException" "java/util/NoSuchElementException", Jvm.Cond.castable "java/lang/UnsupportedOperationException" "java/lang/UnsupportedOperationException", Jvm.Cond.castable "java/lang/ArithmeticException" "java/lang/ArithmeticException"]
def gFw : List (String × MethodName × MethodName) := [("java/util/ArrayList$Itr", ⟨"java/util/Iterator", "hasNext", "()Z"⟩, ⟨"java/util/ArrayList$Itr", "hasNext", "()Z"⟩), ("java/util/ArrayList$Itr", ⟨"java/util/Iterator", "next", "()Ljava/lang/Object;"⟩, ⟨"java/util/ArrayList$Itr", "next", "()Ljava/lang/Object;"⟩), ("java/util/TreeMap$KeyIterator", ⟨"java/util/Iterator", "hasNext", "()Z"⟩, ⟨"java/util/TreeMap$PrivateEntryIterator", "hasNext", "()Z"⟩), ("java/util/TreeMap$KeyIterator", ⟨"java/util/Iterator", "next", "()Ljava/lang/Object;"⟩, ⟨"java/util/TreeMap$KeyIterator", "next", "()Ljava/lang/Object;"⟩), ("java/lang/Integer", ⟨"java/lang/Comparable", "compareTo", "(Ljava/lang/Object;)I"⟩, ⟨"java/lang/Integer", "compareTo", "(Ljava/lang/Object;)I"⟩), ("Homewatcher$Hit", ⟨"java/lang/Comparable", "compareTo", "(Ljava/lang/Object;)I"⟩, ⟨"Homewatcher$Hit", "compareTo", "(Ljava/lang/Object;)I"⟩), ("java/util/TreeMap", ⟨"java/util/NavigableMap", "navigableKeySet", "()Ljava/util/NavigableSet;"⟩, ⟨"java/util/TreeMap", "navigableKeySet", "()Ljava/util/NavigableSet;"⟩), ("java/util/TreeMap$KeySet", ⟨"java/util/NavigableSet", "iterator", "()Ljava/util/Iterator;"⟩, ⟨"java/util/TreeMap$KeySet", "iterator", "()Ljava/util/Iterator;"⟩), ("java/util/TreeMap$KeySet", ⟨"java/util/Set", "iterator", "()Ljava/util/Iterator;"⟩, ⟨"java/util/TreeMap$KeySet", "iterator", "()Ljava/util/Iterator;"⟩)]
theorem gNw_tbl : ∀ w ∈ gNw, w ∈ lw_tbl := by
  intro w hw
  simp only [gNw, List.mem_cons, List.not_mem_nil, or_false] at hw
  rcases hw with e | e | e | e | e | e | e | e | e | e | e | e | e | e | e | e | e | e | e | e | e | e | e | e | e | e | e | e | e | e | e | e | e | e | e | e | e | e | e | e | e | e | e | e | e | e
  · rw [e]; exact q446
  · rw [e]; exact q472
  · rw [e]; exact q1457
  · rw [e]; exact q1459
  · rw [e]; exact q1461
  · rw [e]; exact q1463
  · rw [e]; exact q1465
  · rw [e]; exact q1634
  · rw [e]; exact q1636
  · rw [e]; exact q1638
  · rw [e]; exact q1640
  · rw [e]; exact q1642
  · rw [e]; exact q1644
  · rw [e]; exact q1646
  · rw [e]; exact q1648
  · rw [e]; exact q1649
  · rw [e]; exact q1650
  · rw [e]; exact q1717
  · rw [e]; exact q1719
  · rw [e]; exact q1721
  · rw [e]; exact q1723
  · rw [e]; exact q1725
  · rw [e]; exact q1618
  · rw [e]; exact q732
  · rw [e]; exact q1033
  · rw [e]; exact q1097
  · rw [e]; exact q1189
  · rw [e]; exact q962
  · rw [e]; exact q1056
  · rw [e]; exact q1187
  · rw [e]; exact q968
  · rw [e]; exact q721
  · rw [e]; exact q2438
  · rw [e]; exact q2445
  · rw [e]; exact q2441
  · rw [e]; exact q2452
  · rw [e]; exact q2431
  · rw [e]; exact q2435
  · rw [e]; exact q2448
  · rw [e]; exact q1937
  · rw [e]; exact q128
  · rw [e]; exact q1334
  · rw [e]; exact q1419
  · rw [e]; exact q989
  · rw [e]; exact q1572
  · rw [e]; exact q2001
def gNwK : Cond → Bool
  | .fieldLinkNest _ _ _ _ _ _ => true
  | .methodLinkNest _ _ _ _ => true
  | .castable _ _ => true
  | .declares _ => true
  | _ => false
theorem gNw_K : gNw.all gNwK = true := by decide +kernel
theorem va_Nw.warmK {w : Cond} (k : gNwK w = true) {s U : State} (hW : s.WarmedH U.vm) (h : va_Nw w s) : va_Nw w U := by
  cases w <;> first | (exact absurd k Bool.false_ne_true) | exact h.warmF hW | exact h.warmM hW | exact h.warmC hW | exact h.warmD hW
theorem gNw_of {A : Array Value} {U : State} (h : ∀ w ∈ lw_tbl, w.before A U = true) : ∀ w ∈ gNw, va_Nw w U := by
  intro w hw
  have k := List.all_eq_true.mp gNw_K w hw
  have b := h w (gNw_tbl w hw)
  cases w <;> first | (exact absurd k Bool.false_ne_true) | exact va_Nw.of rfl b
theorem gFw_of {A : Array Value} {U : State} (h : ∀ w ∈ lw_tbl, w.before A U = true) : ∀ q ∈ gFw, va_Fw q.1 q.2.1 q.2.2 U := by
  intro q hq
  simp only [gFw, List.mem_cons, List.not_mem_nil, or_false] at hq
  rcases hq with e | e | e | e | e | e | e | e | e
  · rw [e]; exact va_Fw.of (h _ q961) (h _ q960) (h _ q966) (h _ q964) (h _ q962)
  · rw [e]; exact va_Fw.of (h _ q977) (h _ q976) (h _ q981) (h _ q979) (h _ q962)
  · rw [e]; exact va_Fw.of (h _ q961) (h _ q960) (h _ q972) (h _ q970) (h _ q968)
  · rw [e]; exact va_Fw.of (h _ q977) (h _ q976) (h _ q1011) (h _ q1009) (h _ q968)
  · rw [e]; exact va_Fw.of (h _ q720) (h _ q719) (h _ q736) (h _ q734) (h _ q732)
  · rw [e]; exact va_Fw.of (h _ q720) (h _ q719) (h _ q725) (h _ q723) (h _ q721)
  · rw [e]; exact va_Fw.of (h _ q1032) (h _ q1031) (h _ q1037) (h _ q1035) (h _ q1033)
  · rw [e]; exact va_Fw.of (h _ q1055) (h _ q1054) (h _ q1060) (h _ q1058) (h _ q1056)
  · rw [e]; exact va_Fw.of (h _ q1186) (h _ q1185) (h _ q1060) (h _ q1058) (h _ q1187)
theorem gFw_x : ∀ q ∈ gFw, q.2.1.cls ≠ "java/lang/invoke/MethodHandle" ∧ q.2.1.cls ≠ "java/lang/invoke/VarHandle" := by decide +kernel
/-- exceptions that another handler's class does not take -/
def gNc : List (String × String) := [("java/lang/IllegalStateException", "java/lang/IllegalArgumentException"), ("java/lang/IllegalStateException", "java/lang/IndexOutOfBoundsException"), ("java/lang/IllegalArgumentException", "java/lang/IndexOutOfBoundsException"), ("java/lang/UnsupportedOperationException", "java/lang/IndexOutOfBoundsException"), ("java/lang/UnsupportedOperationException", "java/lang/IllegalArgumentException"), ("java/lang/IllegalStateException", "java/lang/UnsupportedOperationException"), ("java/util/NoSuchElementException", "java/lang/IndexOutOfBoundsException")]
/-! ===== what holds of the tables, and of the statics ===== -/
/-- own: the caller's class; idx: its entry; x: the named method; J: who declares it; C: the receiver's class; y: what is run -/
def gUf (own : String) (idx : Nat) (x : MethodName) (J C : String) (y : MethodName) (U : State) : Prop :=
  (Cond.methodLink own idx x).before #[] U = true ∧ (Cond.interfaceMethod x.cls J x.name x.desc).before #[] U = true ∧ (Cond.declares ⟨J, x.name, x.desc⟩).before #[] U = true ∧ (Cond.publicMethod ⟨J, x.name, x.desc⟩).before #[] U = true ∧ (Cond.selects C ⟨J, x.name, x.desc⟩ y).before #[] U = true ∧ (Cond.publicMethod y).before #[] U = true ∧ (Cond.unhidden C x.name x.desc).before #[] U = true ∧ (Cond.castable C x.cls).before #[] U = true
theorem gUf.face {ref owner name desc : String} {u U : State} (hvm : u.vm.Alike U.vm) (h : (Cond.interfaceMethod ref owner name desc).before #[] u = true) : (Cond.interfaceMethod ref owner name desc).before #[] (u.setVm U.vm) = true := by
  obtain ⟨c, k, m, h1, h2, h3, h4, h5⟩ := Cond.interfaceMethod_spec h
  obtain ⟨k', hk', he⟩ := hvm.2.2 _ _ h2
  have hi : k'.isInterface = k.isInterface := by rw [he]; rfl
  have e1 : (u.setVm U.vm).vm.findClass ref = some c := by rw [State.vm_setVm, hvm.findClass]; exact h1
  have e2 : (u.setVm U.vm).methodFound? ref name desc = some m := by rw [State.methodFound?_setVm hvm]; exact h4
  have e3 : (u.setVm U.vm).methodNamed? ⟨owner, name, desc⟩ = some m := by rw [State.methodNamed?_setVm hvm]; exact h5
  have e4 : (u.setVm U.vm).vm.classes[c]? = some k' := hk'
  simp only [Cond.before, Cond.holds, Cond.value, e1, e2, e3, e4, Option.any_some, hi, h3]
  simp
theorem gUf.moved {own : String} {idx : Nat} {x : MethodName} {J C : String} {y : MethodName} {u U : State} (hW : u.WarmedH U.vm) (h : gUf own idx x J C y u) : gUf own idx x J C y U := by
  obtain ⟨h1, h2, h3, h4, h5, h6, h7, h8⟩ := h
  have hvm := hW.alike
  have tr : ∀ {c : Cond}, c.onTables = true → c.before #[] (u.setVm U.vm) = true → c.before #[] U = true := by
    intro c hc h
    have e := Cond.onTables_vm (A := #[]) (A' := #[]) (U := u) (U' := U) U.vm c hc
    have hU : U.setVm U.vm = U := rfl
    rw [hU] at e
    rw [← e]
    exact h
  have ta : ∀ {c : Cond}, (c.onTables && c.keeps) = true → c.before #[] u = true → c.before #[] U = true := fun {c} hc h => word_at hW (Or.inl hc) h
  exact ⟨ta rfl h1, tr rfl (gUf.face hvm h2), tr rfl (by rw [Cond.declares_setVm hvm]; exact h3), tr rfl (by rw [Cond.publicMethod_setVm hvm]; exact h4), ta rfl h5, tr rfl (by rw [Cond.publicMethod_setVm hvm]; exact h6), tr rfl (by rw [Cond.unhidden_setVm hvm]; exact h7), tr rfl (by rw [Cond.castable_setVm hvm]; exact h8)⟩
def gLaB (G : gG) (U : State) : Prop := (∃ w, gst G 0 = some w) ∧ (∃ mi, gst G 2 = some mi ∧ va_Mi "[Ljava/lang/Object;" mi U) ∧ va_Dc U
theorem gLaB.warm {G : gG} {s U : State} (hW : s.WarmedH U.vm) (h : gLaB G s) : gLaB G U := ⟨h.1, ⟨h.2.1.choose, h.2.1.choose_spec.1, h.2.1.choose_spec.2.moved hW.alike⟩, h.2.2.moved hW.alike⟩
abbrev xPut (c : String) : MethodName := ⟨c, "put", "(Ljava/lang/Object;Ljava/lang/Object;)Ljava/lang/Object;"⟩
abbrev xHas (c : String) : MethodName := ⟨c, "containsKey", "(Ljava/lang/Object;)Z"⟩
abbrev xSiz (c : String) : MethodName := ⟨c, "size", "()I"⟩
def gLam (G : gG) (U : State) : Prop := gUf "java/util/TreeSet" 69 (xPut "java/util/NavigableMap") "java/util/Map" "java/util/TreeMap" (xPut "java/util/TreeMap") U ∧ gUf "java/util/TreeSet" 61 (xHas "java/util/NavigableMap") "java/util/Map" "java/util/TreeMap" (xHas "java/util/TreeMap") U ∧ gUf "java/util/TreeSet" 53 (xSiz "java/util/NavigableMap") "java/util/Map" "java/util/TreeMap" (xSiz "java/util/TreeMap") U ∧ gLaB G U
theorem gLam.warm {G : gG} {s U : State} (hW : s.WarmedH U.vm) (h : gLam G s) : gLam G U := ⟨h.1.moved hW, h.2.1.moved hW, h.2.2.1.moved hW, h.2.2.2.warm hW⟩
/-- arrays of rows of booleans -/
def gAB (U : State) : Prop := (Cond.arrayOver (.array .boolean)).before #[] U = true
theorem gAB.moved {u U : State} (hvm : u.vm.Alike U.vm) (h : gAB u) : gAB U := by
  have hb : U.vm.bare = u.vm.bare := by first | exact hvm.bare_eq | exact hvm.bare_eq.symm
  have hidx : ∀ comp : ClassId, (U.vm.classes.findIdx? fun (x : Class) => match x.kind with | .array component _ => component == comp | _ => false) = (u.vm.classes.findIdx? fun (x : Class) => match x.kind with | .array component _ => component == comp | _ => false) := by
    intro comp
    refine Eq.trans (va_idx_bare (comp := comp) U.vm).symm (Eq.trans ?_ (va_idx_bare (comp := comp) u.vm))
    rw [hb]
  unfold gAB Cond.before Cond.holds at h ⊢
  simp only [Cond.value] at h ⊢
  simp only [hvm.findClass]
  cases hc : u.vm.findClass (FieldType.array .boolean).toString with
  | none => simp [hc] at h
  | some comp =>
    rw [hc, Option.bind_some] at h
    rw [Option.bind_some]
    refine Eq.trans (congrArg (fun o : Option Nat => (o.bind (fun c => (U.vm.classes[c]?).map fun (k : Class) => match k.kind with | .array _ ty => decide (ty = FieldType.array .boolean) && decide (u.vm.findClass ("[" ++ (FieldType.array .boolean).toString) = some c) | _ => false) == some true)) (hidx comp)) ?_
    refine Eq.trans ?_ h
    cases hi : (u.vm.classes.findIdx? fun (x : Class) => match x.kind with | .array component _ => component == comp | _ => false) with
    | none =>
      have h2 := (congrArg (fun o : Option Nat => (o.bind (fun c => (u.vm.classes[c]?).map fun (k : Class) => match k.kind with | .array _ ty => decide (ty = FieldType.array .boolean) && decide (u.vm.findClass ("[" ++ (FieldType.array .boolean).toString) = some c) | _ => false) == some true)) hi).symm.trans h
      simp at h2
    | some c =>
      have h2 := (congrArg (fun o : Option Nat => (o.bind (fun c => (u.vm.classes[c]?).map fun (k : Class) => match k.kind with | .array _ ty => decide (ty = FieldType.array .boolean) && decide (u.vm.findClass ("[" ++ (FieldType.array .boolean).toString) = some c) | _ => false) == some true)) hi).symm.trans h
      simp only [Option.bind_some]
      cases hk : u.vm.classes[c]? with
      | none => simp [hk] at h2
      | some k =>
        obtain ⟨k', hk', he⟩ := hvm.2.2 _ _ hk
        have hkind : k'.kind = k.kind := by rw [he]
        rw [hk']
        simp only [Option.map_some, hkind]
        rfl
def gXt (G : gG) (U : State) : Prop := ∀ q ∈ gNc, va_Nc q.1 q.2 U
theorem gXt.warm {G : gG} {s U : State} (hW : s.WarmedH U.vm) (h : gXt G s) : gXt G U := fun q hq => (h q hq).moved hW.alike
def Tb (G : gG) (U : State) : Prop := va_K (gD G) gCl (gTy G) U ∧ (∀ w ∈ gNw, va_Nw w U) ∧ (∀ q ∈ gFw, va_Fw q.1 q.2.1 q.2.2 U) ∧ (gxc G 0 = (gD G).1 14 ∧ gxs G 0 = (gD G).2 14 0) ∧ gLam G U ∧ va_AO "java/lang/Object" U ∧ gAB U ∧ gXt G U
theorem Tb.warm {G : gG} {s U : State} (hW : s.WarmedH U.vm) (h : Tb G s) : Tb G U :=
  ⟨va_K.moved hW.alike h.1, fun w hw => (h.2.1 w hw).warmK (List.all_eq_true.mp gNw_K w hw) hW, fun q hq => va_Fw.moved (gFw_x q hq) hW.alike (h.2.2.1 q hq), h.2.2.2.1, h.2.2.2.2.1.warm hW, va_AO.moved hW.alike h.2.2.2.2.2.1, gAB.moved hW.alike h.2.2.2.2.2.2.1, gXt.warm hW h.2.2.2.2.2.2.2⟩
/-- the cache of small Integers, as an array -/
def gCa (G : gG) (U : State) (H : Heap) : Prop := ∃ t : Nat, va_Z "java/lang/Integer$IntegerCache" "cache" "[Ljava/lang/Integer;" (.ref t) (gA G) U H ∧ va_T (.object "java/lang/Integer") t 256 (fun k => .ref (gad G k)) (gA G) U H
def Sx (G : gG) (U : State) (H : Heap) : Prop :=
  va_Z "java/lang/String" "COMPACT_STRINGS" "Z" (.int 1) (gA G) U H ∧
  va_Z "java/lang/StringUTF16" "$assertionsDisabled" "Z" (.int 1) (gA G) U H ∧
  va_Z "java/lang/StringUTF16" "HI_BYTE_SHIFT" "I" (.int 0) (gA G) U H ∧
  va_Z "java/lang/StringUTF16" "LO_BYTE_SHIFT" "I" (.int 8) (gA G) U H ∧
  va_Z "java/util/TreeSet" "PRESENT" "Ljava/lang/Object;" (va_rf (gst G 0)) (gA G) U H ∧
  va_Z "jdk/internal/util/Preconditions" "SIOOBE_FORMATTER" "Ljava/util/function/BiFunction;" (va_rf (gst G 1)) (gA G) U H ∧
  va_Z "java/lang/Integer$IntegerCache" "high" "I" (.int 127) (gA G) U H ∧
  gCa G U H ∧
  vx_Zq Bundle.tN "UNASSIGNED_STACK" Bundle.steD (gA G) U H ∧
  vx_Zq Bundle.tN "SUPPRESSED_SENTINEL" Bundle.listD (gA G) U H
theorem Sx.moved {G : gG} {u U : State} {H : Heap} (hvm : u.vm.Alike U.vm) (h : Sx G u H) : Sx G U H := by
  obtain ⟨h1, h2, h3, h4, h5, h6, h7, ⟨t, h8, h9⟩, h10, h11⟩ := h
  exact ⟨h1.moved hvm, h2.moved hvm, h3.moved hvm, h4.moved hvm, h5.moved hvm, h6.moved hvm, h7.moved hvm, ⟨t, h8.moved hvm, va_T.moved hvm h9⟩, vx_Zq.moved hvm h10, vx_Zq.moved hvm h11⟩
theorem Sx.kept {G : gG} {U : State} {H H1 : Heap} (h : Sx G U H) (hq : ∀ a : Nat, a < H.size → ¬ gA G a → H1[a]? = H[a]?) : Sx G U H1 := by
  obtain ⟨h1, h2, h3, h4, h5, h6, h7, ⟨t, h8, h9⟩, h10, h11⟩ := h
  exact ⟨h1.kept hq, h2.kept hq, h3.kept hq, h4.kept hq, h5.kept hq, h6.kept hq, h7.kept hq, ⟨t, h8.kept hq, h9.kept hq⟩, h10.kept hq, h11.kept hq⟩
/-- a method's start -/
def Wd (G : gG) (h : gH) (U : State) : Prop := Hp G h U.heap ∧ Tb G U ∧ Sx G U U.heap ∧ gz G ≤ U.heap.size
def gQ (G : gG) (Ret : Option Value → gH → Prop) : Array Value → State → Outcome → State → Prop := fun _ st oc t => (∃ (v : Option Value) (u : gH), oc = .returned v ∧ Ret v u ∧ Hp G u t.heap) ∧ va_F (gA G) st t
def gXC (G : gG) (Thr : String → gH → Prop) : String → State → State → Prop := fun E st t => (∃ u : gH, Thr E u ∧ Hp G u t.heap) ∧ va_F (gA G) st t
abbrev grm (lev mc : Nat) : Room := { frames := lev, cells := mc, slots := 8 * mc, locals := 64 * lev }
/-- A CONTRACT: from the ghost heap h the method y, called with As, answers v with a ghost heap u (Ret), or throws an E (Thr); at most mc cells of 8 * mc slots -/
def gMet (lev : Nat) (y : MethodName) (cc : ByteArray) (nL : Nat) (ret : Option FieldType) (G : gG) (h : gH) (As : List Value) (Ret : Option Value → gH → Prop) (Thr : String → gH → Prop) (mc : Nat) : Prop :=
  ∀ l : Launch, l.flags = flags0 → vx_Met l y (ws_ y cc nL ret) (grm lev mc) (va_Pc As (Wd G h)) (gQ G Ret) (gXC G Thr) mc (8 * mc) (gA G)
/-- the same for a method with handlers -/
def gMetW (lev : Nat) (y : MethodName) (cc : ByteArray) (nL : Nat) (ret : Option FieldType) (hh : List (Nat × Nat × Nat × Nat)) (G : gG) (h : gH) (As : List Value) (Ret : Option Value → gH → Prop) (Thr : String → gH → Prop) (mc : Nat) : Prop :=
  ∀ l : Launch, l.flags = flags0 → vx_Met l y (wsW_ y cc nL ret hh) (grm lev mc) (va_Pc As (Wd G h)) (gQ G Ret) (gXC G Thr) mc (8 * mc) (gA G)
abbrev gNo : String → gH → Prop := fun _ _ => False
/-! ===== the judgement ===== -/
abbrev gK : Type := Program × Launch × Env × Room × State × MethodId × Array Value × List Frame × Method × Code × gG × Nat × (State → Prop)
abbrev kp (K : gK) : Program := K.1
abbrev kl (K : gK) : Launch := K.2.1
abbrev ke (K : gK) : Env := K.2.2.1
abbrev kR (K : gK) : Room := K.2.2.2.1
abbrev ks (K : gK) : State := K.2.2.2.2.1
abbrev km (K : gK) : MethodId := K.2.2.2.2.2.1
abbrev ka (K : gK) : Array Value := K.2.2.2.2.2.2.1
abbrev kb (K : gK) : List Frame := K.2.2.2.2.2.2.2.1
abbrev kme (K : gK) : Method := K.2.2.2.2.2.2.2.2.1
abbrev kc (K : gK) : Code := K.2.2.2.2.2.2.2.2.2.1
abbrev kG (K : gK) : gG := K.2.2.2.2.2.2.2.2.2.2.1
abbrev kn (K : gK) : Nat := K.2.2.2.2.2.2.2.2.2.2.2.1
abbrev kQ (K : gK) : State → Prop := K.2.2.2.2.2.2.2.2.2.2.2.2
def E (K : gK) (pc : Nat) (l : List (Nat × Value)) (st : List Value) (h : gH) (k : Nat) : Prop :=
  ∀ (H : Heap) (locs : List Loc) (ls : Array Slot), Hp (kG K) h H → va_S (gA (kG K)) (ks K).heap H locs → lv_has ls (kn K) l →
    W (kp K) (kl K) (ke K) (kR K) (ks K) (km K) (ka K) (kb K) (kme K) (kc K) H locs k (8 * k) (kQ K) (F0 (km K) pc ls st)
/-- a throwable of class X, thrown at pc -/
def EX (K : gK) (pc : Nat) (X : String) (l : List (Nat × Value)) (st : List Value) (h : gH) (k : Nat) : Prop :=
  ∀ (H : Heap) (locs : List Loc) (ls : Array Slot) (q : Nat) (ce : Cell), Hp (kG K) h H → va_S (gA (kG K)) (ks K).heap H locs → lv_has ls (kn K) l → H[q]? = some ce → ce.vm = .none → (ks K).vm.findClass X = some ce.cls →
    vx_W (kp K) (kl K) (ke K) (kR K) (ks K) (km K) (ka K) (kb K) (kme K) (kc K) H locs k (8 * k) (kQ K) (F0 (km K) pc ls st) q
/-- where the walk stands: the method's class own, code cc, answer ret, level lev, room mc, handlers hh -/
def gC (K : gK) (own : String) (cc : ByteArray) (ret : Option FieldType) (lev mc : Nat) (hh : List (Nat × Nat × Nat × Nat)) : Prop :=
  (kp K).tables.exec = Jvm.exec ∧ (kc K).code = cc ∧ (kc K).maxLocals = kn K ∧ (ks K).vm.findClass own = some (km K).cls ∧ (∀ w ∈ lw_all, w.before (ka K) (ks K) = true) ∧
  (kme K).sig.returnType = ret ∧ (kme K).locks = false ∧ (lev ≤ (kR K).frames ∧ 64 * lev ≤ (kR K).locals ∧ mc ≤ (kR K).cells ∧ 8 * mc ≤ (kR K).slots) ∧ (kl K).flags = flags0 ∧ Tb (kG K) (ks K) ∧ Sx (kG K) (ks K) (ks K).heap ∧ gz (kG K) ≤ (ks K).heap.size ∧
  (kc K).exceptionTable.toList = tableOf hh
/-- how the walk may end -/
def gEnd (K : gK) (Ret : Option Value → gH → Prop) (Thr : String → gH → Prop) (mc : Nat) : Prop :=
  kQ K = vx_MQ (kb K) (gQ (kG K) Ret) (gXC (kG K) Thr) (ka K) (ks K) mc (8 * mc) (gA (kG K))
section BASE
variable {K : gK} {own : String} {cc : ByteArray} {ret : Option FieldType} {lev mc : Nat} {hh : List (Nat × Nat × Nat × Nat)} {G : gG}
variable {pc k : Nat} {l : List (Nat × Value)} {st : List Value} {h : gH}
theorem gC.x (C : gC K own cc ret lev mc hh) : (kp K).tables.exec = Jvm.exec := C.1
theorem gC.b (C : gC K own cc ret lev mc hh) : (kc K).code = cc := C.2.1
theorem gC.ml (C : gC K own cc ret lev mc hh) : (kc K).maxLocals = kn K := C.2.2.1
theorem gC.ow (C : gC K own cc ret lev mc hh) : (ks K).vm.findClass own = some (km K).cls := C.2.2.2.1
theorem gC.ts (C : gC K own cc ret lev mc hh) : ∀ w ∈ lw_all, w.before (ka K) (ks K) = true := C.2.2.2.2.1
theorem gC.re (C : gC K own cc ret lev mc hh) : (kme K).sig.returnType = ret := C.2.2.2.2.2.1
theorem gC.lk (C : gC K own cc ret lev mc hh) : (kme K).locks = false := C.2.2.2.2.2.2.1
theorem gC.rm (C : gC K own cc ret lev mc hh) : lev ≤ (kR K).frames ∧ 64 * lev ≤ (kR K).locals ∧ mc ≤ (kR K).cells ∧ 8 * mc ≤ (kR K).slots := C.2.2.2.2.2.2.2.1
theorem gC.fl (C : gC K own cc ret lev mc hh) : (kl K).flags = flags0 := C.2.2.2.2.2.2.2.2.1
theorem gC.tb (C : gC K own cc ret lev mc hh) : Tb (kG K) (ks K) := C.2.2.2.2.2.2.2.2.2.1
theorem gC.sx (C : gC K own cc ret lev mc hh) : Sx (kG K) (ks K) (ks K).heap := C.2.2.2.2.2.2.2.2.2.2.1
theorem gC.z (C : gC K own cc ret lev mc hh) : gz (kG K) ≤ (ks K).heap.size := C.2.2.2.2.2.2.2.2.2.2.2.1
theorem gC.et (C : gC K own cc ret lev mc hh) : (kc K).exceptionTable.toList = tableOf hh := C.2.2.2.2.2.2.2.2.2.2.2.2
theorem gC.K9 (C : gC K own cc ret lev mc hh) : va_K (gD (kG K)) gCl (gTy (kG K)) (ks K) := C.tb.1
theorem gC.nw (C : gC K own cc ret lev mc hh) {w : Cond} (hw : w ∈ gNw) : va_Nw w (ks K) := C.tb.2.1 w hw
theorem gC.hA (C : gC K own cc ret lev mc hh) : ∀ q : Nat, (ks K).heap.size ≤ q → gA (kG K) q := fun q hq => Nat.le_trans C.z hq
theorem E.eq {pc' : Nat} {l' : List (Nat × Value)} {st' : List Value} {h' : gH} {k' : Nat} (h1 : pc' = pc) (h2 : l' = l) (h3 : st' = st) (h4 : h' = h) (h5 : k' = k) (e : E K pc' l' st' h' k') : E K pc l st h k := by subst h1; subst h2; subst h3; subst h4; subst h5; exact e
theorem E.loc {l' : List (Nat × Value)} (q : l = l') (e : E K pc l' st h k) : E K pc l st h k := by rw [q]; exact e
/-- forget: a smaller ghost heap, fewer locals, more used room -/
theorem E.part {h' : gH} (q : gle h' h) (e : E K pc l st h' k) : E K pc l st h k := fun H locs ls hp => e H locs ls (hp.part q)
theorem E.sub {l' : List (Nat × Value)} (ks' : List Nat) (hl : lv_pick l ks' = l') (e : E K pc l' st h k) : E K pc l st h k := fun H locs ls hp hs hv => e H locs ls hp hs (lv_sub hv ks' hl)
theorem E.wide {k' : Nat} (hk : k ≤ k') (e : E K pc l st h k') : E K pc l st h k := fun H locs ls hp hs hv => W.widen hk (Nat.mul_le_mul_left 8 hk) (e H locs ls hp hs hv)
theorem EX.part {X : String} {h' : gH} (q : gle h' h) (e : EX K pc X l st h' k) : EX K pc X l st h k := fun H locs ls a ce hp => e H locs ls a ce (hp.part q)
/-- what the ghost heap says holds of the heap: a way in for pure facts -/
theorem E.fresh (e : (∀ a x, h a = some x → gat (kG K) a x.2 #[] ∨ True) → E K pc l st h k) : E K pc l st h k := e (fun _ _ _ => Or.inr trivial)
theorem E.retag {a t t' : Nat} {x : va_E} (q : h a = some (t, x)) (n : t ≠ 0) (e : E K pc l st (gu h a (t', x)) k) : E K pc l st h k := fun H locs ls hp hs hv => e H locs ls (hp.retag q n) hs hv
/-- the method's entry -/
theorem vx_ofF {l : Launch} {y : MethodName} {ws ws' : List Cond} {rm : Room} {Pc : Array Value → State → Prop} {Qc : Array Value → State → Outcome → State → Prop} {XC : String → State → State → Prop} {m9 s9 : Nat} {free : Addr → Prop} {cc : ByteArray} {maxL : Nat} {ret : Option FieldType}
    (hy : plainFor y = true) (hw : ws = Cond.code y cc maxL ret :: ws')
    (body : ∀ p e s m args below meth c s₁, BodyLoose p l y (headSpec ws rm) cc maxL ret e s m args below meth c s₁ → c.maxLocals = maxL → (∀ x ∈ c.exceptionTable.toList, False) → Pc args s →
      W p l e (headSpec ws rm).room s m args below meth c s.heap [] 0 0 (vx_MQ below Qc XC args s m9 s9 free) (entryFrame m args maxL)) : vx_Met l y ws rm Pc Qc XC m9 s9 free := by
  refine MetFree.of_bodySF (code := cc) (maxLocals := maxL) (ret := ret) hy ?_ ?_
  · intro args s m h hn
    obtain ⟨meth, c, h1, h2, h3, h4, h5, h6, -, -⟩ := Cond.code_spec hn (atoms_spec (ws := ws) h _ (by rw [hw]; exact List.mem_cons_self))
    exact ⟨meth, c, h1, h2, h3, h4, h5, h6⟩
  · intro p e s m args below meth c s₁ B hml hP _
    have hh0 : s₁.heap = s.heap := by rw [B.state]; rfl
    have ht : ∀ x ∈ c.exceptionTable.toList, False := by
      obtain ⟨meth9, c9, h1, h2, -, -, -, -, h7, -⟩ := Cond.code_spec B.named (atoms_spec (ws := ws) B.pre _ (by rw [hw]; exact List.mem_cons_self))
      cases Option.some.inj (h1.symm.trans B.method)
      cases Option.some.inj (h2.symm.trans (Stand.of_body B).code)
      intro x hx
      rw [Array.isEmpty_iff.mp h7] at hx
      cases hx
    obtain ⟨t, a1, o, b1, b2, b3⟩ := body p e s m args below meth c s₁ B hml ht hP s₁ hh0 (Stand.of_body B)
    exact ⟨t, o, a1, b1, b2, b3⟩
theorem gMet.ofF {y : MethodName} {nL : Nat} {As : List Value} {Ret : Option Value → gH → Prop} {Thr : String → gH → Prop} (hy : plainFor y = true) (hn : (lg_sl As).length ≤ nL)
    (body : ∀ K : gK, gC K y.cls cc ret lev mc [] → gEnd K Ret Thr mc → kG K = G → kn K = nL → (kme K).name = y.name → E K 0 (lv_args 0 As) [] h 0) : gMet lev y cc nL ret G h As Ret Thr mc := by
  intro l hfl
  refine vx_ofF (cc := cc) (maxL := nL) (ret := ret) hy rfl ?_
  intro p e s m args below meth c s₁ B hml hno hv
  obtain ⟨rfl, hp, htb, hsx, hz⟩ := hv
  have hts := atoms_spec (ws := ws_ y cc nL ret) B.pre
  have hts : ∀ w ∈ lw_all, w.before _ s = true := fun w h => hts w (List.mem_cons_of_mem _ h)
  have hown : s.vm.findClass y.cls = some m.cls := findClass_of_methodNamed B.named
  have hl := lv_entry As (n := nL) hn
  rw [lg_entry_eq]
  have het : c.exceptionTable.toList = tableOf [] := by
    cases ht : c.exceptionTable.toList with
    | nil => rfl
    | cons x xs => exact absurd (hno x (by rw [ht]; exact List.mem_cons_self)) (fun z => z)
  exact body (p, l, e, grm lev mc, s, m, As.toArray, below, meth, c, G, nL, vx_MQ below (gQ G Ret) (gXC G Thr) As.toArray s mc (8 * mc) (gA G))
    ⟨B.exec, B.bytes, hml, hown, hts, B.returns, B.notSynchronized, ⟨Nat.le_refl _, Nat.le_refl _, Nat.le_refl _, Nat.le_refl _⟩, hfl, htb, hsx, hz, het⟩ rfl rfl rfl (name_of_methodNamed B.named B.method).1 s.heap [] _ hp va_S.rf hl
theorem gMet.of {y : MethodName} {nL : Nat} {As : List Value} {Ret : Option Value → gH → Prop} {Thr : String → gH → Prop} (hy : plainName y.cls = true) (hn : (lg_sl As).length ≤ nL)
    (body : ∀ K : gK, gC K y.cls cc ret lev mc [] → gEnd K Ret Thr mc → kG K = G → kn K = nL → (kme K).name = y.name → E K 0 (lv_args 0 As) [] h 0) : gMet lev y cc nL ret G h As Ret Thr mc := gMet.ofF (plainFor_of_name hy) hn body
theorem gMetW.of {y : MethodName} {nL : Nat} {As : List Value} {Ret : Option Value → gH → Prop} {Thr : String → gH → Prop} (hy : plainName y.cls = true) (hn : (lg_sl As).length ≤ nL)
    (body : ∀ K : gK, gC K y.cls cc ret lev mc hh → gEnd K Ret Thr mc → kG K = G → kn K = nL → (kme K).name = y.name → E K 0 (lv_args 0 As) [] h 0) : gMetW lev y cc nL ret hh G h As Ret Thr mc := by
  intro l hfl
  refine vx_ofWH (cc := cc) (maxL := nL) (ret := ret) (hh := hh) hy rfl ?_
  intro p e s m args below meth c s₁ B hml hv
  obtain ⟨rfl, hp, htb, hsx, hz⟩ := hv
  have hts0 := atoms_spec (ws := wsW_ y cc nL ret hh) B.pre
  have hts : ∀ w ∈ lw_all, w.before _ s = true := fun w h => hts0 w (List.mem_cons_of_mem _ h)
  have hown : s.vm.findClass y.cls = some m.cls := findClass_of_methodNamed B.named
  have hl := lv_entry As (n := nL) hn
  rw [lg_entry_eq]
  have het : c.exceptionTable.toList = tableOf hh := vx_table (x := y) B (hts0 _ List.mem_cons_self)
  exact body (p, l, e, grm lev mc, s, m, As.toArray, below, meth, c, G, nL, vx_MQ below (gQ G Ret) (gXC G Thr) As.toArray s mc (8 * mc) (gA G))
    ⟨B.exec, B.bytes, hml, hown, hts, B.returns, B.notSynchronized, ⟨Nat.le_refl _, Nat.le_refl _, Nat.le_refl _, Nat.le_refl _⟩, hfl, htb, hsx, hz, het⟩ rfl rfl rfl (name_of_methodNamed B.named B.method).1 s.heap [] _ hp va_S.rf hl
/-! ends -/
theorem E.endV {Ret : Option Value → gH → Prop} {Thr : String → gH → Prop} {m9 : Nat} (C : gC K own cc none lev mc hh) (N : gEnd K Ret Thr m9) (d : decode cc pc = .ok (.return_, 1)) (hk : k ≤ m9) (hr : Ret none h) : E K pc l [] h k := by
  intro H locs ls hp hs hl
  rw [N]
  refine W.widen hk (Nat.mul_le_mul_left 8 hk) (vx_ret ?_)
  exact W.vret C.x C.b C.re (fun t ht hW => ⟨⟨none, h, rfl, hr, by rw [ht]; exact hp⟩, hs.F ht⟩) hs.2.2 d C.lk
theorem E.endI {Ret : Option Value → gH → Prop} {Thr : String → gH → Prop} {m9 : Nat} {v : Int32} (C : gC K own cc (some .int) lev mc hh) (N : gEnd K Ret Thr m9) (d : decode cc pc = .ok (.ireturn, 1)) (hk : k ≤ m9) (hr : Ret (some (.int v)) h) : E K pc l [.int v] h k := by
  intro H locs ls hp hs hl
  rw [N]
  refine W.widen hk (Nat.mul_le_mul_left 8 hk) (vx_ret ?_)
  exact W.iret C.x C.b C.re (fun t ht hW => ⟨⟨_, h, rfl, hr, by rw [ht]; exact hp⟩, hs.F ht⟩) hs.2.2 d C.lk
theorem E.endZ {Ret : Option Value → gH → Prop} {Thr : String → gH → Prop} {m9 : Nat} {v : Int32} {ty : FieldType} (C : gC K own cc (some ty) lev mc hh) (N : gEnd K Ret Thr m9) (d : decode cc pc = .ok (.ireturn, 1)) (hn : narrow ty (.int v) = .int v) (hk : k ≤ m9) (hr : Ret (some (.int v)) h) : E K pc l [.int v] h k := by
  intro H locs ls hp hs hl
  rw [N]
  refine W.widen hk (Nat.mul_le_mul_left 8 hk) (vx_ret ?_)
  exact W.zret C.x C.b C.re hn (fun t ht hW => ⟨⟨_, h, rfl, hr, by rw [ht]; exact hp⟩, hs.F ht⟩) hs.2.2 d C.lk
theorem E.endA {Ret : Option Value → gH → Prop} {Thr : String → gH → Prop} {m9 : Nat} {v : Value} {ty : FieldType} (C : gC K own cc (some ty) lev mc hh) (N : gEnd K Ret Thr m9) (d : decode cc pc = .ok (.areturn, 1)) (hk : k ≤ m9) (hr : Ret (some v) h) (hty : (∃ n, ty = .object n) ∨ ∃ t, ty = .array t := by first | exact Or.inl ⟨_, rfl⟩ | exact Or.inr ⟨_, rfl⟩) (hv : v = .null ∨ ∃ a, v = .ref a := by first | exact Or.inl rfl | exact Or.inr ⟨_, rfl⟩ | assumption) : E K pc l [v] h k := by
  intro H locs ls hp hs hl
  rw [N]
  refine W.widen hk (Nat.mul_le_mul_left 8 hk) (vx_ret ?_)
  exact W.aret C.x C.b C.re hty hv (fun t ht hW => ⟨⟨_, h, rfl, hr, by rw [ht]; exact hp⟩, hs.F ht⟩) hs.2.2 d C.lk
theorem E.endL {Ret : Option Value → gH → Prop} {Thr : String → gH → Prop} {m9 : Nat} {v : Int64} (C : gC K own cc (some .long) lev mc hh) (N : gEnd K Ret Thr m9) (d : decode cc pc = .ok (.lreturn, 1)) (hk : k ≤ m9) (hr : Ret (some (.long v)) h) : E K pc l [.long v] h k := by
  intro H locs ls hp hs hl
  rw [N]
  refine W.widen hk (Nat.mul_le_mul_left 8 hk) (vx_ret ?_)
  exact W.lret C.x C.b C.re (fun t ht hW => ⟨⟨_, h, rfl, hr, by rw [ht]; exact hp⟩, hs.F ht⟩) hs.2.2 d C.lk
theorem E.endF {Ret : Option Value → gH → Prop} {Thr : String → gH → Prop} {m9 : Nat} {v : UInt32} (C : gC K own cc (some .float) lev mc hh) (N : gEnd K Ret Thr m9) (d : decode cc pc = .ok (.freturn, 1)) (hk : k ≤ m9) (hr : Ret (some (.float v)) h) : E K pc l [.float v] h k := by
  intro H locs ls hp hs hl
  rw [N]
  refine W.widen hk (Nat.mul_le_mul_left 8 hk) (vx_ret ?_)
  exact W.fret C.x C.b C.re (fun t ht hW => ⟨⟨_, h, rfl, hr, by rw [ht]; exact hp⟩, hs.F ht⟩) hs.2.2 d C.lk
theorem E.endD {Ret : Option Value → gH → Prop} {Thr : String → gH → Prop} {m9 : Nat} {v : UInt64} (C : gC K own cc (some .double) lev mc hh) (N : gEnd K Ret Thr m9) (d : decode cc pc = .ok (.dreturn, 1)) (hk : k ≤ m9) (hr : Ret (some (.double v)) h) : E K pc l [.double v] h k := by
  intro H locs ls hp hs hl
  rw [N]
  refine W.widen hk (Nat.mul_le_mul_left 8 hk) (vx_ret ?_)
  exact W.dret C.x C.b C.re (fun t ht hW => ⟨⟨_, h, rfl, hr, by rw [ht]; exact hp⟩, hs.F ht⟩) hs.2.2 d C.lk
/-- a throwable passes out of a method without handlers -/
theorem EX.out {Ret : Option Value → gH → Prop} {Thr : String → gH → Prop} {m9 : Nat} {X : String} (C : gC K own cc ret lev mc []) (N : gEnd K Ret Thr m9) (hk : k ≤ m9) (hr : Thr X h) : EX K pc X l st h k := by
  intro H locs ls q ce hp hs hl hq hv hcl
  rw [N]
  refine vx_widen hk (Nat.mul_le_mul_left 8 hk) ?_
  exact vx_out (by rw [C.et]; intro x hx; cases hx) C.lk hq hv hcl (fun t ht hal => ⟨⟨h, hr, by rw [ht]; exact hp⟩, hs.F ht⟩) hs.2.2 (Nat.le_refl _) (Nat.le_refl _)
end BASE
/-! ===== rows ===== -/
def lget (l : List (Nat × Value)) (i : Nat) : Option Value := match l with
  | [] => none
  | q :: l => bif Nat.beq q.1 i then some q.2 else lget l i
def lins (i : Nat) (v : Value) : List (Nat × Value) → List (Nat × Value)
  | [] => [(i, v)]
  | q :: l => bif Nat.blt i q.1 then (i, v) :: q :: l else q :: lins i v l
def ldel1 (i : Nat) : List (Nat × Value) → List (Nat × Value)
  | [] => []
  | q :: l => bif (!(Nat.beq q.1 i) && !(Nat.beq (q.1 + 1) i && Nat.beq q.2.category 2)) then q :: ldel1 i l else ldel1 i l
def ldel2 (i : Nat) : List (Nat × Value) → List (Nat × Value)
  | [] => []
  | q :: l => bif (!(Nat.beq q.1 i) && (!(Nat.beq q.1 (i + 1)) && !(Nat.beq (q.1 + 1) i && Nat.beq q.2.category 2))) then q :: ldel2 i l else ldel2 i l
/-- locals, kept in order, behind a store -/
def lset (l : List (Nat × Value)) (i : Nat) (v : Value) : List (Nat × Value) := lins i v (ldel1 i l)
def lset2 (l : List (Nat × Value)) (i : Nat) (v : Value) : List (Nat × Value) := lins i v (ldel2 i l)
theorem nbq (a b : Nat) : (a == b) = Nat.beq a b := by
  cases h : Nat.beq a b with
  | true => exact beq_iff_eq.mpr (Nat.eq_of_beq_eq_true h)
  | false => exact beq_eq_false_iff_ne.mpr (Nat.ne_of_beq_eq_false h)
theorem lget_mem {l : List (Nat × Value)} {i : Nat} {v : Value} (h : lget l i = some v) : (i, v) ∈ l := by
  induction l with
  | nil => cases h
  | cons q l ih =>
    unfold lget at h
    by_cases e : q.1 = i
    · rw [show Nat.beq q.1 i = true from by rw [e]; exact Nat.beq_refl i] at h
      simp only [cond_true, Option.some.injEq] at h
      rw [← e, ← h]
      exact List.mem_cons_self
    · rw [show Nat.beq q.1 i = false from by rw [← nbq]; exact beq_eq_false_iff_ne.mpr e] at h
      exact List.mem_cons_of_mem _ (ih h)
theorem lins_mem {i : Nat} {v : Value} {l : List (Nat × Value)} {q : Nat × Value} (h : q ∈ lins i v l) : q = (i, v) ∨ q ∈ l := by
  induction l with
  | nil => exact Or.inl (List.mem_singleton.mp h)
  | cons r l ih =>
    unfold lins at h
    cases hb : Nat.blt i r.1 with
    | true =>
      rw [hb] at h
      rcases List.mem_cons.mp h with e | e
      · exact Or.inl e
      · exact Or.inr e
    | false =>
      rw [hb] at h
      rcases List.mem_cons.mp h with e | e
      · exact Or.inr (by rw [e]; exact List.mem_cons_self)
      · rcases ih e with e | e
        · exact Or.inl e
        · exact Or.inr (List.mem_cons_of_mem _ e)
theorem ldel1_mem {i : Nat} {l : List (Nat × Value)} {q : Nat × Value} (h : q ∈ ldel1 i l) : q ∈ l.filter (fun q => !(q.1 == i) && !(q.1 + 1 == i && q.2.category == 2)) := by
  induction l with
  | nil => exact h
  | cons r l ih =>
    unfold ldel1 at h
    rw [List.filter_cons]
    have e0 : (!(r.1 == i) && !(r.1 + 1 == i && r.2.category == 2)) = (!(Nat.beq r.1 i) && !(Nat.beq (r.1 + 1) i && Nat.beq r.2.category 2)) := by simp only [nbq]
    rw [e0]
    cases hb : (!(Nat.beq r.1 i) && !(Nat.beq (r.1 + 1) i && Nat.beq r.2.category 2)) with
    | true =>
      rw [hb] at h
      rw [if_pos rfl]
      rcases List.mem_cons.mp h with e | e
      · rw [e]; exact List.mem_cons_self
      · exact List.mem_cons_of_mem _ (ih e)
    | false =>
      rw [hb] at h
      rw [if_neg (by decide)]
      exact ih h
theorem ldel2_mem {i : Nat} {l : List (Nat × Value)} {q : Nat × Value} (h : q ∈ ldel2 i l) : q ∈ l.filter (fun q => !(q.1 == i) && (!(q.1 == i + 1) && !(q.1 + 1 == i && q.2.category == 2))) := by
  induction l with
  | nil => exact h
  | cons r l ih =>
    unfold ldel2 at h
    rw [List.filter_cons]
    have e0 : (!(r.1 == i) && (!(r.1 == i + 1) && !(r.1 + 1 == i && r.2.category == 2))) = (!(Nat.beq r.1 i) && (!(Nat.beq r.1 (i + 1)) && !(Nat.beq (r.1 + 1) i && Nat.beq r.2.category 2))) := by simp only [nbq]
    rw [e0]
    cases hb : (!(Nat.beq r.1 i) && (!(Nat.beq r.1 (i + 1)) && !(Nat.beq (r.1 + 1) i && Nat.beq r.2.category 2))) with
    | true =>
      rw [hb] at h
      rw [if_pos rfl]
      rcases List.mem_cons.mp h with e | e
      · rw [e]; exact List.mem_cons_self
      · exact List.mem_cons_of_mem _ (ih e)
    | false =>
      rw [hb] at h
      rw [if_neg (by decide)]
      exact ih h
theorem lset_has {ls : Array Slot} {n i : Nat} {v : Value} {l : List (Nat × Value)} (h : lv_has ls n ((i, v) :: l.filter (fun q => !(q.1 == i) && !(q.1 + 1 == i && q.2.category == 2)))) : lv_has ls n (lset l i v) := by
  refine ⟨h.1, h.2.1, fun q hq => h.2.2 q ?_⟩
  rcases lins_mem hq with e | e
  · rw [e]; exact List.mem_cons_self
  · exact List.mem_cons_of_mem _ (ldel1_mem e)
theorem lset2_has {ls : Array Slot} {n i : Nat} {v : Value} {l : List (Nat × Value)} (h : lv_has ls n ((i, v) :: l.filter (fun q => !(q.1 == i) && (!(q.1 == i + 1) && !(q.1 + 1 == i && q.2.category == 2))))) : lv_has ls n (lset2 l i v) := by
  refine ⟨h.1, h.2.1, fun q hq => h.2.2 q ?_⟩
  rcases lins_mem hq with e | e
  · rw [e]; exact List.mem_cons_self
  · exact List.mem_cons_of_mem _ (ldel2_mem e)
theorem lget_at {ls : Array Slot} {n i : Nat} {v : Value} {l : List (Nat × Value)} (hl : lv_has ls n l) (h : lget l i = some v) : ls[i]? = some (.val v) := hl.2.2 (i, v) (lget_mem h)
def isR : Value → Prop
  | .ref _ => True
  | .null => True
  | _ => False
theorem isR_rf (r : Option Nat) : isR (va_rf r) := by cases r <;> trivial
section ROWS
variable {K : gK} {own : String} {cc : ByteArray} {ret : Option FieldType} {lev mc : Nat} {hh : List (Nat × Nat × Nat × Nat)}
variable {pc k : Nat} {l : List (Nat × Value)} {st : List Value} {h : gH}
/-- a value gets a name -/
theorem E.nm {v : Value} (e : ∀ w : Value, w = v → E K pc l (w :: st) h k) : E K pc l (v :: st) h k := e v rfl
theorem E.nmi {v : Int32} (e : ∀ w : Int32, w = v → E K pc l (.int w :: st) h k) : E K pc l (.int v :: st) h k := e v rfl
theorem E.nml {v : Int64} (e : ∀ w : Int64, w = v → E K pc l (.long w :: st) h k) : E K pc l (.long v :: st) h k := e v rfl
/-- a value is put in another form -/
theorem E.ri {v w : Int32} (q : v = w) (e : E K pc l (.int w :: st) h k) : E K pc l (.int v :: st) h k := by rw [q]; exact e
theorem E.rv {v w : Value} (q : v = w) (e : E K pc l (w :: st) h k) : E K pc l (v :: st) h k := by rw [q]; exact e
theorem E.rl {v w : Int64} (q : v = w) (e : E K pc l (.long w :: st) h k) : E K pc l (.long v :: st) h k := by rw [q]; exact e
theorem E.iconst (C : gC K own cc ret lev mc hh) {n : Int} {v : Int32} (d : decode cc pc = .ok (.iconst n, 1)) (hv : Int32.ofInt n = v) (e : E K (pc + 1) l (.int v :: st) h k) : E K pc l (st) h k := fun H locs ls hp hs hl => lv_iconst C.x C.b d hv (e H locs ls hp hs hl)
theorem E.bipush (C : gC K own cc ret lev mc hh) {n : Int} {v : Int32} (d : decode cc pc = .ok (.bipush n, 2)) (hv : (Int8.ofInt n).toInt32 = v) (e : E K (pc + 2) l (.int v :: st) h k) : E K pc l (st) h k := fun H locs ls hp hs hl => lv_bipush C.x C.b d hv (e H locs ls hp hs hl)
theorem E.sipush (C : gC K own cc ret lev mc hh) {n : Int} {v : Int32} (d : decode cc pc = .ok (.sipush n, 3)) (hv : (Int16.ofInt n).toInt32 = v) (e : E K (pc + 3) l (.int v :: st) h k) : E K pc l (st) h k := fun H locs ls hp hs hl => lv_sipush C.x C.b d hv (e H locs ls hp hs hl)
theorem E.lconst (C : gC K own cc ret lev mc hh) {n : Fin 2} {v : Int64} (d : decode cc pc = .ok (.lconst n, 1)) (hv : Int64.ofNat (n : Nat) = v) (e : E K (pc + 1) l (.long v :: st) h k) : E K pc l (st) h k := fun H locs ls hp hs hl => lv_lconst C.x C.b d hv (e H locs ls hp hs hl)
theorem E.null (C : gC K own cc ret lev mc hh)  (d : decode cc pc = .ok (.aconst_null, 1))  (e : E K (pc + 1) l (.null :: st) h k) : E K pc l (st) h k := fun H locs ls hp hs hl => lv_null C.x C.b d (e H locs ls hp hs hl)
theorem E.fconst0 (C : gC K own cc ret lev mc hh)  (d : decode cc pc = .ok (.fconst 0, 1))  (e : E K (pc + 1) l (.float 0 :: st) h k) : E K pc l (st) h k := fun H locs ls hp hs hl => lv_fconst0 C.x C.b d (e H locs ls hp hs hl)
theorem E.dconst0 (C : gC K own cc ret lev mc hh)  (d : decode cc pc = .ok (.dconst 0, 1))  (e : E K (pc + 1) l (.double 0 :: st) h k) : E K pc l (st) h k := fun H locs ls hp hs hl => lv_dconst0 C.x C.b d (e H locs ls hp hs hl)
theorem E.iload_n (C : gC K own cc ret lev mc hh) {j : Fin 4} {x : Int32} (d : decode cc pc = .ok (.iload_n j, 1)) (hv : lget l (j : Nat) = some (.int x)) (e : E K (pc + 1) l (.int x :: st) h k) : E K pc l (st) h k := fun H locs ls hp hs hl => lv_iload_n C.x C.b d rfl (lget_at hl hv) (e H locs ls hp hs hl)
theorem E.iload (C : gC K own cc ret lev mc hh) {j : Nat} {x : Int32} (d : decode cc pc = .ok (.iload j, 2)) (hv : lget l j = some (.int x)) (e : E K (pc + 2) l (.int x :: st) h k) : E K pc l (st) h k := fun H locs ls hp hs hl => lv_iload C.x C.b d (lget_at hl hv) (e H locs ls hp hs hl)
theorem E.lload_n (C : gC K own cc ret lev mc hh) {j : Fin 4} {x : Int64} (d : decode cc pc = .ok (.lload_n j, 1)) (hv : lget l (j : Nat) = some (.long x)) (e : E K (pc + 1) l (.long x :: st) h k) : E K pc l (st) h k := fun H locs ls hp hs hl => lv_lload_n C.x C.b d rfl (lget_at hl hv) (e H locs ls hp hs hl)
theorem E.lload (C : gC K own cc ret lev mc hh) {j : Nat} {x : Int64} (d : decode cc pc = .ok (.lload j, 2)) (hv : lget l j = some (.long x)) (e : E K (pc + 2) l (.long x :: st) h k) : E K pc l (st) h k := fun H locs ls hp hs hl => lv_lload C.x C.b d (lget_at hl hv) (e H locs ls hp hs hl)
theorem E.fload_n (C : gC K own cc ret lev mc hh) {j : Fin 4} {x : UInt32} (d : decode cc pc = .ok (.fload_n j, 1)) (hv : lget l (j : Nat) = some (.float x)) (e : E K (pc + 1) l (.float x :: st) h k) : E K pc l (st) h k := fun H locs ls hp hs hl => lv_fload_n C.x C.b d rfl (lget_at hl hv) (e H locs ls hp hs hl)
theorem E.fload (C : gC K own cc ret lev mc hh) {j : Nat} {x : UInt32} (d : decode cc pc = .ok (.fload j, 2)) (hv : lget l j = some (.float x)) (e : E K (pc + 2) l (.float x :: st) h k) : E K pc l (st) h k := fun H locs ls hp hs hl => lv_fload C.x C.b d (lget_at hl hv) (e H locs ls hp hs hl)
theorem E.dload_n (C : gC K own cc ret lev mc hh) {j : Fin 4} {x : UInt64} (d : decode cc pc = .ok (.dload_n j, 1)) (hv : lget l (j : Nat) = some (.double x)) (e : E K (pc + 1) l (.double x :: st) h k) : E K pc l (st) h k := fun H locs ls hp hs hl => lv_dload_n C.x C.b d rfl (lget_at hl hv) (e H locs ls hp hs hl)
theorem E.dload (C : gC K own cc ret lev mc hh) {j : Nat} {x : UInt64} (d : decode cc pc = .ok (.dload j, 2)) (hv : lget l j = some (.double x)) (e : E K (pc + 2) l (.double x :: st) h k) : E K pc l (st) h k := fun H locs ls hp hs hl => lv_dload C.x C.b d (lget_at hl hv) (e H locs ls hp hs hl)
theorem E.aload_n (C : gC K own cc ret lev mc hh) {j : Fin 4} {x : Value} (d : decode cc pc = .ok (.aload_n j, 1)) (hv : lget l (j : Nat) = some x) (e : E K (pc + 1) l (x :: st) h k) (r : isR x := by first | trivial | exact isR_rf _ | assumption) : E K pc l st h k := fun H locs ls hp hs hl => by
  cases x <;> first | exact lv_aload_n C.x C.b d rfl (lget_at hl hv) (e H locs ls hp hs hl) | exact lv_aload_nN C.x C.b d rfl (lget_at hl hv) (e H locs ls hp hs hl) | exact absurd r (fun z => z)
theorem E.aload (C : gC K own cc ret lev mc hh) {j : Nat} {x : Value} (d : decode cc pc = .ok (.aload j, 2)) (hv : lget l j = some x) (e : E K (pc + 2) l (x :: st) h k) (r : isR x := by first | trivial | exact isR_rf _ | assumption) : E K pc l st h k := fun H locs ls hp hs hl => by
  cases x <;> first | exact lv_aload C.x C.b d (lget_at hl hv) (e H locs ls hp hs hl) | exact lv_aloadN C.x C.b d (lget_at hl hv) (e H locs ls hp hs hl) | exact absurd r (fun z => z)
theorem E.istore_n (C : gC K own cc ret lev mc hh) {j : Fin 4} {x : Int32} (d : decode cc pc = .ok (.istore_n j, 1)) (hj : (j : Nat) < kn K) (e : E K (pc + 1) (lset l (j : Nat) (.int x)) st h k) : E K pc l (.int x :: st) h k := fun H locs ls hp hs hl => lv_istore_n C.x C.b d rfl hl hj rfl (fun ls hl => e H locs ls hp hs (lset_has hl))
theorem E.istore (C : gC K own cc ret lev mc hh) {j : Nat} {x : Int32} (d : decode cc pc = .ok (.istore j, 2)) (hj : j < kn K) (e : E K (pc + 2) (lset l j (.int x)) st h k) : E K pc l (.int x :: st) h k := fun H locs ls hp hs hl => lv_istore C.x C.b d hl hj rfl (fun ls hl => e H locs ls hp hs (lset_has hl))
theorem E.fstore_n (C : gC K own cc ret lev mc hh) {j : Fin 4} {x : UInt32} (d : decode cc pc = .ok (.fstore_n j, 1)) (hj : (j : Nat) < kn K) (e : E K (pc + 1) (lset l (j : Nat) (.float x)) st h k) : E K pc l (.float x :: st) h k := fun H locs ls hp hs hl => lv_fstore_n C.x C.b d rfl hl hj rfl (fun ls hl => e H locs ls hp hs (lset_has hl))
theorem E.fstore (C : gC K own cc ret lev mc hh) {j : Nat} {x : UInt32} (d : decode cc pc = .ok (.fstore j, 2)) (hj : j < kn K) (e : E K (pc + 2) (lset l j (.float x)) st h k) : E K pc l (.float x :: st) h k := fun H locs ls hp hs hl => lv_fstore C.x C.b d hl hj rfl (fun ls hl => e H locs ls hp hs (lset_has hl))
theorem E.lstore_n (C : gC K own cc ret lev mc hh) {j : Fin 4} {x : Int64} (d : decode cc pc = .ok (.lstore_n j, 1)) (hj : (j : Nat) + 1 < kn K) (e : E K (pc + 1) (lset2 l (j : Nat) (.long x)) st h k) : E K pc l (.long x :: st) h k := fun H locs ls hp hs hl => lv_lstore_n C.x C.b d rfl hl hj rfl (fun ls hl => e H locs ls hp hs (lset2_has hl))
theorem E.lstore (C : gC K own cc ret lev mc hh) {j : Nat} {x : Int64} (d : decode cc pc = .ok (.lstore j, 2)) (hj : j + 1 < kn K) (e : E K (pc + 2) (lset2 l j (.long x)) st h k) : E K pc l (.long x :: st) h k := fun H locs ls hp hs hl => lv_lstore C.x C.b d hl hj rfl (fun ls hl => e H locs ls hp hs (lset2_has hl))
theorem E.dstore_n (C : gC K own cc ret lev mc hh) {j : Fin 4} {x : UInt64} (d : decode cc pc = .ok (.dstore_n j, 1)) (hj : (j : Nat) + 1 < kn K) (e : E K (pc + 1) (lset2 l (j : Nat) (.double x)) st h k) : E K pc l (.double x :: st) h k := fun H locs ls hp hs hl => lv_dstore_n C.x C.b d rfl hl hj rfl (fun ls hl => e H locs ls hp hs (lset2_has hl))
theorem E.dstore (C : gC K own cc ret lev mc hh) {j : Nat} {x : UInt64} (d : decode cc pc = .ok (.dstore j, 2)) (hj : j + 1 < kn K) (e : E K (pc + 2) (lset2 l j (.double x)) st h k) : E K pc l (.double x :: st) h k := fun H locs ls hp hs hl => lv_dstore C.x C.b d hl hj rfl (fun ls hl => e H locs ls hp hs (lset2_has hl))
theorem E.astore_n (C : gC K own cc ret lev mc hh) {j : Fin 4} {x : Value} (d : decode cc pc = .ok (.astore_n j, 1)) (hj : (j : Nat) < kn K) (e : E K (pc + 1) (lset l (j : Nat) x) st h k) (r : isR x := by first | trivial | exact isR_rf _ | assumption) : E K pc l (x :: st) h k := fun H locs ls hp hs hl => by
  cases x <;> first | exact lv_astore_n C.x C.b d rfl hl hj rfl (fun ls hl => e H locs ls hp hs (lset_has hl)) | exact lv_astore_nN C.x C.b d rfl hl hj rfl (fun ls hl => e H locs ls hp hs (lset_has hl)) | exact absurd r (fun z => z)
theorem E.astore (C : gC K own cc ret lev mc hh) {j : Nat} {x : Value} (d : decode cc pc = .ok (.astore j, 2)) (hj : j < kn K) (e : E K (pc + 2) (lset l j x) st h k) (r : isR x := by first | trivial | exact isR_rf _ | assumption) : E K pc l (x :: st) h k := fun H locs ls hp hs hl => by
  cases x <;> first | exact lv_astore C.x C.b d hl hj rfl (fun ls hl => e H locs ls hp hs (lset_has hl)) | exact lv_astoreN C.x C.b d hl hj rfl (fun ls hl => e H locs ls hp hs (lset_has hl)) | exact absurd r (fun z => z)
theorem lget_ix {l : List (Nat × Value)} {i : Nat} {v : Value} (h : lget l i = some v) : ∃ j : Nat, l[j]? = some (i, v) := by
  obtain ⟨j, hj⟩ := List.getElem?_of_mem (lget_mem h)
  exact ⟨j, hj⟩
theorem E.iinc (C : gC K own cc ret lev mc hh) {j : Nat} {n : Int} {x v : Int32} (d : decode cc pc = .ok (.iinc j n, 3)) (hv : lget l j = some (.int x)) (hn : Int32.ofInt n = v) (hj : j < kn K) (e : E K (pc + 3) (lset l j (.int (x + v))) st h k) : E K pc l st h k := fun H locs ls hp hs hl => by
  obtain ⟨i, hi⟩ := lget_ix hv
  exact lv_iinc C.x C.b d hl hi (by rw [hn]) hj rfl (fun ls hl => e H locs ls hp hs (lset_has hl))
theorem E.iincN (C : gC K own cc ret lev mc hh) {j i : Nat} (d : decode cc pc = .ok (.iinc j 1, 3)) (hv : lget l j = some (.int (nI i))) (hj : j < kn K) (e : E K (pc + 3) (lset l j (.int (nI (i + 1)))) st h k) : E K pc l st h k := E.iinc C d hv (v := 1) (by decide) hj (by rw [← nI_succ]; exact e)
theorem E.iadd (C : gC K own cc ret lev mc hh) {x y : Int32} (d : decode cc pc = .ok (.iadd, 1))  (e : E K (pc + 1) l (.int (x + y) :: st) h k) : E K pc l (.int y :: .int x :: st) h k := fun H locs ls hp hs hl => lv_iadd C.x C.b d (e H locs ls hp hs hl)
theorem E.isub (C : gC K own cc ret lev mc hh) {x y : Int32} (d : decode cc pc = .ok (.isub, 1))  (e : E K (pc + 1) l (.int (x - y) :: st) h k) : E K pc l (.int y :: .int x :: st) h k := fun H locs ls hp hs hl => lv_isub C.x C.b d (e H locs ls hp hs hl)
theorem E.imul (C : gC K own cc ret lev mc hh) {x y : Int32} (d : decode cc pc = .ok (.imul, 1))  (e : E K (pc + 1) l (.int (x * y) :: st) h k) : E K pc l (.int y :: .int x :: st) h k := fun H locs ls hp hs hl => lv_imul C.x C.b d (e H locs ls hp hs hl)
theorem E.iand (C : gC K own cc ret lev mc hh) {x y : Int32} (d : decode cc pc = .ok (.iand, 1))  (e : E K (pc + 1) l (.int (x &&& y) :: st) h k) : E K pc l (.int y :: .int x :: st) h k := fun H locs ls hp hs hl => lv_iand C.x C.b d (e H locs ls hp hs hl)
theorem E.ior (C : gC K own cc ret lev mc hh) {x y : Int32} (d : decode cc pc = .ok (.ior, 1))  (e : E K (pc + 1) l (.int (x ||| y) :: st) h k) : E K pc l (.int y :: .int x :: st) h k := fun H locs ls hp hs hl => lv_ior C.x C.b d (e H locs ls hp hs hl)
theorem E.ixor (C : gC K own cc ret lev mc hh) {x y : Int32} (d : decode cc pc = .ok (.ixor, 1))  (e : E K (pc + 1) l (.int (x ^^^ y) :: st) h k) : E K pc l (.int y :: .int x :: st) h k := fun H locs ls hp hs hl => lv_ixor C.x C.b d (e H locs ls hp hs hl)
theorem E.ladd (C : gC K own cc ret lev mc hh) {x y : Int64} (d : decode cc pc = .ok (.ladd, 1))  (e : E K (pc + 1) l (.long (x + y) :: st) h k) : E K pc l (.long y :: .long x :: st) h k := fun H locs ls hp hs hl => lv_ladd C.x C.b d (e H locs ls hp hs hl)
theorem E.lsub (C : gC K own cc ret lev mc hh) {x y : Int64} (d : decode cc pc = .ok (.lsub, 1))  (e : E K (pc + 1) l (.long (x - y) :: st) h k) : E K pc l (.long y :: .long x :: st) h k := fun H locs ls hp hs hl => lv_lsub C.x C.b d (e H locs ls hp hs hl)
theorem E.land (C : gC K own cc ret lev mc hh) {x y : Int64} (d : decode cc pc = .ok (.land, 1))  (e : E K (pc + 1) l (.long (x &&& y) :: st) h k) : E K pc l (.long y :: .long x :: st) h k := fun H locs ls hp hs hl => lv_land C.x C.b d (e H locs ls hp hs hl)
theorem E.lor (C : gC K own cc ret lev mc hh) {x y : Int64} (d : decode cc pc = .ok (.lor, 1))  (e : E K (pc + 1) l (.long (x ||| y) :: st) h k) : E K pc l (.long y :: .long x :: st) h k := fun H locs ls hp hs hl => lv_lor C.x C.b d (e H locs ls hp hs hl)
theorem E.lxor (C : gC K own cc ret lev mc hh) {x y : Int64} (d : decode cc pc = .ok (.lxor, 1))  (e : E K (pc + 1) l (.long (x ^^^ y) :: st) h k) : E K pc l (.long y :: .long x :: st) h k := fun H locs ls hp hs hl => lv_lxor C.x C.b d (e H locs ls hp hs hl)
theorem E.idiv (C : gC K own cc ret lev mc hh) {x y : Int32} (d : decode cc pc = .ok (.idiv, 1)) (hne : ¬ y = 0) (e : E K (pc + 1) l (.int (x / y) :: st) h k) : E K pc l (.int y :: .int x :: st) h k := fun H locs ls hp hs hl => lv_idiv C.x C.b d hne (e H locs ls hp hs hl)
theorem E.irem (C : gC K own cc ret lev mc hh) {x y : Int32} (d : decode cc pc = .ok (.irem, 1)) (hne : ¬ y = 0) (e : E K (pc + 1) l (.int (x - x / y * y) :: st) h k) : E K pc l (.int y :: .int x :: st) h k := fun H locs ls hp hs hl => lv_irem C.x C.b d hne (e H locs ls hp hs hl)
theorem E.ineg (C : gC K own cc ret lev mc hh) {x : Int32} (d : decode cc pc = .ok (.ineg, 1))  (e : E K (pc + 1) l (.int (-x) :: st) h k) : E K pc l (.int x :: st) h k := fun H locs ls hp hs hl => lv_ineg C.x C.b d (e H locs ls hp hs hl)
theorem E.ishl (C : gC K own cc ret lev mc hh) {x y : Int32} (d : decode cc pc = .ok (.ishl, 1))  (e : E K (pc + 1) l (.int (x <<< (y &&& 31)) :: st) h k) : E K pc l (.int y :: .int x :: st) h k := fun H locs ls hp hs hl => lv_ishl C.x C.b d (e H locs ls hp hs hl)
theorem E.ishr (C : gC K own cc ret lev mc hh) {x y : Int32} (d : decode cc pc = .ok (.ishr, 1))  (e : E K (pc + 1) l (.int (x >>> (y &&& 31)) :: st) h k) : E K pc l (.int y :: .int x :: st) h k := fun H locs ls hp hs hl => lv_ishr C.x C.b d (e H locs ls hp hs hl)
theorem E.iushr (C : gC K own cc ret lev mc hh) {x y : Int32} (d : decode cc pc = .ok (.iushr, 1))  (e : E K (pc + 1) l (.int (x.toUInt32 >>> (y.toUInt32 &&& Int32.toUInt32 31)).toInt32 :: st) h k) : E K pc l (.int y :: .int x :: st) h k := fun H locs ls hp hs hl => lv_iushr C.x C.b d rfl (e H locs ls hp hs hl)
theorem E.lshl (C : gC K own cc ret lev mc hh) {x : Int64} {y : Int32} (d : decode cc pc = .ok (.lshl, 1))  (e : E K (pc + 1) l (.long (x <<< (y.toInt64 &&& 63)) :: st) h k) : E K pc l (.int y :: .long x :: st) h k := fun H locs ls hp hs hl => lv_lshl C.x C.b d rfl (e H locs ls hp hs hl)
theorem E.i2l (C : gC K own cc ret lev mc hh) {x : Int32} (d : decode cc pc = .ok (.i2l, 1))  (e : E K (pc + 1) l (.long x.toInt64 :: st) h k) : E K pc l (.int x :: st) h k := fun H locs ls hp hs hl => lv_i2l C.x C.b d rfl (e H locs ls hp hs hl)
theorem E.l2i (C : gC K own cc ret lev mc hh) {x : Int64} (d : decode cc pc = .ok (.l2i, 1))  (e : E K (pc + 1) l (.int x.toInt32 :: st) h k) : E K pc l (.long x :: st) h k := fun H locs ls hp hs hl => lv_l2i C.x C.b d rfl (e H locs ls hp hs hl)
theorem E.i2b (C : gC K own cc ret lev mc hh) {x : Int32} (d : decode cc pc = .ok (.i2b, 1))  (e : E K (pc + 1) l (.int x.toInt8.toInt32 :: st) h k) : E K pc l (.int x :: st) h k := fun H locs ls hp hs hl => lv_i2b C.x C.b d rfl (e H locs ls hp hs hl)
theorem E.i2s (C : gC K own cc ret lev mc hh) {x : Int32} (d : decode cc pc = .ok (.i2s, 1))  (e : E K (pc + 1) l (.int x.toInt16.toInt32 :: st) h k) : E K pc l (.int x :: st) h k := fun H locs ls hp hs hl => lv_i2s C.x C.b d rfl (e H locs ls hp hs hl)
theorem E.i2c (C : gC K own cc ret lev mc hh) {x : Int32} (d : decode cc pc = .ok (.i2c, 1))  (e : E K (pc + 1) l (.int (x.toUInt32 % 65536).toInt32 :: st) h k) : E K pc l (.int x :: st) h k := fun H locs ls hp hs hl => lv_i2c C.x C.b d rfl (e H locs ls hp hs hl)
theorem E.i2f (C : gC K own cc ret lev mc hh) {x : Int32} (d : decode cc pc = .ok (.i2f, 1))  (e : E K (pc + 1) l (.float (FP.i2f x) :: st) h k) : E K pc l (.int x :: st) h k := fun H locs ls hp hs hl => lv_i2f C.x C.b d (e H locs ls hp hs hl)
theorem E.i2d (C : gC K own cc ret lev mc hh) {x : Int32} (d : decode cc pc = .ok (.i2d, 1))  (e : E K (pc + 1) l (.double (FP.i2d x) :: st) h k) : E K pc l (.int x :: st) h k := fun H locs ls hp hs hl => lv_i2d C.x C.b d (e H locs ls hp hs hl)
theorem E.f2d (C : gC K own cc ret lev mc hh) {x : UInt32} (d : decode cc pc = .ok (.f2d, 1)) (hne : vf_n64 (FP.f2d x)) (e : E K (pc + 1) l (.double (FP.f2d x) :: st) h k) : E K pc l (.float x :: st) h k := fun H locs ls hp hs hl => lv_f2d C.x C.b d hne (e H locs ls hp hs hl)
theorem E.fdiv (C : gC K own cc ret lev mc hh) {x y : UInt32} (d : decode cc pc = .ok (.fdiv, 1)) (hne : vf_n32 (FP.fdiv x y)) (e : E K (pc + 1) l (.float (FP.fdiv x y) :: st) h k) : E K pc l (.float y :: .float x :: st) h k := fun H locs ls hp hs hl => lv_fdiv C.x C.b d hne (e H locs ls hp hs hl)
theorem E.ddiv (C : gC K own cc ret lev mc hh) {x y : UInt64} (d : decode cc pc = .ok (.ddiv, 1)) (hne : vf_n64 (FP.ddiv x y)) (e : E K (pc + 1) l (.double (FP.ddiv x y) :: st) h k) : E K pc l (.double y :: .double x :: st) h k := fun H locs ls hp hs hl => lv_ddiv C.x C.b d hne (e H locs ls hp hs hl)
theorem E.lcmp (C : gC K own cc ret lev mc hh) {x y : Int64} (d : decode cc pc = .ok (.lcmp, 1))  (e : E K (pc + 1) l (.int (lg_cmp x y) :: st) h k) : E K pc l (.long y :: .long x :: st) h k := fun H locs ls hp hs hl => W.lcmp C.x C.b d (e H locs ls hp hs hl)
theorem E.fcmp (C : gC K own cc ret lev mc hh) {x y : UInt32} {op : CmpOp} (d : decode cc pc = .ok (.fcmp op, 1))  (e : E K (pc + 1) l (.int (Op.cmpValue (FP.fcmp x y) op) :: st) h k) : E K pc l (.float y :: .float x :: st) h k := fun H locs ls hp hs hl => lv_fcmp C.x C.b d (e H locs ls hp hs hl)
theorem E.dcmp (C : gC K own cc ret lev mc hh) {x y : UInt64} {op : CmpOp} (d : decode cc pc = .ok (.dcmp op, 1))  (e : E K (pc + 1) l (.int (Op.cmpValue (FP.dcmp x y) op) :: st) h k) : E K pc l (.double y :: .double x :: st) h k := fun H locs ls hp hs hl => lv_dcmp C.x C.b d (e H locs ls hp hs hl)
theorem E.dup (C : gC K own cc ret lev mc hh) {a : Value} (d : decode cc pc = .ok (.dup, 1)) (c1 : a.category = 1) (e : E K (pc + 1) l (a :: a :: st) h k) : E K pc l (a :: st) h k := fun H locs ls hp hs hl => lv_dup C.x C.b d c1 (e H locs ls hp hs hl)
theorem E.pop (C : gC K own cc ret lev mc hh) {a : Value} (d : decode cc pc = .ok (.pop, 1)) (c1 : a.category = 1) (e : E K (pc + 1) l (st) h k) : E K pc l (a :: st) h k := fun H locs ls hp hs hl => lv_pop C.x C.b d c1 (e H locs ls hp hs hl)
theorem E.dup_x1 (C : gC K own cc ret lev mc hh) {a b : Value} (d : decode cc pc = .ok (.dup_x1, 1)) (c1 : a.category = 1) (c2 : b.category = 1) (e : E K (pc + 1) l (a :: b :: a :: st) h k) : E K pc l (a :: b :: st) h k := fun H locs ls hp hs hl => lv_dup_x1 C.x C.b d c1 c2 (e H locs ls hp hs hl)
theorem E.dup2 (C : gC K own cc ret lev mc hh) {a b : Value} (d : decode cc pc = .ok (.dup2, 1)) (c1 : a.category = 1) (c2 : b.category = 1) (e : E K (pc + 1) l (a :: b :: a :: b :: st) h k) : E K pc l (a :: b :: st) h k := fun H locs ls hp hs hl => lv_dup2_11 C.x C.b d c1 c2 (e H locs ls hp hs hl)
theorem E.if_eq (C : gC K own cc ret lev mc hh) {x : Int32} {off : Int} {tgt : Nat} (d : decode cc pc = .ok (.ifCond .eq off, 3)) (ht : (pc : Int) + off = (tgt : Int)) (et : (x = 0) → E K tgt l st h k) (ef : ¬ (x = 0) → E K (pc + 3) l st h k) : E K pc l (.int x :: st) h k := fun H locs ls hp hs hl => lv_if_eq C.x C.b d ht (fun q => et q H locs ls hp hs hl) (fun q => ef q H locs ls hp hs hl)
theorem E.icmp_eq (C : gC K own cc ret lev mc hh) {x y : Int32} {off : Int} {tgt : Nat} (d : decode cc pc = .ok (.if_icmp .eq off, 3)) (ht : (pc : Int) + off = (tgt : Int)) (et : (x = y) → E K tgt l st h k) (ef : ¬ (x = y) → E K (pc + 3) l st h k) : E K pc l (.int y :: .int x :: st) h k := fun H locs ls hp hs hl => lv_icmp_eq C.x C.b d ht (fun q => et q H locs ls hp hs hl) (fun q => ef q H locs ls hp hs hl)
theorem E.if_ne (C : gC K own cc ret lev mc hh) {x : Int32} {off : Int} {tgt : Nat} (d : decode cc pc = .ok (.ifCond .ne off, 3)) (ht : (pc : Int) + off = (tgt : Int)) (et : ¬ (x = 0) → E K tgt l st h k) (ef : (x = 0) → E K (pc + 3) l st h k) : E K pc l (.int x :: st) h k := fun H locs ls hp hs hl => lv_if_ne C.x C.b d ht (fun q => et q H locs ls hp hs hl) (fun q => ef q H locs ls hp hs hl)
theorem E.icmp_ne (C : gC K own cc ret lev mc hh) {x y : Int32} {off : Int} {tgt : Nat} (d : decode cc pc = .ok (.if_icmp .ne off, 3)) (ht : (pc : Int) + off = (tgt : Int)) (et : ¬ (x = y) → E K tgt l st h k) (ef : (x = y) → E K (pc + 3) l st h k) : E K pc l (.int y :: .int x :: st) h k := fun H locs ls hp hs hl => lv_icmp_ne C.x C.b d ht (fun q => et q H locs ls hp hs hl) (fun q => ef q H locs ls hp hs hl)
theorem E.if_lt (C : gC K own cc ret lev mc hh) {x : Int32} {off : Int} {tgt : Nat} (d : decode cc pc = .ok (.ifCond .lt off, 3)) (ht : (pc : Int) + off = (tgt : Int)) (et : (x < 0) → E K tgt l st h k) (ef : ¬ (x < 0) → E K (pc + 3) l st h k) : E K pc l (.int x :: st) h k := fun H locs ls hp hs hl => lv_if_lt C.x C.b d ht (fun q => et q H locs ls hp hs hl) (fun q => ef q H locs ls hp hs hl)
theorem E.icmp_lt (C : gC K own cc ret lev mc hh) {x y : Int32} {off : Int} {tgt : Nat} (d : decode cc pc = .ok (.if_icmp .lt off, 3)) (ht : (pc : Int) + off = (tgt : Int)) (et : (x < y) → E K tgt l st h k) (ef : ¬ (x < y) → E K (pc + 3) l st h k) : E K pc l (.int y :: .int x :: st) h k := fun H locs ls hp hs hl => lv_icmp_lt C.x C.b d ht (fun q => et q H locs ls hp hs hl) (fun q => ef q H locs ls hp hs hl)
theorem E.if_ge (C : gC K own cc ret lev mc hh) {x : Int32} {off : Int} {tgt : Nat} (d : decode cc pc = .ok (.ifCond .ge off, 3)) (ht : (pc : Int) + off = (tgt : Int)) (et : (0 ≤ x) → E K tgt l st h k) (ef : ¬ (0 ≤ x) → E K (pc + 3) l st h k) : E K pc l (.int x :: st) h k := fun H locs ls hp hs hl => lv_if_ge C.x C.b d ht (fun q => et q H locs ls hp hs hl) (fun q => ef q H locs ls hp hs hl)
theorem E.icmp_ge (C : gC K own cc ret lev mc hh) {x y : Int32} {off : Int} {tgt : Nat} (d : decode cc pc = .ok (.if_icmp .ge off, 3)) (ht : (pc : Int) + off = (tgt : Int)) (et : (y ≤ x) → E K tgt l st h k) (ef : ¬ (y ≤ x) → E K (pc + 3) l st h k) : E K pc l (.int y :: .int x :: st) h k := fun H locs ls hp hs hl => lv_icmp_ge C.x C.b d ht (fun q => et q H locs ls hp hs hl) (fun q => ef q H locs ls hp hs hl)
theorem E.if_gt (C : gC K own cc ret lev mc hh) {x : Int32} {off : Int} {tgt : Nat} (d : decode cc pc = .ok (.ifCond .gt off, 3)) (ht : (pc : Int) + off = (tgt : Int)) (et : (0 < x) → E K tgt l st h k) (ef : ¬ (0 < x) → E K (pc + 3) l st h k) : E K pc l (.int x :: st) h k := fun H locs ls hp hs hl => lv_if_gt C.x C.b d ht (fun q => et q H locs ls hp hs hl) (fun q => ef q H locs ls hp hs hl)
theorem E.icmp_gt (C : gC K own cc ret lev mc hh) {x y : Int32} {off : Int} {tgt : Nat} (d : decode cc pc = .ok (.if_icmp .gt off, 3)) (ht : (pc : Int) + off = (tgt : Int)) (et : (y < x) → E K tgt l st h k) (ef : ¬ (y < x) → E K (pc + 3) l st h k) : E K pc l (.int y :: .int x :: st) h k := fun H locs ls hp hs hl => lv_icmp_gt C.x C.b d ht (fun q => et q H locs ls hp hs hl) (fun q => ef q H locs ls hp hs hl)
theorem E.if_le (C : gC K own cc ret lev mc hh) {x : Int32} {off : Int} {tgt : Nat} (d : decode cc pc = .ok (.ifCond .le off, 3)) (ht : (pc : Int) + off = (tgt : Int)) (et : (x ≤ 0) → E K tgt l st h k) (ef : ¬ (x ≤ 0) → E K (pc + 3) l st h k) : E K pc l (.int x :: st) h k := fun H locs ls hp hs hl => lv_if_le C.x C.b d ht (fun q => et q H locs ls hp hs hl) (fun q => ef q H locs ls hp hs hl)
theorem E.icmp_le (C : gC K own cc ret lev mc hh) {x y : Int32} {off : Int} {tgt : Nat} (d : decode cc pc = .ok (.if_icmp .le off, 3)) (ht : (pc : Int) + off = (tgt : Int)) (et : (x ≤ y) → E K tgt l st h k) (ef : ¬ (x ≤ y) → E K (pc + 3) l st h k) : E K pc l (.int y :: .int x :: st) h k := fun H locs ls hp hs hl => lv_icmp_le C.x C.b d ht (fun q => et q H locs ls hp hs hl) (fun q => ef q H locs ls hp hs hl)
theorem E.goto (C : gC K own cc ret lev mc hh) {off : Int} {tgt : Nat} (d : decode cc pc = .ok (.goto off, 3)) (ht : (pc : Int) + off = (tgt : Int)) (e : E K tgt l st h k) : E K pc l st h k := fun H locs ls hp hs hl => lv_goto C.x C.b d ht (e H locs ls hp hs hl)
theorem E.ifnull (C : gC K own cc ret lev mc hh) {r : Option Nat} {off : Int} {tgt : Nat} (d : decode cc pc = .ok (.ifnull off, 3)) (ht : (pc : Int) + off = (tgt : Int)) (et : r = none → E K tgt l st h k) (ef : ∀ a, r = some a → E K (pc + 3) l st h k) : E K pc l (va_rf r :: st) h k := fun H locs ls hp hs hl => by
  cases r with
  | none => exact lv_ifnullN C.x C.b d ht (et rfl H locs ls hp hs hl)
  | some a => exact lv_ifnull C.x C.b d (ef a rfl H locs ls hp hs hl)
theorem E.ifnonnull (C : gC K own cc ret lev mc hh) {r : Option Nat} {off : Int} {tgt : Nat} (d : decode cc pc = .ok (.ifnonnull off, 3)) (ht : (pc : Int) + off = (tgt : Int)) (et : ∀ a, r = some a → E K tgt l st h k) (ef : r = none → E K (pc + 3) l st h k) : E K pc l (va_rf r :: st) h k := fun H locs ls hp hs hl => by
  cases r with
  | none => exact lv_ifnonnullN C.x C.b d (ef rfl H locs ls hp hs hl)
  | some a => exact lv_ifnonnull C.x C.b d ht (et a rfl H locs ls hp hs hl)
theorem E.ifnull0 (C : gC K own cc ret lev mc hh) {off : Int} {tgt : Nat} (d : decode cc pc = .ok (.ifnull off, 3)) (ht : (pc : Int) + off = (tgt : Int)) (e : E K tgt l st h k) : E K pc l (.null :: st) h k := E.ifnull (r := none) C d ht (fun _ => e) (fun _ q => by cases q)
theorem E.ifnull1 (C : gC K own cc ret lev mc hh) {a : Nat} {off : Int} (d : decode cc pc = .ok (.ifnull off, 3)) (e : E K (pc + 3) l st h k) : E K pc l (.ref a :: st) h k := fun H locs ls hp hs hl => lv_ifnull C.x C.b d (e H locs ls hp hs hl)
theorem E.ifnonnull1 (C : gC K own cc ret lev mc hh) {a : Nat} {off : Int} {tgt : Nat} (d : decode cc pc = .ok (.ifnonnull off, 3)) (ht : (pc : Int) + off = (tgt : Int)) (e : E K tgt l st h k) : E K pc l (.ref a :: st) h k := E.ifnonnull (r := some a) C d ht (fun _ _ => e) (fun q => by cases q)
theorem E.ifnonnull0 (C : gC K own cc ret lev mc hh) {off : Int} (d : decode cc pc = .ok (.ifnonnull off, 3)) (e : E K (pc + 3) l st h k) : E K pc l (.null :: st) h k := fun H locs ls hp hs hl => lv_ifnonnullN C.x C.b d (e H locs ls hp hs hl)
theorem E.acmp_eq (C : gC K own cc ret lev mc hh) {x y : Option Nat} {off : Int} {tgt : Nat} (d : decode cc pc = .ok (.if_acmp .eq off, 3)) (ht : (pc : Int) + off = (tgt : Int)) (et : x = y → E K tgt l st h k) (ef : ¬ x = y → E K (pc + 3) l st h k) : E K pc l (va_rf y :: va_rf x :: st) h k := fun H locs ls hp hs hl => lv_acmp_eq C.x C.b d ht (fun q => et q H locs ls hp hs hl) (fun q => ef q H locs ls hp hs hl)
theorem E.acmp_ne (C : gC K own cc ret lev mc hh) {x y : Option Nat} {off : Int} {tgt : Nat} (d : decode cc pc = .ok (.if_acmp .ne off, 3)) (ht : (pc : Int) + off = (tgt : Int)) (et : ¬ x = y → E K tgt l st h k) (ef : x = y → E K (pc + 3) l st h k) : E K pc l (va_rf y :: va_rf x :: st) h k := fun H locs ls hp hs hl => lv_acmp_ne C.x C.b d ht (fun q => et q H locs ls hp hs hl) (fun q => ef q H locs ls hp hs hl)
theorem E.ldc (C : gC K own cc ret lev mc hh) {idx : Nat} {v : Int32} (d : decode cc pc = .ok (.ldc idx, 2)) (q : Jvm.Cond.constant own idx v ∈ lw_all) (e : E K (pc + 2) l (.int v :: st) h k) : E K pc l (st) h k := fun H locs ls hp hs hl => lv_ldc C.x C.b C.ow (C.ts _ q) d (e H locs ls hp hs hl)
theorem E.ldc2 (C : gC K own cc ret lev mc hh) {idx : Nat} {v : Int64} (d : decode cc pc = .ok (.ldc2_w idx, 3)) (q : Jvm.Cond.constantLong own idx v ∈ lw_all) (e : E K (pc + 3) l (.long v :: st) h k) : E K pc l (st) h k := fun H locs ls hp hs hl => lv_ldc2 C.x C.b C.ow (C.ts _ q) d (e H locs ls hp hs hl)
end ROWS
