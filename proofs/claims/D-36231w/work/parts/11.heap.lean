/-! ===== the heap's rows ===== -/
theorem gCl_in {ci : Nat} {q : vw_C} (h : gCl[ci]? = some q) : ∀ w ∈ u_ws q.1 q.2.1 q.2.2, w ∈ lw_all := by
  match ci, h with
  | 0, h => cases h; exact in_X1
  | 1, h => cases h; exact in_X2
  | 2, h => cases h; exact in_X3
  | 3, h => cases h; exact in_X4
  | 4, h => cases h; exact in_X5
  | 5, h => cases h; exact in_J2
  | 6, h => cases h; exact in_J33
  | 7, h => cases h; exact in_J19
  | 8, h => cases h; exact in_J32
  | 9, h => cases h; exact in_J29
  | 10, h => cases h; exact in_J34
  | 11, h => cases h; exact in_J36
  | 12, h => cases h; exact in_J38
  | 13, h => cases h; exact in_J8
  | 14, h => cases h; exact in_J17
  | n + 15, h => simp [gCl] at h
def gTyF : Nat → Nat → FieldType
  | 0 => tyX1
  | 1 => tyX2
  | 2 => tyX3
  | 3 => tyX4
  | 4 => tyX5
  | 5 => tyJ2
  | 6 => tyJ33
  | 7 => tyJ19
  | 8 => tyJ32
  | 9 => tyJ29
  | 10 => tyJ34
  | 11 => tyJ36
  | 12 => tyJ38
  | 13 => tyJ8
  | _ => tyJ17
theorem gCl_ty {ci : Nat} {q : vw_C} (h : gCl[ci]? = some q) : ∀ k, k < q.2.2 → parseFieldDescriptor (q.2.1 k).2.2.1 = some (gTyF ci k) := by
  match ci, h with
  | 0, h => cases h; exact tyX1_ok
  | 1, h => cases h; exact tyX2_ok
  | 2, h => cases h; exact tyX3_ok
  | 3, h => cases h; exact tyX4_ok
  | 4, h => cases h; exact tyX5_ok
  | 5, h => cases h; exact tyJ2_ok
  | 6, h => cases h; exact tyJ33_ok
  | 7, h => cases h; exact tyJ19_ok
  | 8, h => cases h; exact tyJ32_ok
  | 9, h => cases h; exact tyJ29_ok
  | 10, h => cases h; exact tyJ34_ok
  | 11, h => cases h; exact tyJ36_ok
  | 12, h => cases h; exact tyJ38_ok
  | 13, h => cases h; exact tyJ8_ok
  | 14, h => cases h; exact tyJ17_ok
  | n + 15, h => simp [gCl] at h
theorem gCl_nm {ci : Nat} {q : vw_C} (h : gCl[ci]? = some q) : ∀ a, a < q.2.2 → ∀ b, b < q.2.2 → a ≠ b → (q.2.1 a).2.1 ≠ (q.2.1 b).2.1 := by
  match ci, h with
  | 0, h => cases h; exact nmX1
  | 1, h => cases h; exact nmX2
  | 2, h => cases h; exact nmX3
  | 3, h => cases h; exact nmX4
  | 4, h => cases h; exact nmX5
  | 5, h => cases h; exact nmJ2
  | 6, h => cases h; exact nmJ33
  | 7, h => cases h; exact nmJ19
  | 8, h => cases h; exact nmJ32
  | 9, h => cases h; exact nmJ29
  | 10, h => cases h; exact nmJ34
  | 11, h => cases h; exact nmJ36
  | 12, h => cases h; exact nmJ38
  | 13, h => cases h; exact nmJ8
  | 14, h => cases h; exact nmJ17
  | n + 15, h => simp [gCl] at h
theorem gCl_lt {ci : Nat} {q : vw_C} (h : gCl[ci]? = some q) : ci < 50 := by
  have := (List.getElem?_eq_some_iff.mp h).1
  simp [gCl] at this
  omega
/-- a class's fields, as made -/
def gDef (ci N : Nat) : List Value := (List.range N).map (fun j => defaultValue (gTyF ci j))
theorem gDef_V {ci N j : Nat} (h : j < N) : defaultValue (gTyF ci j) = vp_V (gDef ci N) j := by
  unfold vp_V gDef
  rw [List.getD_eq_getElem?_getD, List.getElem?_map, List.getElem?_range h]
  rfl
/-- the receiver's class by its number -/
def gName : Nat → String
  | 0 => RX1
  | 1 => RX2
  | 2 => RX3
  | 3 => RX4
  | 4 => RX5
  | 5 => RJ2
  | 6 => RJ33
  | 7 => RJ19
  | 8 => RJ32
  | 9 => RJ29
  | 10 => RJ34
  | 11 => RJ36
  | 12 => RJ38
  | 13 => RJ8
  | 14 => RJ17
  | 50 => RJ17
  | _ => ""
def gRv (h : gH) (b : Nat) (C : String) : Prop := ∃ (t ci : Nat) (fs : List Value), h b = some (t, .inr (ci, fs)) ∧ gName ci = C ∧ (ci < 15 ∨ ci = 50)
theorem gRv.cell {G : gG} {h : gH} {b : Nat} {C : String} {s : State} {H : Heap} (r : gRv h b C) (hp : Hp G h H) (htb : Tb G s) : ∃ cell : Cell, H[b]? = some cell ∧ cell.vm.isStatics = false ∧ s.vm.findClass C = some cell.cls := by
  obtain ⟨t, ci, fs, hb, rfl, hci⟩ := r
  have g := (hp b t _ hb).2
  rcases hci with hci | rfl
  · obtain ⟨q, hq⟩ : ∃ q, gCl[ci]? = some q := ⟨gCl[ci]'(by simp [gCl]; omega), List.getElem?_eq_getElem _⟩
    obtain ⟨cell, h1, h2, h3⟩ := va_recv htb.1 (g.obj (gCl_lt hq)) hq (q0 := 0) rfl
    refine ⟨cell, h1, h2, ?_⟩
    rw [← h3]
    match ci, hq with
    | 0, hq => cases hq; rfl
    | 1, hq => cases hq; rfl
    | 2, hq => cases hq; rfl
    | 3, hq => cases hq; rfl
    | 4, hq => cases hq; rfl
    | 5, hq => cases hq; rfl
    | 6, hq => cases hq; rfl
    | 7, hq => cases hq; rfl
    | 8, hq => cases hq; rfl
    | 9, hq => cases hq; rfl
    | 10, hq => cases hq; rfl
    | 11, hq => cases hq; rfl
    | 12, hq => cases hq; rfl
    | 13, hq => cases hq; rfl
    | 14, hq => cases hq; rfl
    | n + 15, hq => simp [gCl] at hq
  · unfold gat at g
    dsimp only at g
    rw [if_neg (by decide)] at g
    obtain ⟨cell, h1, h2, h3, -, h4, h5⟩ := g
    have hfc := (htb.1.1 14 _ rfl).2.1
    exact ⟨cell, h1, h2, by rw [h4, htb.2.2.2.1.1]; exact hfc⟩
theorem va_RA.one {U : State} {a b : ClassId} {ty : FieldType} (h1 : va_RA U a ty) (h2 : va_RA U b ty) : a = b := by
  cases ty with
  | object C =>
    obtain ⟨_, _, _, _, _, e1⟩ := h1
    obtain ⟨_, _, _, _, _, e2⟩ := h2
    exact Option.some.inj (e1.symm.trans e2)
  | _ => exact Option.some.inj (Eq.trans (Eq.symm h1) h2)
section HROWS
variable {K : gK} {own : String} {cc : ByteArray} {ret : Option FieldType} {lev mc : Nat} {hh : List (Nat × Nat × Nat × Nat)}
variable {pc k : Nat} {l : List (Nat × Value)} {st : List Value} {h : gH}
theorem E.getf (C : gC K own cc ret lev mc hh) {a t ci idx : Nat} {fs : List Value} {q : vw_C} {v : Value} {ref : String} (d : decode cc pc = .ok (.getfield idx, 3)) (hh9 : h a = some (t, .inr (ci, fs))) (hc : gCl[ci]? = some q) (j : Nat) (w : Cond.fieldLink own idx ref (q.2.1 j).2.1 (q.2.1 j).2.2.1 ∈ lw_all) (hj : j < q.2.2) (hr : (q.2.1 j).1 = ref) (hv : fs[j]? = some v) (e : E K (pc + 3) l (v :: st) h k) : E K pc l (.ref a :: st) h k := fun H locs ls hp hs hl =>
  va_get C.x C.b C.ts (gCl_in hc) C.ow C.K9 ((hp a t _ hh9).2.obj (gCl_lt hc)) 0 rfl hc j hj (C.ts _ w) (by rw [hr]; exact fun _ z => z) hv d (e H locs ls hp hs hl)
theorem E.getfN (C : gC K own cc ret lev mc hh) {a t ci idx : Nat} {fs : List Value} {q : vw_C} {v : Value} {ref host : String} (d : decode cc pc = .ok (.getfield idx, 3)) (hh9 : h a = some (t, .inr (ci, fs))) (hc : gCl[ci]? = some q) (j : Nat) (w : Cond.fieldLinkNest own idx ref (q.2.1 j).2.1 (q.2.1 j).2.2.1 host ∈ gNw) (hj : j < q.2.2) (hr : (q.2.1 j).1 = ref) (hv : fs[j]? = some v) (e : E K (pc + 3) l (v :: st) h k) : E K pc l (.ref a :: st) h k := fun H locs ls hp hs hl =>
  va_getN C.x C.b C.ts (gCl_in hc) C.ow C.K9 ((hp a t _ hh9).2.obj (gCl_lt hc)) 0 rfl hc j hj (va_Nw.use rfl (C.nw w)) (by rw [hr]; exact fun _ z => z) hv d (e H locs ls hp hs hl)
theorem E.getfU (C : gC K own cc ret lev mc hh) {a t ci idx : Nat} {fs : List Value} {q : vw_C} {v : Value} {ref : String} (d : decode cc pc = .ok (.getfield idx, 3)) (hh9 : h a = some (t, .inr (ci, fs))) (hc : gCl[ci]? = some q) (j : Nat) (w : Cond.fieldLink own idx ref (q.2.1 j).2.1 (q.2.1 j).2.2.1 ∈ lw_all) (w2 : Cond.sameField ref (q.2.1 j).1 (q.2.1 j).2.1 (q.2.1 j).2.2.1 ∈ lw_all) (hj : j < q.2.2) (hv : fs[j]? = some v) (e : E K (pc + 3) l (v :: st) h k) : E K pc l (.ref a :: st) h k := fun H locs ls hp hs hl =>
  va_get C.x C.b C.ts (gCl_in hc) C.ow C.K9 ((hp a t _ hh9).2.obj (gCl_lt hc)) 0 rfl hc j hj (C.ts _ w) (fun x z => u_same (C.ts _ w2) x z) hv d (e H locs ls hp hs hl)
/-- a box's number -/
theorem E.getBox (C : gC K own cc ret lev mc hh) {a t idx : Nat} {v : Int32} (w : Cond.fieldLink own idx "java/lang/Integer" "value" "I" ∈ lw_all) (d : decode cc pc = .ok (.getfield idx, 3)) (hh9 : h a = some (t, .inr (50, [.int v]))) (e : E K (pc + 3) l (.int v :: st) h k) : E K pc l (.ref a :: st) h k := fun H locs ls hp hs hl => by
  have g := (hp a t _ hh9).2
  unfold gat at g
  dsimp only at g
  rw [if_neg (by decide)] at g
  obtain ⟨cell, h1, h2, h3, -, h4, h5⟩ := g
  obtain ⟨hS, hfc, kC, hkC, hkind⟩ := C.K9.1 14 _ rfl
  obtain ⟨cf, kf, fi, f, hi, hsl⟩ := hS 0 (by decide)
  have hx := C.tb.2.2.2.1
  refine W.getf C.x C.b C.ow (C.ts _ w) hi (u_facts hfc hkC (u_lays C.ts (gCl_in (ci := 14) rfl) (k := 0) (by decide)) hi).1 h1 h3 (v := .int v) ?_ rfl rfl d (e H locs ls hp hs hl)
  rw [hsl, ← hx.2]
  exact h5
theorem E.put (C : gC K own cc ret lev mc hh) {a t ci idx : Nat} {fs : List Value} {q : vw_C} {v : Value} {ref : String} (d : decode cc pc = .ok (.putfield idx, 3)) (hh9 : h a = some (t, .inr (ci, fs))) (ht : t ≠ 0) (hc : gCl[ci]? = some q) (j : Nat) (w : Cond.fieldLink own idx ref (q.2.1 j).2.1 (q.2.1 j).2.2.1 ∈ lw_all) (hj : j < q.2.2) (hr : (q.2.1 j).1 = ref) (hf : (q.2.1 j).2.2.2 = false) (hn : narrow (gTyF ci j) v = v) (hfit : fits (gTyF ci j) v = true) (hlen : j < fs.length) (e : E K (pc + 3) l st (gu h a (t, .inr (ci, fs.set j v))) k) : E K pc l (v :: .ref a :: st) h k := fun H locs ls hp hs hl => by
  have hz := (hp a t _ hh9).1 ht
  have hP := (hp a t _ hh9).2.obj (gCl_lt hc)
  have hap := va_apart (own := own) C.ts (gCl_in hc) (gTyF ci) (gCl_ty hc) (gCl_nm hc) C.K9 hc
  obtain ⟨r, h1, cell, q1, q2, q3, q4⟩ := hP 0 _ rfl
  have hr9 : r = q := Option.some.inj (h1.symm.trans hc)
  subst hr9
  obtain ⟨hS, hfc, kC, hkC, hkind⟩ := C.K9.1 ci _ hc
  obtain ⟨cf, kf, fi, f, hi, hsl⟩ := hS j hj
  have hlay := C.ts _ (gCl_in hc _ (u_in_lay hj))
  unfold u_lay at hlay
  rw [if_neg (by rw [hf]; decide)] at hlay
  have hst := (u_facts hfc hkC (u_lays C.ts (gCl_in hc) hj) hi).1
  have h6 := u_store hfc hkC hkind hlay hi (gCl_ty hc j hj) hn hfit
  refine W.putK C.x C.b (f := f) ⟨C.ow, C.ts _ w, ⟨_, _, _, by rw [← hr]; exact hi⟩, hst⟩ (by rw [q2]; exact h6) q1 q3 (by rw [hsl]; exact k2_hasslot (q4 j hj)) rfl rfl d fun H' e1 e2 e3 => ?_
  rw [hsl] at e1 ⊢
  refine e H' _ ls (hp.set (fun _ => hz) (gat.ofP (fun o z => by cases z; exact gCl_lt hc) (fun k9 p9 hk9 => ?_)) e3) (hs.put e2 e3 hz) hl
  cases k9 with
  | zero => cases hk9; exact ⟨_, hc, t_OB.to (V := updV (vp_V fs) j v) ⟨_, e1, q2, q3, t_set q4 hap hj v⟩ (fun i _ => vp_updV_set hlen v i)⟩
  | succ k9 => simp at hk9
theorem E.putN (C : gC K own cc ret lev mc hh) {a t ci idx : Nat} {fs : List Value} {q : vw_C} {v : Value} {ref host : String} (d : decode cc pc = .ok (.putfield idx, 3)) (hh9 : h a = some (t, .inr (ci, fs))) (ht : t ≠ 0) (hc : gCl[ci]? = some q) (j : Nat) (w : Cond.fieldLinkNest own idx ref (q.2.1 j).2.1 (q.2.1 j).2.2.1 host ∈ gNw) (hj : j < q.2.2) (hr : (q.2.1 j).1 = ref) (hf : (q.2.1 j).2.2.2 = false) (hn : narrow (gTyF ci j) v = v) (hfit : fits (gTyF ci j) v = true) (hlen : j < fs.length) (e : E K (pc + 3) l st (gu h a (t, .inr (ci, fs.set j v))) k) : E K pc l (v :: .ref a :: st) h k := fun H locs ls hp hs hl => by
  have hz := (hp a t _ hh9).1 ht
  have hP := (hp a t _ hh9).2.obj (gCl_lt hc)
  have hap := va_apart (own := own) C.ts (gCl_in hc) (gTyF ci) (gCl_ty hc) (gCl_nm hc) C.K9 hc
  obtain ⟨r, h1, cell, q1, q2, q3, q4⟩ := hP 0 _ rfl
  have hr9 : r = q := Option.some.inj (h1.symm.trans hc)
  subst hr9
  obtain ⟨hS, hfc, kC, hkC, hkind⟩ := C.K9.1 ci _ hc
  obtain ⟨cf, kf, fi, f, hi, hsl⟩ := hS j hj
  have hlay := C.ts _ (gCl_in hc _ (u_in_lay hj))
  unfold u_lay at hlay
  rw [if_neg (by rw [hf]; decide)] at hlay
  have hst := (u_facts hfc hkC (u_lays C.ts (gCl_in hc) hj) hi).1
  have h6 := u_store hfc hkC hkind hlay hi (gCl_ty hc j hj) hn hfit
  refine va_WputK C.x C.b (f := f) C.ow (va_Nw.use rfl (C.nw w)) (by rw [← hr]; exact hi) hst (by rw [q2]; exact h6) q1 q3 (by rw [hsl]; exact k2_hasslot (q4 j hj)) rfl rfl d fun H' e1 e2 e3 => ?_
  rw [hsl] at e1 ⊢
  refine e H' _ ls (hp.set (fun _ => hz) (gat.ofP (fun o z => by cases z; exact gCl_lt hc) (fun k9 p9 hk9 => ?_)) e3) (hs.put e2 e3 hz) hl
  cases k9 with
  | zero => cases hk9; exact ⟨_, hc, t_OB.to (V := updV (vp_V fs) j v) ⟨_, e1, q2, q3, t_set q4 hap hj v⟩ (fun i _ => vp_updV_set hlen v i)⟩
  | succ k9 => simp at hk9
/-- a final field, in its constructor -/
theorem E.putF (C : gC K own cc ret lev mc hh) {a t ci idx : Nat} {fs : List Value} {q : vw_C} {v : Value} {ref : String} (d : decode cc pc = .ok (.putfield idx, 3)) (hh9 : h a = some (t, .inr (ci, fs))) (ht : t ≠ 0) (hc : gCl[ci]? = some q) (j : Nat) (w : Cond.fieldLink own idx ref (q.2.1 j).2.1 (q.2.1 j).2.2.1 ∈ lw_all) (hin : (kme K).name = "<init>") (hj : j < q.2.2) (hr : (q.2.1 j).1 = ref) (hr2 : (q.2.1 j).1 = own) (hf : (q.2.1 j).2.2.2 = true) (hn : narrow (gTyF ci j) v = v) (hfit : fits (gTyF ci j) v = true) (hlen : j < fs.length) (e : E K (pc + 3) l st (gu h a (t, .inr (ci, fs.set j v))) k) : E K pc l (v :: .ref a :: st) h k := fun H locs ls hp hs hl => by
  have hz := (hp a t _ hh9).1 ht
  have hP := (hp a t _ hh9).2.obj (gCl_lt hc)
  have hap := va_apart (own := own) C.ts (gCl_in hc) (gTyF ci) (gCl_ty hc) (gCl_nm hc) C.K9 hc
  obtain ⟨r, h1, cell, q1, q2, q3, q4⟩ := hP 0 _ rfl
  have hr9 : r = q := Option.some.inj (h1.symm.trans hc)
  subst hr9
  obtain ⟨hS, hfc, kC, hkC, hkind⟩ := C.K9.1 ci _ hc
  obtain ⟨cf, kf, fi, f, hi, hsl⟩ := hS j hj
  have hlay := C.ts _ (gCl_in hc _ (u_in_lay hj))
  unfold u_lay at hlay
  rw [if_pos hf] at hlay
  have hst := (u_facts hfc hkC (u_lays C.ts (gCl_in hc) hj) hi).1
  have hcf : (km K).cls = cf := by
    obtain ⟨_, _, c', _, _, _, -, -, hf', -, -, -, hown2, -⟩ := Cond.laysFinal_spec hlay
    have e1 : c' = cf := by have := hi.symm.trans hf'; simp at this; exact this.1.symm
    rw [hr2] at hown2
    rw [← e1]; exact Option.some.inj (C.ow.symm.trans hown2)
  have h6 := u_fits hfc hkC hkind (Or.inr hlay) hi (gCl_ty hc j hj) hn hfit
  refine W.putFinK C.x C.b C.ow (C.ts _ w) (by rw [← hr]; exact hi) hst hcf hin (by rw [q2]; exact h6) q1 q3 (by rw [hsl]; exact k2_hasslot (q4 j hj)) rfl rfl d fun H' e1 e2 e3 => ?_
  rw [hsl] at e1 ⊢
  refine e H' _ ls (hp.set (fun _ => hz) (gat.ofP (fun o z => by cases z; exact gCl_lt hc) (fun k9 p9 hk9 => ?_)) e3) (hs.put e2 e3 hz) hl
  cases k9 with
  | zero => cases hk9; exact ⟨_, hc, t_OB.to (V := updV (vp_V fs) j v) ⟨_, e1, q2, q3, t_set q4 hap hj v⟩ (fun i _ => vp_updV_set hlen v i)⟩
  | succ k9 => simp at hk9
theorem Hp.grow {G : gG} {h : gH} {H H1 : Heap} {t : Nat} {e : va_E} (q : Hp G h H) (hz : gz G ≤ H.size) (z1 : H1.size = H.size + 1) (o1 : ∀ a : Nat, a < H.size → H1[a]? = H[a]?) (g : gat G H.size e H1) : Hp G (gu h H.size (t, e)) H1 := by
  refine q.set (fun _ => hz) g (fun b hb => ?_)
  rcases Nat.lt_or_ge b H.size with hl | hl
  · exact o1 b hl
  · rw [Array.getElem?_eq_none (by omega), Array.getElem?_eq_none (by omega)]
theorem va_S.grow {A : Nat → Prop} {H0 H H1 : Heap} {locs : List Loc} (hS : va_S A H0 H locs) (z1 : H1.size = H.size + 1) (o1 : ∀ a : Nat, a < H.size → H1[a]? = H[a]?) : va_S A H0 H1 locs :=
  ⟨Nat.le_trans hS.1 (by omega), fun x h1 h2 => (o1 x (Nat.lt_of_lt_of_le h1 hS.1)).trans (hS.2.1 x h1 h2), hS.2.2⟩
/-- room for w more -/
theorem gC.room (C : gC K own cc ret lev mc hh) {w n : Nat} (hk : k + w ≤ mc) (hn : n ≤ 8 * w) (hw : 1 ≤ w) : k + 1 ≤ (kR K).cells ∧ 8 * k + n ≤ (kR K).slots := by
  have := C.rm
  omega
theorem E.new (C : gC K own cc ret lev mc hh) {ci idx w : Nat} (t : Nat) {q : vw_C} {fs : List Value} (d : decode cc pc = .ok (.new idx, 3)) (hc : gCl[ci]? = some q) (w1 : Cond.classLink own idx q.1 ∈ lw_all) (w2 : Cond.instantiable q.1 q.2.2 ∈ lw_all) (w3 : Cond.initialized q.1 ∈ lw_all) (hf : gDef ci q.2.2 = fs) (hw : 1 ≤ w) (hn : q.2.2 ≤ 8 * w) (hk : k + w ≤ mc)
    (e : ∀ a : Nat, h a = none → gz (kG K) ≤ a → E K (pc + 3) l (.ref a :: st) (gu h a (t, .inr (ci, fs))) (k + w)) : E K pc l st h k := fun H locs ls hp hs hl => by
  obtain ⟨r1, r2⟩ := C.room hk hn hw
  have hKn := C.K9.1 ci _ hc
  refine W.newcK C.x C.b C.ow (C.ts _ w1) (C.ts _ w2) (C.ts _ w3) rfl d r1 r2 hKn.2.1 rfl fun H1 kC hkC e1 z1 o1 => ?_
  have hz : gz (kG K) ≤ H.size := Nat.le_trans C.z hs.1
  refine W.widen (k := k + w) (n := 8 * (k + w)) (by omega) (by omega) ?_
  refine e H.size (hp.none (Nat.le_refl _)) hz H1 locs ls (hp.grow hz z1 o1 (gat.ofP (fun o z => by cases z; exact gCl_lt hc) (fun k9 p9 hk9 => ?_))) (hs.grow z1 o1) hl
  cases k9 with
  | zero =>
    cases hk9
    rw [← hf]
    exact ⟨_, hc, (u_born (gTyF ci) C.ts (gCl_in hc) hKn hkC e1 (gCl_ty hc)).to (fun i hi => gDef_V hi)⟩
  | succ k9 => simp at hk9
/-- an array of numbers, all 0 -/
theorem E.newa (C : gC K own cc ret lev mc hh) {at9 : ArrayType} {ty : FieldType} (t ti w : Nat) {cA : ClassId} {a0 : vp_A} {n : Int32} (harr : Cond.arrayClass (newarray.typeOf at9) ∈ lw_all) (hty : newarray.typeOf at9 = ty) (ht : (gTy (kG K))[ti]? = some (cA, ty)) (d : decode cc pc = .ok (.newarray at9, 2)) (ha : ∀ c9 : ClassId, vp_cell c9 a0 = arrV c9 a0.1 (fun _ => defaultValue ty)) (hn0 : ¬ n < 0) (hN : n.toNatClampNeg = a0.1) (hbytes : a0.1 * componentBytes ty ≤ 536870912) (hw : 1 ≤ w) (hn : a0.1 ≤ 8 * w) (hk : k + w ≤ mc)
    (e : ∀ a : Nat, h a = none → gz (kG K) ≤ a → E K (pc + 2) l (.ref a :: st) (gu h a (t, .inl (cA, a0))) (k + w)) : E K pc l (.int n :: st) h k := fun H locs ls hp hs hl => by
  subst hty
  obtain ⟨r1, r2⟩ := C.room hk hn hw
  have hz : gz (kG K) ≤ H.size := Nat.le_trans C.z hs.1
  refine va_newaK C.x C.b (C.ts _ harr) rfl d rfl hn0 hN hbytes r1 r2 rfl fun H1 c9 e1 z1 o1 hAr hfc => ?_
  have hcA : c9 = cA := va_RA.one (ty := newarray.typeOf at9) (by cases at9 <;> exact hfc) (C.K9.2 ti _ ht).2
  subst hcA
  refine W.widen (k := k + w) (n := 8 * (k + w)) (by omega) (by omega) ?_
  refine e H.size (hp.none (Nat.le_refl _)) hz H1 locs ls (hp.grow hz z1 o1 ?_) (hs.grow z1 o1) hl
  show H1[H.size]? = some (vp_cell c9 a0)
  rw [ha]
  exact e1
/-- an array of references, all null -/
theorem E.newq (C : gC K own cc ret lev mc hh) {idx N : Nat} (t w : Nat) {n : Int32} (w1 : Cond.classLink own idx "java/lang/Object" ∈ lw_all) (hao : va_AO "java/lang/Object" (ks K)) (d : decode cc pc = .ok (.anewarray idx, 3)) (hn0 : ¬ n < 0) (hN : n.toNatClampNeg = N) (hbytes : N * 4 ≤ 536870912) (hw : 1 ≤ w) (hn : N ≤ 8 * w) (hk : k + w ≤ mc)
    (e : ∀ a : Nat, h a = none → gz (kG K) ≤ a → E K (pc + 3) l (.ref a :: st) (gu h a (t, .inl (gci (kG K) 6, N, .inr (.inr (.inr (.inr (fun _ => none))))))) (k + w)) : E K pc l (.int n :: st) h k := fun H locs ls hp hs hl => by
  subst hN
  obtain ⟨r1, r2⟩ := C.room hk hn hw
  have hz : gz (kG K) ≤ H.size := Nat.le_trans C.z hs.1
  refine W.anew C.x C.b C.ow (C.ts _ w1) (va_AO.use hao) rfl d rfl hn0 hbytes r1 r2 fun cA kA comp f1 f2 f3 f4 => ?_
  generalize hH1 : H.push ({ cls := cA, slots := Array.replicate n.toNatClampNeg .null, vm := .none } : Cell) = H1
  have z1 : H1.size = H.size + 1 := by rw [← hH1, Array.size_push]
  have e1 : H1[H.size]? = some (arrV cA n.toNatClampNeg (fun _ => .null)) := by rw [← hH1, Array.getElem?_push_size, ← arrV_new]
  have o1 : ∀ q : Nat, q < H.size → H1[q]? = H[q]? := fun q hq => by rw [← hH1, Array.getElem?_push, if_neg (Nat.ne_of_lt hq)]
  have hcA : cA = gci (kG K) 6 := va_RA.one (ty := .object "java/lang/Object") ⟨kA, comp, f2, f3, f4, f1⟩ (C.K9.2 6 _ rfl).2
  refine W.widen (k := k + w) (n := 8 * (k + w)) (by omega) (by omega) ?_
  refine e H.size (hp.none (Nat.le_refl _)) hz H1 locs ls (hp.grow hz z1 o1 ?_) (hs.grow z1 o1) hl
  show H1[H.size]? = some (vp_cell _ _)
  rw [e1, vp_cell_q, hcA]
  rfl
theorem E.alen (C : gC K own cc ret lev mc hh) {a t ti : Nat} {cA : ClassId} {ty : FieldType} {x : vp_A} {v : Int32} (d : decode cc pc = .ok (.arraylength, 1)) (hh9 : h a = some (t, .inl (cA, x))) (ht : (gTy (kG K))[ti]? = some (cA, ty)) (hv : Int32.ofNat x.1 = v) (e : E K (pc + 1) l (.int v :: st) h k) : E K pc l (.ref a :: st) h k := fun H locs ls hp hs hl =>
  va_alen C.x C.b C.K9 ((hp a t _ hh9).2.arr) 0 ti rfl ht hv d (e H locs ls hp hs hl)
theorem gclamp {i : Int32} {n : Nat} (hin : vp_in i n) : i.toNatClampNeg < n := Nat.not_le.mp fun q => hin (Or.inr q)
theorem E.aald (C : gC K own cc ret lev mc hh) {a t n : Nat} {f : Nat → Option Nat} {i : Int32} {v : Value} (d : decode cc pc = .ok (.aaload, 1)) (hh9 : h a = some (t, .inl (gci (kG K) 6, n, .inr (.inr (.inr (.inr f)))))) (hin : vp_in i n) (hv : va_rf (f i.toNatClampNeg) = v) (e : E K (pc + 1) l (v :: st) h k) : E K pc l (.int i :: .ref a :: st) h k := fun H locs ls hp hs hl =>
  va_aldq C.x C.b C.K9 ((hp a t _ hh9).2.arr) 0 6 rfl rfl hin d (by rw [hv]; exact e H locs ls hp hs hl)
/-- a row of the grid of booleans -/
theorem E.aald7 (C : gC K own cc ret lev mc hh) {a t n : Nat} {f : Nat → Option Nat} {i : Int32} {v : Value} (d : decode cc pc = .ok (.aaload, 1)) (hh9 : h a = some (t, .inl (gci (kG K) 7, n, .inr (.inr (.inr (.inr f)))))) (hin : vp_in i n) (hv : va_rf (f i.toNatClampNeg) = v) (e : E K (pc + 1) l (v :: st) h k) : E K pc l (.int i :: .ref a :: st) h k := fun H locs ls hp hs hl =>
  W.aald (v := va_rf (f i.toNatClampNeg)) (ty := .array .boolean) C.x C.b ((hp a t _ hh9).2) ((C.K9.2 7 _ rfl).1 n (fun j => va_rf (f j))) rfl (fun q => by cases q) (by show ¬ (i < 0 ∨ (arrV _ _ _).slots.size ≤ _); rw [arrV_size]; exact hin) (by show (arrV _ _ _).slots[_]? = _; rw [arrV_read _ _ (gclamp hin)]) rfl rfl d (by rw [hv]; exact e H locs ls hp hs hl)
theorem E.aast (C : gC K own cc ret lev mc hh) {a t n v : Nat} {f : Nat → Option Nat} {i : Int32} {Cn : String} (d : decode cc pc = .ok (.aastore, 1)) (hh9 : h a = some (t, .inl (gci (kG K) 6, n, .inr (.inr (.inr (.inr f)))))) (ht : t ≠ 0) (hv : gRv h v Cn) (hca : Cond.castable Cn "java/lang/Object" ∈ gNw) (hin : vp_in i n) (e : E K (pc + 1) l st (gu h a (t, .inl (gci (kG K) 6, n, .inr (.inr (.inr (.inr (va_up f i.toNatClampNeg (some v)))))))) k) : E K pc l (.ref v :: .int i :: .ref a :: st) h k := fun H locs ls hp hs hl => by
  have hlt := gclamp hin
  have h0 : ¬ i < 0 := fun q => hin (Or.inl q)
  have hz := (hp a t _ hh9).1 ht
  obtain ⟨cellV, g1, g3, g2⟩ := hv.cell hp C.tb
  obtain ⟨kA, comp, k1, k2, k3, -⟩ := (C.K9.2 6 _ rfl).2
  obtain ⟨kE, hkE, -⟩ := Vm.findClass_spec k3
  obtain ⟨kC, hkC, -⟩ := Vm.findClass_spec g2
  refine W.aast C.x C.b (hp a t _ hh9).2 (fun q h => by cases h) (fun h => by cases h) k1 k2 rfl hkE ⟨h0, by show _ < (arrV _ _ _).slots.size; rw [arrV_size]; exact hlt⟩ g1 (fun q h => by rw [h] at g3; cases g3) hkC (vb_asgC (C.nw hca) _ _ k3 g2) rfl rfl d fun H1 e1 z oq => ?_
  refine e H1 _ ls (hp.set (fun _ => hz) ?_ oq) (hs.put z oq hz) hl
  show H1[a]? = some (vp_cell _ _)
  rw [e1]
  rw [vp_cell_q, vp_cell_q, arrV_store]
  congr 2
  funext q
  by_cases hq : q = i.toNatClampNeg
  · subst hq
    simp [updV, va_up, va_rf]
  · simp [updV, va_up, hq]
theorem E.iald (C : gC K own cc ret lev mc hh) {a t n : Nat} {f : Nat → Int32} {i : Int32} {v : Int32} (d : decode cc pc = .ok (.iaload, 1)) (hh9 : h a = some (t, .inl (gci (kG K) 0, n, .inl f))) (hin : vp_in i n) (hv : f i.toNatClampNeg = v) (e : E K (pc + 1) l (.int v :: st) h k) : E K pc l (.int i :: .ref a :: st) h k := fun H locs ls hp hs hl =>
  va_iald C.x C.b C.K9 ((hp a t _ hh9).2.arr) 0 0 rfl rfl hin d (by rw [hv]; exact e H locs ls hp hs hl)
theorem E.cald (C : gC K own cc ret lev mc hh) {a t n : Nat} {f : Nat → Int32} {i : Int32} {v : Int32} (d : decode cc pc = .ok (.caload, 1)) (hh9 : h a = some (t, .inl (gci (kG K) 1, n, .inl f))) (hin : vp_in i n) (hv : f i.toNatClampNeg = v) (e : E K (pc + 1) l (.int v :: st) h k) : E K pc l (.int i :: .ref a :: st) h k := fun H locs ls hp hs hl =>
  va_cald C.x C.b C.K9 ((hp a t _ hh9).2.arr) 0 1 rfl rfl hin d (by rw [hv]; exact e H locs ls hp hs hl)
theorem E.zald (C : gC K own cc ret lev mc hh) {a t n : Nat} {f : Nat → Int32} {i : Int32} {v : Int32} (d : decode cc pc = .ok (.baload, 1)) (hh9 : h a = some (t, .inl (gci (kG K) 2, n, .inl f))) (hin : vp_in i n) (hv : f i.toNatClampNeg = v) (e : E K (pc + 1) l (.int v :: st) h k) : E K pc l (.int i :: .ref a :: st) h k := fun H locs ls hp hs hl =>
  va_zald C.x C.b C.K9 ((hp a t _ hh9).2.arr) 0 2 rfl rfl hin d (by rw [hv]; exact e H locs ls hp hs hl)
theorem E.bald (C : gC K own cc ret lev mc hh) {a t n : Nat} {f : Nat → Int32} {i : Int32} {v : Int32} (d : decode cc pc = .ok (.baload, 1)) (hh9 : h a = some (t, .inl (gci (kG K) 3, n, .inl f))) (hin : vp_in i n) (hv : f i.toNatClampNeg = v) (e : E K (pc + 1) l (.int v :: st) h k) : E K pc l (.int i :: .ref a :: st) h k := fun H locs ls hp hs hl =>
  va_bald C.x C.b C.K9 ((hp a t _ hh9).2.arr) 0 3 rfl rfl hin d (by rw [hv]; exact e H locs ls hp hs hl)
theorem E.lald (C : gC K own cc ret lev mc hh) {a t n : Nat} {f : Nat → Int64} {i : Int32} {v : Int64} (d : decode cc pc = .ok (.laload, 1)) (hh9 : h a = some (t, .inl (gci (kG K) 4, n, .inr (.inl f)))) (hin : vp_in i n) (hv : f i.toNatClampNeg = v) (e : E K (pc + 1) l (.long v :: st) h k) : E K pc l (.int i :: .ref a :: st) h k := fun H locs ls hp hs hl =>
  va_lald C.x C.b C.K9 ((hp a t _ hh9).2.arr) 0 4 rfl rfl hin d (by rw [hv]; exact e H locs ls hp hs hl)
theorem E.dald (C : gC K own cc ret lev mc hh) {a t n : Nat} {f : Nat → UInt64} {i : Int32} {v : UInt64} (d : decode cc pc = .ok (.daload, 1)) (hh9 : h a = some (t, .inl (gci (kG K) 5, n, .inr (.inr (.inr (.inl f)))))) (hin : vp_in i n) (hv : f i.toNatClampNeg = v) (e : E K (pc + 1) l (.double v :: st) h k) : E K pc l (.int i :: .ref a :: st) h k := fun H locs ls hp hs hl =>
  va_dald C.x C.b C.K9 ((hp a t _ hh9).2.arr) 0 5 rfl rfl hin d (by rw [hv]; exact e H locs ls hp hs hl)
theorem E.iast (C : gC K own cc ret lev mc hh) {a t n : Nat} {f : Nat → Int32} {i : Int32} {x : Int32} (d : decode cc pc = .ok (.iastore, 1)) (hh9 : h a = some (t, .inl (gci (kG K) 0, n, .inl (f)))) (ht : t ≠ 0) (hin : vp_in i n) (e : E K (pc + 1) l st (gu h a (t, .inl (gci (kG K) 0, n, .inl (upd f i.toNatClampNeg x)))) k) : E K pc l (.int x :: .int i :: .ref a :: st) h k := fun H locs ls hp hs hl => by
  have hz := (hp a t _ hh9).1 ht
  refine W.iast C.x C.b (hp a t _ hh9).2 ((C.K9.2 0 _ rfl).1 n (fun j => .int (f j))) (fun q => by cases q) (by show ¬ (i < 0 ∨ (arrV _ _ _).slots.size ≤ _); rw [arrV_size]; exact hin) rfl rfl d fun H1 e1 z oq => ?_
  refine e H1 _ ls (hp.set (fun _ => hz) ?_ oq) (hs.put z oq hz) hl
  show H1[a]? = some (vp_cell _ _)
  rw [e1]
  rw [vp_cell_i, vp_cell_i, arrV_store]
  congr 2
  funext q
  by_cases hq : q = i.toNatClampNeg
  · subst hq
    simp [updV, upd]
  · simp [updV, upd, hq]
theorem E.cast (C : gC K own cc ret lev mc hh) {a t n : Nat} {f : Nat → Int32} {i : Int32} {x : Int32} (d : decode cc pc = .ok (.castore, 1)) (hh9 : h a = some (t, .inl (gci (kG K) 1, n, .inl (f)))) (ht : t ≠ 0) (hin : vp_in i n) (e : E K (pc + 1) l st (gu h a (t, .inl (gci (kG K) 1, n, .inl (upd f i.toNatClampNeg (vp_nar .char x))))) k) : E K pc l (.int x :: .int i :: .ref a :: st) h k := fun H locs ls hp hs hl => by
  have hz := (hp a t _ hh9).1 ht
  refine W.cast C.x C.b (hp a t _ hh9).2 ((C.K9.2 1 _ rfl).1 n (fun j => .int (f j))) (fun q => by cases q) (by show ¬ (i < 0 ∨ (arrV _ _ _).slots.size ≤ _); rw [arrV_size]; exact hin) rfl rfl d fun H1 e1 z oq => ?_
  refine e H1 _ ls (hp.set (fun _ => hz) ?_ oq) (hs.put z oq hz) hl
  show H1[a]? = some (vp_cell _ _)
  rw [e1]
  rw [vp_cell_i, vp_cell_i, arrV_store]
  congr 2
  funext q
  by_cases hq : q = i.toNatClampNeg
  · subst hq
    simp [updV, upd, vp_nar]
    try rfl
  · simp [updV, upd, hq]
theorem E.zast (C : gC K own cc ret lev mc hh) {a t n : Nat} {f : Nat → Int32} {i : Int32} {x : Int32} (d : decode cc pc = .ok (.bastore, 1)) (hh9 : h a = some (t, .inl (gci (kG K) 2, n, .inl (f)))) (ht : t ≠ 0) (hin : vp_in i n) (e : E K (pc + 1) l st (gu h a (t, .inl (gci (kG K) 2, n, .inl (upd f i.toNatClampNeg (vp_nar .boolean x))))) k) : E K pc l (.int x :: .int i :: .ref a :: st) h k := fun H locs ls hp hs hl => by
  have hz := (hp a t _ hh9).1 ht
  refine W.zast C.x C.b (hp a t _ hh9).2 ((C.K9.2 2 _ rfl).1 n (fun j => .int (f j))) (fun q => by cases q) (by show ¬ (i < 0 ∨ (arrV _ _ _).slots.size ≤ _); rw [arrV_size]; exact hin) rfl rfl d fun H1 e1 z oq => ?_
  refine e H1 _ ls (hp.set (fun _ => hz) ?_ oq) (hs.put z oq hz) hl
  show H1[a]? = some (vp_cell _ _)
  rw [e1]
  rw [vp_cell_i, vp_cell_i, arrV_store]
  congr 2
  funext q
  by_cases hq : q = i.toNatClampNeg
  · subst hq
    simp [updV, upd, vp_nar]
    try rfl
  · simp [updV, upd, hq]
theorem E.bast (C : gC K own cc ret lev mc hh) {a t n : Nat} {f : Nat → Int32} {i : Int32} {x : Int32} (d : decode cc pc = .ok (.bastore, 1)) (hh9 : h a = some (t, .inl (gci (kG K) 3, n, .inl (f)))) (ht : t ≠ 0) (hin : vp_in i n) (e : E K (pc + 1) l st (gu h a (t, .inl (gci (kG K) 3, n, .inl (upd f i.toNatClampNeg (vp_nar .byte x))))) k) : E K pc l (.int x :: .int i :: .ref a :: st) h k := fun H locs ls hp hs hl => by
  have hz := (hp a t _ hh9).1 ht
  refine W.bast C.x C.b (hp a t _ hh9).2 ((C.K9.2 3 _ rfl).1 n (fun j => .int (f j))) (fun q => by cases q) (by show ¬ (i < 0 ∨ (arrV _ _ _).slots.size ≤ _); rw [arrV_size]; exact hin) rfl rfl d fun H1 e1 z oq => ?_
  refine e H1 _ ls (hp.set (fun _ => hz) ?_ oq) (hs.put z oq hz) hl
  show H1[a]? = some (vp_cell _ _)
  rw [e1]
  rw [vp_cell_i, vp_cell_i, arrV_store]
  congr 2
  funext q
  by_cases hq : q = i.toNatClampNeg
  · subst hq
    simp [updV, upd, vp_nar]
    try rfl
  · simp [updV, upd, hq]
theorem E.last (C : gC K own cc ret lev mc hh) {a t n : Nat} {f : Nat → Int64} {i : Int32} {x : Int64} (d : decode cc pc = .ok (.lastore, 1)) (hh9 : h a = some (t, .inl (gci (kG K) 4, n, .inr (.inl (f))))) (ht : t ≠ 0) (hin : vp_in i n) (e : E K (pc + 1) l st (gu h a (t, .inl (gci (kG K) 4, n, .inr (.inl (vp_updL f i.toNatClampNeg x))))) k) : E K pc l (.long x :: .int i :: .ref a :: st) h k := fun H locs ls hp hs hl => by
  have hz := (hp a t _ hh9).1 ht
  refine W.last C.x C.b (hp a t _ hh9).2 ((C.K9.2 4 _ rfl).1 n (fun j => .long (f j))) (fun q => by cases q) (by show ¬ (i < 0 ∨ (arrV _ _ _).slots.size ≤ _); rw [arrV_size]; exact hin) rfl rfl d fun H1 e1 z oq => ?_
  refine e H1 _ ls (hp.set (fun _ => hz) ?_ oq) (hs.put z oq hz) hl
  show H1[a]? = some (vp_cell _ _)
  rw [e1]
  rw [vp_cell_l, vp_cell_l, arrV_store]
  congr 2
  funext q
  by_cases hq : q = i.toNatClampNeg
  · subst hq
    simp [updV, vp_updL]
  · simp [updV, vp_updL, hq]
theorem E.dast (C : gC K own cc ret lev mc hh) {a t n : Nat} {f : Nat → UInt64} {i : Int32} {x : UInt64} (d : decode cc pc = .ok (.dastore, 1)) (hh9 : h a = some (t, .inl (gci (kG K) 5, n, .inr (.inr (.inr (.inl (f))))))) (ht : t ≠ 0) (hin : vp_in i n) (e : E K (pc + 1) l st (gu h a (t, .inl (gci (kG K) 5, n, .inr (.inr (.inr (.inl (vf_upd f i.toNatClampNeg x))))))) k) : E K pc l (.double x :: .int i :: .ref a :: st) h k := fun H locs ls hp hs hl => by
  have hz := (hp a t _ hh9).1 ht
  refine W.dast C.x C.b (hp a t _ hh9).2 ((C.K9.2 5 _ rfl).1 n (fun j => .double (f j))) (fun q => by cases q) (by show ¬ (i < 0 ∨ (arrV _ _ _).slots.size ≤ _); rw [arrV_size]; exact hin) rfl rfl d fun H1 e1 z oq => ?_
  refine e H1 _ ls (hp.set (fun _ => hz) ?_ oq) (hs.put z oq hz) hl
  show H1[a]? = some (vp_cell _ _)
  rw [e1]
  rw [vp_cell_d, vp_cell_d, arrV_store]
  congr 2
  funext q
  by_cases hq : q = i.toNatClampNeg
  · subst hq
    simp [updV, vf_upd]
  · simp [updV, vf_upd, hq]
/-! ===== statics, casts, Object.<init> ===== -/
theorem E.gets (C : gC K own cc ret lev mc hh) {Cn n d9 ref : String} {v : Value} {idx : Nat} (hZ : va_Z Cn n d9 v (gA (kG K)) (ks K) (ks K).heap) (w : Cond.fieldLink own idx ref n d9 ∈ lw_all) (hr : Cn = ref) (d : decode cc pc = .ok (.getstatic idx, 3)) (e : E K (pc + 3) l (v :: st) h k) : E K pc l st h k := fun H locs ls hp hs hl =>
  va_gets C.x C.b hZ hs C.ow (C.ts _ w) (by rw [hr]; exact fun _ z => z) d (e H locs ls hp hs hl)
theorem E.castS (C : gC K own cc ret lev mc hh) {a idx : Nat} {nm : String} (w : Cond.classLink own idx nm ∈ lw_all) (hv : gRv h a nm) (d : decode cc pc = .ok (.checkcast idx, 3)) (e : E K (pc + 3) l (.ref a :: st) h k) : E K pc l (.ref a :: st) h k := fun H locs ls hp hs hl => by
  obtain ⟨t, ci, fs, hb, hn, hci⟩ := hv
  have hat : ∃ cC, ClassAt (ks K) nm cC := by
    rcases hci with hci | rfl
    · obtain ⟨q, hq⟩ : ∃ q, gCl[ci]? = some q := ⟨gCl[ci]'(by simp [gCl]; omega), List.getElem?_eq_getElem _⟩
      have hk9 := (C.K9.1 ci q hq).2
      refine ⟨(gD (kG K)).1 ci, ?_⟩
      rw [← hn]
      match ci, hq with
      | 0, hq => cases hq; exact hk9
      | 1, hq => cases hq; exact hk9
      | 2, hq => cases hq; exact hk9
      | 3, hq => cases hq; exact hk9
      | 4, hq => cases hq; exact hk9
      | 5, hq => cases hq; exact hk9
      | 6, hq => cases hq; exact hk9
      | 7, hq => cases hq; exact hk9
      | 8, hq => cases hq; exact hk9
      | 9, hq => cases hq; exact hk9
      | 10, hq => cases hq; exact hk9
      | 11, hq => cases hq; exact hk9
      | 12, hq => cases hq; exact hk9
      | 13, hq => cases hq; exact hk9
      | 14, hq => cases hq; exact hk9
      | n + 15, hq => simp [gCl] at hq
    · exact ⟨_, by rw [← hn]; exact (C.K9.1 14 _ rfl).2⟩
  obtain ⟨cC, hat⟩ := hat
  exact va_castS C.x C.b C.ow (C.ts _ w) hat (gRv.cell ⟨t, ci, fs, hb, hn, hci⟩ hp C.tb) d (e H locs ls hp hs hl)
theorem E.castY (C : gC K own cc ret lev mc hh) {a idx : Nat} {Cn nm : String} (w : Cond.classLink own idx nm ∈ lw_all) (w2 : Cond.castable Cn nm ∈ gNw) (hv : gRv h a Cn) (d : decode cc pc = .ok (.checkcast idx, 3)) (e : E K (pc + 3) l (.ref a :: st) h k) : E K pc l (.ref a :: st) h k := fun H locs ls hp hs hl =>
  va_castY C.x C.b C.ow (C.ts _ w) (C.nw w2) (hv.cell hp C.tb) d (e H locs ls hp hs hl)
theorem E.castN (C : gC K own cc ret lev mc hh) {idx : Nat} (d : decode cc pc = .ok (.checkcast idx, 3)) (e : E K (pc + 3) l (.null :: st) h k) : E K pc l (.null :: st) h k := fun H locs ls hp hs hl =>
  lv_castN C.x C.b d (e H locs ls hp hs hl)
theorem E.objInit (C : gC K own cc ret lev mc hh) {a idx : Nat} (w : Cond.methodLink own idx Lib.objectInit ∈ lw_all) (w2 : Cond.instanceMethod Lib.objectInit ∈ lw_all) (w3 : Cond.code Lib.objectInit ⟨#[0xb1]⟩ 1 none ∈ lw_all) (d : decode cc pc = .ok (.invokespecial idx, 3)) (hlev : 1 ≤ lev) (hst : (st.map fun v => v.category).sum ≤ 8) (e : E K (pc + 3) l st h k) : E K pc l (.ref a :: st) h k := fun H locs ls hp hs hl => by
  have hr := C.rm
  refine W.objInit C.x C.b C.ow (C.ts _ w) (C.ts _ w2) (C.ts _ w3) rfl (by rw [C.ml]; exact hl.1) rfl d (by omega) ?_ ?_
  · have := lv_room (m := km K) (pc := pc) (ls := ls) (rest := .ref a :: st) hst
    omega
  · exact e H locs ls hp hs hl
/-! ===== calls ===== -/
theorem Wd.blind {G : gG} {h : gH} {As : List Value} : FrameBlind (va_Pc As (Wd G h)) := by
  intro a U g mk ⟨q0, hp, htb, hsx, hz⟩
  have hal : (U).vm.Alike (U.calling g mk a).vm := Vm.Alike.refl U.vm
  exact ⟨q0, hp, htb.warm (State.WarmedH.refl U), hsx.moved hal, hz⟩
/-- what is at hand at a call -/
theorem Wd.at (C : gC K own cc ret lev mc hh) {H : Heap} {locs : List Loc} (hp : Hp (kG K) h H) (hs : va_S (gA (kG K)) (ks K).heap H locs) {U : State} (hU : U.heap = H) (hW : (ks K).WarmedH U.vm) : Wd (kG K) h U := by
  subst hU
  exact ⟨hp, C.tb.warm hW, (C.sx.kept hs.2.1).moved hW.alike, Nat.le_trans C.z hs.1⟩
theorem E.ofRun {H : Heap} {locs : List Loc} {ls : Array Slot} {rest st0 : List Value} {mc2 : Nat} {Ret : Option Value → gH → Prop} {Thr : String → gH → Prop} {a : Array Value}
    (hr : vx_Run (kp K) (kl K) (ke K) (kR K) (ks K) (km K) (ka K) (kb K) (kme K) (kc K) H locs k (8 * k) mc2 (8 * mc2) (F0 (km K) pc ls st0) rest (gQ (kG K) Ret a) (gXC (kG K) Thr) (gA (kG K))) (hs : va_S (gA (kG K)) (ks K).heap H locs) (hl : lv_has ls (kn K) l)
    (kx : ∀ X u, Thr X u → EX K pc X l rest u (k + mc2)) (kk : ∀ v u, Ret v u → E K (pc + 3) l (v.toList ++ rest) u (k + mc2)) :
    W (kp K) (kl K) (ke K) (kR K) (ks K) (km K) (ka K) (kb K) (kme K) (kc K) H locs k (8 * k) (kQ K) (F0 (km K) pc ls st0) := by
  intro T hT X
  rcases hr T hT X with ⟨v, st₀, t, T', L, h0, X', hL, e1, e2, ⟨⟨v', u, hv, hR, hHp⟩, hF⟩, st⟩ | ⟨q, st₀, t, T', L, E9, ce, h0, X', hL, e1, e2, ⟨⟨u, hTh, hHp⟩, hF⟩, hce, hcv, hcl, st⟩
  · cases hv
    obtain ⟨k1, k2, k3⟩ := vx_keep h0 e1 hs (fun _ _ z => z) (fun _ z => z) hL hF
    rw [← Nat.mul_add] at X'
    obtain ⟨t2, a1, b1⟩ := kk v u hR T'.heap (locs ++ L) ls (by rw [e1]; exact hHp) k3 hl T' rfl X'
    exact ⟨t2, st t2 a1, b1⟩
  · obtain ⟨k1, k2, k3⟩ := vx_keep h0 e1 hs (fun _ _ z => z) (fun _ z => z) hL hF
    rw [← Nat.mul_add] at X'
    obtain ⟨t2, a1, b1⟩ := kx E9 u hTh T'.heap (locs ++ L) ls q ce (by rw [e1]; exact hHp) k3 hl (by rw [e1]; exact hce) hcv hcl T' rfl X'
    exact ⟨t2, st.trans a1, b1⟩
theorem E.ofRun5 {H : Heap} {locs : List Loc} {ls : Array Slot} {rest st0 : List Value} {mc2 : Nat} {Ret : Option Value → gH → Prop} {Thr : String → gH → Prop} {a : Array Value}
    (hr : vx_Run5 (kp K) (kl K) (ke K) (kR K) (ks K) (km K) (ka K) (kb K) (kme K) (kc K) H locs k (8 * k) mc2 (8 * mc2) (F0 (km K) pc ls st0) rest (gQ (kG K) Ret a) (gXC (kG K) Thr) (gA (kG K))) (hs : va_S (gA (kG K)) (ks K).heap H locs) (hl : lv_has ls (kn K) l)
    (kx : ∀ X u, Thr X u → EX K pc X l rest u (k + mc2)) (kk : ∀ v u, Ret v u → E K (pc + 5) l (v.toList ++ rest) u (k + mc2)) :
    W (kp K) (kl K) (ke K) (kR K) (ks K) (km K) (ka K) (kb K) (kme K) (kc K) H locs k (8 * k) (kQ K) (F0 (km K) pc ls st0) := by
  intro T hT X
  rcases hr T hT X with ⟨v, st₀, t, T', L, h0, X', hL, e1, e2, ⟨⟨v', u, hv, hR, hHp⟩, hF⟩, st⟩ | ⟨q, st₀, t, T', L, E9, ce, h0, X', hL, e1, e2, ⟨⟨u, hTh, hHp⟩, hF⟩, hce, hcv, hcl, st⟩
  · cases hv
    obtain ⟨k1, k2, k3⟩ := vx_keep h0 e1 hs (fun _ _ z => z) (fun _ z => z) hL hF
    rw [← Nat.mul_add] at X'
    obtain ⟨t2, a1, b1⟩ := kk v u hR T'.heap (locs ++ L) ls (by rw [e1]; exact hHp) k3 hl T' rfl X'
    exact ⟨t2, st t2 a1, b1⟩
  · obtain ⟨k1, k2, k3⟩ := vx_keep h0 e1 hs (fun _ _ z => z) (fun _ z => z) hL hF
    rw [← Nat.mul_add] at X'
    obtain ⟨t2, a1, b1⟩ := kx E9 u hTh T'.heap (locs ++ L) ls q ce (by rw [e1]; exact hHp) k3 hl (by rw [e1]; exact hce) hcv hcl T' rfl X'
    exact ⟨t2, st.trans a1, b1⟩
abbrev gNoMH (y : MethodName) (n : Nat) : Prop := y.cls ≠ "java/lang/invoke/MethodHandle" ∧ y.cls ≠ "java/lang/invoke/VarHandle" ∧ (parseMethodDescriptor y.desc).map (fun d => d.parameters.length) = some n
theorem gC.fix (C : gC K own cc ret lev mc hh) : CallFix (kp K) (km K) (kc K) cc (kn K) (ks K) (ka K) lw_all own := ⟨C.x, C.b, C.ml, C.ow, C.ts⟩
theorem gC.lv (C : gC K own cc ret lev mc hh) {lev2 nL2 mc2 : Nat} (hlev : lev2 < lev) (hn : nL2 ≤ 45) : (grm lev2 mc2).frames + 1 ≤ (kR K).frames ∧ 8 + (nL2 + 11) + (grm lev2 mc2).locals ≤ (kR K).locals := by
  have := C.rm
  constructor
  · show lev2 + 1 ≤ _
    omega
  · show 8 + (nL2 + 11) + 64 * lev2 ≤ _
    omega
theorem gC.fits (C : gC K own cc ret lev mc hh) {mc2 : Nat} (hk : k + mc2 ≤ mc) : k + mc2 ≤ (kR K).cells ∧ 8 * k + 8 * mc2 ≤ (kR K).slots := by
  have := C.rm
  omega
section CALLS
variable {lev2 nL2 mc2 idx : Nat} {y : MethodName} {cc2 : ByteArray} {ret2 : Option FieldType} {As rest : List Value} {b : Nat} {Ret : Option Value → gH → Prop} {Thr : String → gH → Prop}
/-- invokevirtual: of a class's own method -/
theorem E.callV (C : gC K own cc ret lev mc hh) (M : gMet lev2 y cc2 nL2 ret2 (kG K) h (.ref b :: As) Ret Thr mc2) (d : decode cc pc = .ok (.invokevirtual idx, 3)) (w1 : Cond.methodLink own idx y ∈ lw_all) (w2 : Cond.instanceMethod y ∈ lw_all) (w3 : Cond.selects y.cls y y ∈ lw_all) (w4 : Cond.initialized y.cls ∈ lw_all) (w5 : Cond.code y cc2 nL2 ret2 ∈ lw_all)
    (hd : gNoMH y As.length) (hlev : lev2 < lev) (hn : nL2 ≤ 45) (hrv : gRv h b y.cls) (hst : As.reverse ++ .ref b :: rest = st) (hW : (rest.map fun v => v.category).sum ≤ 8) (hk : k + mc2 ≤ mc)
    (kx : ∀ X u, Thr X u → EX K pc X l rest u (k + mc2)) (kk : ∀ v u, Ret v u → E K (pc + 3) l (v.toList ++ rest) u (k + mc2)) : E K pc l st h k := fun H locs ls hp hs hl => by
  subst hst
  exact E.ofRun (vx_runV C.fix (M _ C.fl) (cwV As.length C.ts (lw_V w1 w2 w3 w4 w5) rfl rfl rfl ⟨rfl, hd⟩ (C.lv hlev hn)) ⟨Wd.blind, hrv.cell hp C.tb, fun U hU hW9 => ⟨rfl, Wd.at C hp hs hU hW9⟩⟩ rfl rfl hl.1 rfl (lv_room hW) d (C.fits hk)) hs hl kx kk
/-- invokestatic -/
theorem E.callS (C : gC K own cc ret lev mc hh) (M : gMet lev2 y cc2 nL2 ret2 (kG K) h As Ret Thr mc2) (d : decode cc pc = .ok (.invokestatic idx, 3)) (w1 : Cond.methodLink own idx y ∈ lw_all) (w2 : Cond.static y ∈ lw_all) (w4 : Cond.initialized y.cls ∈ lw_all) (w5 : Cond.code y cc2 nL2 ret2 ∈ lw_all)
    (hd : gNoMH y As.length) (hlev : lev2 < lev) (hn : nL2 ≤ 45) (hst : As.reverse ++ rest = st) (hW : (rest.map fun v => v.category).sum ≤ 8) (hk : k + mc2 ≤ mc)
    (kx : ∀ X u, Thr X u → EX K pc X l rest u (k + mc2)) (kk : ∀ v u, Ret v u → E K (pc + 3) l (v.toList ++ rest) u (k + mc2)) : E K pc l st h k := fun H locs ls hp hs hl => by
  subst hst
  exact E.ofRun (vx_runS C.fix (M _ C.fl) (va_cwS As.length C.ts (lw_S w1 w2 w4 w5) rfl rfl rfl hd (C.lv hlev hn)) ⟨Wd.blind, fun U hU hW9 => ⟨rfl, Wd.at C hp hs hU hW9⟩⟩ rfl rfl hl.1 rfl (lv_room hW) d (C.fits hk)) hs hl kx kk
/-- invokestatic of a method with handlers -/
theorem E.callSW (C : gC K own cc ret lev mc hh) {hh2 : List (Nat × Nat × Nat × Nat)} (M : gMetW lev2 y cc2 nL2 ret2 hh2 (kG K) h As Ret Thr mc2) (d : decode cc pc = .ok (.invokestatic idx, 3)) (w1 : Cond.methodLink own idx y ∈ lw_all) (w2 : Cond.static y ∈ lw_all) (w4 : Cond.initialized y.cls ∈ lw_all) (w5 : Cond.codeWith y cc2 nL2 ret2 hh2 ∈ lw_all)
    (hd : gNoMH y As.length) (hlev : lev2 < lev) (hn : nL2 ≤ 45) (hst : As.reverse ++ rest = st) (hW : (rest.map fun v => v.category).sum ≤ 8) (hk : k + mc2 ≤ mc)
    (kx : ∀ X u, Thr X u → EX K pc X l rest u (k + mc2)) (kk : ∀ v u, Ret v u → E K (pc + 3) l (v.toList ++ rest) u (k + mc2)) : E K pc l st h k := fun H locs ls hp hs hl => by
  subst hst
  exact E.ofRun (vx_runSX C.fix (M _ C.fl) (vx_cwSW As.length C.ts (lw_SW w1 w2 w4 w5) rfl rfl rfl hd (C.lv hlev hn)) ⟨Wd.blind, fun U hU hW9 => ⟨rfl, Wd.at C hp hs hU hW9⟩⟩ rfl rfl hl.1 rfl (lv_room hW) d (C.fits hk)) hs hl kx kk
/-- a constructor -/
theorem E.callI (C : gC K own cc ret lev mc hh) (M : gMet lev2 y cc2 nL2 none (kG K) h (.ref b :: As) Ret Thr mc2) (d : decode cc pc = .ok (.invokespecial idx, 3)) (w1 : Cond.methodLink own idx y ∈ lw_all) (w2 : Cond.instanceMethod y ∈ lw_all) (w4 : Cond.initialized y.cls ∈ lw_all) (w5 : Cond.code y cc2 nL2 none ∈ lw_all)
    (hd : gNoMH y As.length) (hy : y.name = "<init>") (hlev : lev2 < lev) (hn : nL2 ≤ 45) (hst : As.reverse ++ .ref b :: rest = st) (hW : (rest.map fun v => v.category).sum ≤ 8) (hk : k + mc2 ≤ mc)
    (kx : ∀ X u, Thr X u → EX K pc X l rest u (k + mc2)) (kk : ∀ v u, Ret v u → E K (pc + 3) l (v.toList ++ rest) u (k + mc2)) : E K pc l st h k := fun H locs ls hp hs hl => by
  subst hst
  exact E.ofRun (vx_runI C.fix (M _ C.fl) (cwI As.length C.ts (lw_meth w5) rfl rfl rfl (C.ts _ w4) (C.ts _ w1) (C.ts _ w2) hy hd (C.lv hlev hn)) ⟨Wd.blind, fun U hU hW9 => ⟨rfl, Wd.at C hp hs hU hW9⟩⟩ rfl rfl hl.1 rfl (lv_room hW) d (C.fits hk)) hs hl kx kk
/-- super.m(..) -/
theorem E.callSU (C : gC K own cc ret lev mc hh) {Cn : String} (M : gMet lev2 y cc2 nL2 ret2 (kG K) h (.ref b :: As) Ret Thr mc2) (d : decode cc pc = .ok (.invokespecial idx, 3)) (w1 : Cond.methodLink own idx y ∈ lw_all) (w2 : Cond.sameMethod y.cls y.cls y.name y.desc ∈ lw_all) (w3 : Cond.superclass own y.cls ∈ lw_all) (w6 : Cond.instanceMethod y ∈ lw_all) (w4 : Cond.initialized y.cls ∈ lw_all) (w5 : Cond.code y cc2 nL2 ret2 ∈ lw_all)
    (hd : y.name ≠ "<init>" ∧ (parseMethodDescriptor y.desc).map (fun d => d.parameters.length) = some As.length) (hlev : lev2 < lev) (hn : nL2 ≤ 45) (hrv : gRv h b Cn) (hst : As.reverse ++ .ref b :: rest = st) (hW : (rest.map fun v => v.category).sum ≤ 8) (hk : k + mc2 ≤ mc)
    (hat : ∃ cC, ClassAt (ks K) Cn cC)
    (kx : ∀ X u, Thr X u → EX K pc X l rest u (k + mc2)) (kk : ∀ v u, Ret v u → E K (pc + 3) l (v.toList ++ rest) u (k + mc2)) : E K pc l st h k := fun H locs ls hp hs hl => by
  subst hst
  obtain ⟨cC, hat⟩ := hat
  refine E.ofRun (vx_runSU hat C.fix (M _ C.fl) (va_cwSU As.length C.ts (lw_app (fun w hw => ?_) (lw_meth w5)) rfl rfl rfl hd (C.lv hlev hn)) ⟨Wd.blind, hrv.cell hp C.tb, fun U hU hW9 => ⟨rfl, Wd.at C hp hs hU hW9⟩⟩ rfl rfl hl.1 rfl (lv_room hW) d (C.fits hk)) hs hl kx kk
  simp only [List.mem_cons, List.not_mem_nil, or_false] at hw
  rcases hw with e | e | e | e | e
  · rw [e]; exact w1
  · rw [e]; exact w2
  · rw [e]; exact w3
  · rw [e]; exact w6
  · rw [e]; exact w4
/-- a call through an interface -/
theorem E.callF (C : gC K own cc ret lev mc hh) {x : MethodName} {Cn : String} {count : Nat} (M : gMet lev2 y cc2 nL2 ret2 (kG K) h (.ref b :: As) Ret Thr mc2) (d : decode cc pc = .ok (.invokeinterface idx count, 5)) (hF : (Cn, x, y) ∈ gFw) (w1 : Cond.methodLink own idx x ∈ lw_all) (w2 : Cond.selects Cn x y ∈ lw_all) (w3 : Cond.instanceMethod y ∈ lw_all) (w4 : Cond.initialized y.cls ∈ lw_all) (w5 : Cond.code y cc2 nL2 ret2 ∈ lw_all)
    (hd : gNoMH x As.length) (hlev : lev2 < lev) (hn : nL2 ≤ 45) (hrv : gRv h b Cn) (hst : As.reverse ++ .ref b :: rest = st) (hW : (rest.map fun v => v.category).sum ≤ 8) (hk : k + mc2 ≤ mc) (hat : ∃ cC, ClassAt (ks K) Cn cC)
    (kx : ∀ X u, Thr X u → EX K pc X l rest u (k + mc2)) (kk : ∀ v u, Ret v u → E K (pc + 5) l (v.toList ++ rest) u (k + mc2)) : E K pc l st h k := fun H locs ls hp hs hl => by
  subst hst
  obtain ⟨cC, hat⟩ := hat
  refine E.ofRun5 (vx_runF hat C.fix (M _ C.fl) (va_cwF As.length C.ts (lw_app (fun w hw => ?_) (lw_meth w5)) rfl rfl rfl (C.tb.2.2.1 _ hF) hd (C.lv hlev hn)) ⟨Wd.blind, hrv.cell hp C.tb, fun U hU hW9 => ⟨rfl, Wd.at C hp hs hU hW9⟩⟩ rfl rfl hl.1 rfl (lv_room hW) d (C.fits hk)) hs hl kx kk
  simp only [List.mem_cons, List.not_mem_nil, or_false] at hw
  rcases hw with e | e | e | e
  · rw [e]; exact w1
  · rw [e]; exact w2
  · rw [e]; exact w3
  · rw [e]; exact w4
/-- a class method's nest mate's static method -/
theorem E.callSN (C : gC K own cc ret lev mc hh) {host : String} (M : gMet lev2 y cc2 nL2 ret2 (kG K) h As Ret Thr mc2) (d : decode cc pc = .ok (.invokestatic idx, 3)) (w1 : Cond.methodLinkNest own idx y host ∈ gNw) (w2 : Cond.static y ∈ lw_all) (w4 : Cond.initialized y.cls ∈ lw_all) (w5 : Cond.code y cc2 nL2 ret2 ∈ lw_all)
    (hd : gNoMH y As.length) (hlev : lev2 < lev) (hn : nL2 ≤ 45) (hst : As.reverse ++ rest = st) (hW : (rest.map fun v => v.category).sum ≤ 8) (hk : k + mc2 ≤ mc)
    (kx : ∀ X u, Thr X u → EX K pc X l rest u (k + mc2)) (kk : ∀ v u, Ret v u → E K (pc + 3) l (v.toList ++ rest) u (k + mc2)) : E K pc l st h k := fun H locs ls hp hs hl => by
  subst hst
  exact E.ofRun (vx_runSN C.fix (M _ C.fl) ⟨va_cnB As.length C.ts (lw_meth w5) rfl rfl rfl (C.nw w1) (C.ts _ w4) hd (C.lv hlev hn), C.ts _ w2, trivial⟩ ⟨Wd.blind, fun U hU hW9 => ⟨rfl, Wd.at C hp hs hU hW9⟩⟩ rfl rfl hl.1 rfl (lv_room hW) d (C.fits hk)) hs hl kx kk
end CALLS
theorem gC.cat (C : gC K own cc ret lev mc hh) {ci : Nat} {q : vw_C} (hc : gCl[ci]? = some q) : ∃ cC, ClassAt (ks K) q.1 cC := ⟨_, (C.K9.1 ci q hc).2⟩
theorem gRv.of {h : gH} {b t ci : Nat} {fs : List Value} (hb : h b = some (t, .inr (ci, fs))) (hci : ci < 15) : gRv h b (gName ci) := ⟨t, ci, fs, hb, rfl, Or.inl hci⟩
theorem gRv.box {h : gH} {b t : Nat} {fs : List Value} (hb : h b = some (t, .inr (50, fs))) : gRv h b RJ17 := ⟨t, 50, fs, hb, rfl, Or.inr rfl⟩
theorem nar_rf (C : String) (r : Option Nat) : narrow (.object C) (va_rf r) = va_rf r := by cases r <;> rfl
theorem fit_rf (C : String) (r : Option Nat) : fits (.object C) (va_rf r) = true := by cases r <;> rfl
/-- new X(); throw -/
theorem E.throw0 {Ret : Option Value → gH → Prop} {Thr : String → gH → Prop} {m9 : Nat} (C : gC K own cc ret lev mc []) (N : gEnd K Ret Thr m9) (hm : m9 ≤ mc) {cls : String} {names : List String} {ik ic : Nat} (hcls : Bundle.fit cls = true) (hnames : ∀ n ∈ names, Bundle.fit n = true)
    (w1 : Cond.classLink own ik cls ∈ lw_all) (w2 : Cond.initialized cls ∈ lw_all) (hat : ∀ w ∈ vx_at0 own ic cls names, w ∈ lw_all ∨ w.before (ka K) (ks K) = true) (hgood : ∀ w ∈ Cond.classLink own ik cls :: Cond.initialized cls :: vx_at0 own ic cls names, vx_ot w = true)
    (d0 : decode cc pc = .ok (.new ik, 3)) (d3 : decode cc (pc + 3) = .ok (.dup, 1)) (d4 : decode cc (pc + 4) = .ok (.invokespecial ic, 3)) (d7 : decode cc (pc + 7) = .ok (.athrow, 1))
    (hlev : names.length + 3 < lev) (hst : (st.map fun v => v.category).sum ≤ 8) (hk : k + 1 ≤ m9) (hr : Thr cls h) (hst9 : (kl K).stackTraces = false) : E K pc l st h k := fun H locs ls hp hs hl => by
  have hrm := C.rm
  rw [N]
  refine vx_throw0 C.x C.b hst9 C.ow hcls hnames (C.ts _ w1) (C.ts _ w2) (fun w hw => (hat w hw).elim (C.ts w) id) hgood C.sx.2.2.2.2.2.2.2.2.1 C.sx.2.2.2.2.2.2.2.2.2 hs (by rw [C.ml]; exact hl.1) d0 d3 d4 d7 (by rw [C.et]; intro x hx; cases hx) (by omega) (by omega) (by omega) (by omega) C.lk ?_ hs.2.2 hk (by omega)
  intro t hal hsz hsame
  exact ⟨⟨h, hr, hp.kept hsame⟩, ⟨Nat.le_trans hs.1 hsz, fun q h1 h2 => (hsame q (Nat.lt_of_lt_of_le h1 hs.1)).trans (hs.2.1 q h1 h2)⟩⟩
end HROWS
