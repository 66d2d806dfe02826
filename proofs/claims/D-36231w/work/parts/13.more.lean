/-! more rows: inherited fields, boxes, the cache of Integers -/
abbrev gbox (v : Int32) : gE := (0, .inr (50, [.int v]))
/-- the cache's boxes are there -/
def gB (G : gG) (h : gH) : Prop := ∀ k : Nat, k < 256 → h (gad G k) = some (gbox (vb_c k))
theorem gB.mono {G : gG} {h h' : gH} (q : gB G h) (k : gle h h') : gB G h' := fun i hi => k _ _ (q i hi)
/-- cells of other tags stay -/
def gfr (t : Nat) (h u : gH) : Prop := ∀ (q : Nat) (x : gE), h q = some x → x.1 ≠ t → u q = some x
theorem gfr.rf {t : Nat} {h : gH} : gfr t h h := fun _ _ q _ => q
theorem gfr.tr {t : Nat} {h u v : gH} (a : gfr t h u) (b : gfr t u v) : gfr t h v := fun q x e n => b q x (a q x e n) n
theorem gfr.le {t : Nat} {h u : gH} (k : gle h u) : gfr t h u := fun q x e _ => k q x e
theorem gfr.up {t a : Nat} {h : gH} {x y : gE} (e : h a = some x) (n : x.1 = t) : gfr t h (gu h a y) := by
  intro q z k m
  by_cases c : q = a
  · rw [c, e] at k
    cases k
    exact absurd n m
  · rw [gu_n c]; exact k
theorem gfr.at {t : Nat} {h u : gH} (k : gfr t h u) {q : Nat} {x : gE} (e : h q = some x) (n : x.1 ≠ t) : u q = some x := k q x e n
theorem gB.fr {G : gG} {t : Nat} {h u : gH} (q : gB G h) (k : gfr t h u) (ht : t ≠ 0) : gB G u := fun i hi => k _ _ (q i hi) (fun e => ht e.symm)
theorem ne_of_none {h : gH} {a b : Nat} {x : gE} (ha : h a = none) (hb : h b = some x) : b ≠ a := fun e => by rw [e, ha] at hb; cases hb
theorem ne_of_some {h : gH} {a b : Nat} {x y : gE} (ha : h a = some x) (hb : h b = some y) (n : x ≠ y) : a ≠ b := fun e => by rw [e, hb] at ha; cases ha; exact n rfl
section MORE
variable {K : gK} {own : String} {cc : ByteArray} {ret : Option FieldType} {lev mc : Nat} {hh : List (Nat × Nat × Nat × Nat)}
variable {pc k : Nat} {l : List (Nat × Value)} {st : List Value} {h : gH}
theorem E.putU (C : gC K own cc ret lev mc hh) {a t ci idx : Nat} {fs : List Value} {q : vw_C} {v : Value} {ref : String} (d : decode cc pc = .ok (.putfield idx, 3)) (hh9 : h a = some (t, .inr (ci, fs))) (ht : t ≠ 0) (hc : gCl[ci]? = some q) (j : Nat) (w : Cond.fieldLink own idx ref (q.2.1 j).2.1 (q.2.1 j).2.2.1 ∈ lw_all) (w2 : Cond.sameField ref (q.2.1 j).1 (q.2.1 j).2.1 (q.2.1 j).2.2.1 ∈ lw_all) (hj : j < q.2.2) (hf : (q.2.1 j).2.2.2 = false) (hn : narrow (gTyF ci j) v = v) (hfit : fits (gTyF ci j) v = true) (hlen : j < fs.length) (e : E K (pc + 3) l st (gu h a (t, .inr (ci, fs.set j v))) k) : E K pc l (v :: .ref a :: st) h k := fun H locs ls hp hs hl => by
  have hz := (hp a t _ hh9).1 ht
  have hP := (hp a t _ hh9).2.obj (gCl_lt hc)
  have hap := va_apart (own := own) C.ts (gCl_in hc) (gTyF ci) (gCl_ty hc) (gCl_nm hc) C.K9 hc
  obtain ⟨r, h1, cell, q1, q2, q3, q4⟩ := hP 0 _ rfl
  have hr9 : r = q := Option.some.inj (h1.symm.trans hc)
  subst hr9
  obtain ⟨hS, hfc, kC, hkC, hkind⟩ := C.K9.1 ci _ hc
  obtain ⟨cf, kf, fi, f, hi, hsl⟩ := hS j hj
  have hlay := C.ts _ (gCl_in hc _ (u_in_lay hj))
  unfold u_lay at hlay
  rw [if_neg (by rw [hf]; decide)] at hlay
  have hst := (u_facts hfc hkC (u_lays C.ts (gCl_in hc) hj) hi).1
  have h6 := u_store hfc hkC hkind hlay hi (gCl_ty hc j hj) hn hfit
  refine W.putK C.x C.b (f := f) ⟨C.ow, C.ts _ w, ⟨_, _, _, u_same (C.ts _ w2) _ hi⟩, hst⟩ (by rw [q2]; exact h6) q1 q3 (by rw [hsl]; exact k2_hasslot (q4 j hj)) rfl rfl d fun H' e1 e2 e3 => ?_
  rw [hsl] at e1 ⊢
  refine e H' _ ls (hp.set (fun _ => hz) (gat.ofP (fun o z => by cases z; exact gCl_lt hc) (fun k9 p9 hk9 => ?_)) e3) (hs.put e2 e3 hz) hl
  cases k9 with
  | zero => cases hk9; exact ⟨_, hc, t_OB.to (V := updV (vp_V fs) j v) ⟨_, e1, q2, q3, t_set q4 hap hj v⟩ (fun i _ => vp_updV_set hlen v i)⟩
  | succ k9 => simp at hk9
/-- a made Integer is a box -/
theorem E.box (C : gC K own cc ret lev mc hh) {a t : Nat} {v : Int32} (hh9 : h a = some (t, .inr (14, [.int v]))) (ht : t ≠ 0) (e : E K pc l st (gu h a (gbox v)) k) : E K pc l st h k := fun H locs ls hp hs hl => by
  refine e H locs ls (hp.set (fun z => absurd rfl z) ?_ (fun _ _ => rfl)) hs hl
  obtain ⟨r, h1, cell, q1, q2, q3, q4⟩ := (hp a t _ hh9).2.obj (by decide) 0 _ rfl
  cases h1
  unfold gat
  dsimp only
  rw [if_neg (by decide)]
  have hx := C.tb.2.2.2.1
  refine ⟨cell, q1, (by rw [q3]; rfl), (by rw [q3]; intro z; cases z), (fun z => absurd z (by decide)), (hx.1 ▸ q2 : cell.cls = gxc (kG K) 0), ?_⟩
  show cell.slots[gxs (kG K) 0]? = _
  rw [hx.2]
  exact q4 0 (by decide)
/-- a place of the cache of Integers -/
theorem E.aaldC (C : gC K own cc ret lev mc hh) {t : Nat} {f : Nat → Value} {i : Int32} {v : Value} (hT : va_T (.object "java/lang/Integer") t 256 f (gA (kG K)) (ks K) (ks K).heap) (d : decode cc pc = .ok (.aaload, 1)) (hin : vp_in i 256) (hv : f i.toNatClampNeg = v) (e : E K (pc + 1) l (v :: st) h k) : E K pc l (.int i :: .ref t :: st) h k := fun H locs ls hp hs hl =>
  vb_tq C.x C.b hT hs hin hv d (e H locs ls hp hs hl)
/-- a method that the named class inherits, or that the receiver's class overrides -/
theorem E.callU (C : gC K own cc ret lev mc hh) {lev2 nL2 mc2 idx : Nat} {x y : MethodName} {owner Cn : String} {cc2 : ByteArray} {ret2 : Option FieldType} {As rest : List Value} {b : Nat} {Ret : Option Value → gH → Prop} {Thr : String → gH → Prop} (M : gMet lev2 y cc2 nL2 ret2 (kG K) h (.ref b :: As) Ret Thr mc2) (d : decode cc pc = .ok (.invokevirtual idx, 3)) (w1 : Cond.methodLink own idx x ∈ lw_all) (w2 : Cond.sameMethod x.cls owner x.name x.desc ∈ lw_all) (w3 : Cond.selects Cn x y ∈ lw_all) (w6 : Cond.instanceMethod y ∈ lw_all) (w4 : Cond.initialized y.cls ∈ lw_all) (w5 : Cond.code y cc2 nL2 ret2 ∈ lw_all) (hdecl : va_Decl (ks K) ⟨owner, x.name, x.desc⟩) (ho : owner ≠ "java/lang/invoke/MethodHandle" ∧ owner ≠ "java/lang/invoke/VarHandle")
    (hd : gNoMH x As.length) (hlev : lev2 < lev) (hn : nL2 ≤ 45) (hrv : gRv h b Cn) (hst : As.reverse ++ .ref b :: rest = st) (hW : (rest.map fun v => v.category).sum ≤ 8) (hk : k + mc2 ≤ mc)
    (kx : ∀ X u, Thr X u → EX K pc X l rest u (k + mc2)) (kk : ∀ v u, Ret v u → E K (pc + 3) l (v.toList ++ rest) u (k + mc2)) : E K pc l st h k := fun H locs ls hp hs hl => by
  subst hst
  have cu : va_CU (kR K) (ks K) (ka K) own Cn owner idx x y cc2 nL2 ret2 (ws_ y cc2 nL2 ret2) (grm lev2 mc2) mc2 (8 * mc2) As.length := by
    refine ⟨⟨rfl, rfl, (C.lv hlev hn).1, (C.lv hlev hn).2, pay_in C.ts (lw_meth w5), List.mem_cons_self⟩, C.ts _ w5, C.ts _ w4, ho, fun sig h9 => ?_, C.ts _ w1, C.ts _ w2, hdecl, C.ts _ w3, C.ts _ w6⟩
    have h2 := hd.2.2
    rw [h9] at h2
    exact (Option.some.inj h2).symm
  exact E.ofRun (vx_runU C.fix (M _ C.fl) cu ⟨Wd.blind, hrv.cell hp C.tb, fun U hU hW9 => ⟨rfl, Wd.at C hp hs hU hW9⟩⟩ rfl rfl hl.1 rfl (lv_room hW) d (C.fits hk)) hs hl kx kk
theorem gC.decl (C : gC K own cc ret lev mc hh) {x : MethodName} {b : ByteArray} {m : Nat} {r : Option FieldType} (hi : Cond.instanceMethod x ∈ lw_all) (hc : Cond.code x b m r ∈ lw_all) : va_Decl (ks K) x := va_Decl.of (C.ts _ hi) (C.ts _ hc)
theorem gC.declN (C : gC K own cc ret lev mc hh) {x : MethodName} (h : Cond.declares x ∈ gNw) : va_Decl (ks K) x := by
  obtain ⟨r0, r, hn, hrm, hst, hsig⟩ := Cond.declares_spec (C.nw h)
  exact ⟨r0, r, hn, hrm, hst, hsig⟩
end MORE
