/-! more rows: Math.max, Math.min, a class constant, getClass, arraycopy of references, a null into an array -/
set_option maxRecDepth 100000
section ROWS2
variable {K : gK} {own : String} {cc : ByteArray} {ret : Option FieldType} {lev mc : Nat} {hh : List (Nat × Nat × Nat × Nat)}
variable {pc k : Nat} {l : List (Nat × Value)} {st : List Value} {h : gH}
theorem gC.lv1 (C : gC K own cc ret lev mc hh) (hlev : 0 < lev) : 1 ≤ (kR K).frames ∧ 64 ≤ (kR K).locals := by
  have := C.lv (lev2 := 0) (nL2 := 45) (mc2 := 0) hlev (by decide)
  exact ⟨this.1, this.2⟩
theorem E.mmax (C : gC K own cc ret lev mc hh) {idx : Nat} {x y : Int32} (w1 : Cond.methodLink own idx ⟨"java/lang/Math", "max", "(II)I"⟩ ∈ lw_all) (w2 : Cond.static ⟨"java/lang/Math", "max", "(II)I"⟩ ∈ lw_all) (w3 : Cond.initialized "java/lang/Math" ∈ lw_all) (w4 : Cond.code ⟨"java/lang/Math", "max", "(II)I"⟩ Lib.Math.max.code 2 (some .int) ∈ lw_all) (d : decode cc pc = .ok (.invokestatic idx, 3)) (hlev : 0 < lev) (hk : k ≤ mc) (hW : (st.map fun v => v.category).sum ≤ 8) (e : E K (pc + 3) l (.int (if x < y then y else x) :: st) h k) : E K pc l (.int y :: .int x :: st) h k := fun H locs ls hp hs hl =>
  va_mmax C.x C.b (C.ml.trans hl.1.symm) C.ow (C.ts _ w1) (C.ts _ w2) (C.ts _ w3) (C.ts _ w4) (C.lv1 hlev).1 (by have := (C.lv1 hlev).2; omega) (C.fits (mc2 := 0) hk).1 (C.fits (mc2 := 0) hk).2 d (e H locs ls hp hs hl)
theorem E.mmin (C : gC K own cc ret lev mc hh) {idx : Nat} {x y : Int32} (w1 : Cond.methodLink own idx ⟨"java/lang/Math", "min", "(II)I"⟩ ∈ lw_all) (w2 : Cond.static ⟨"java/lang/Math", "min", "(II)I"⟩ ∈ lw_all) (w3 : Cond.initialized "java/lang/Math" ∈ lw_all) (w4 : Cond.code ⟨"java/lang/Math", "min", "(II)I"⟩ Lib.Math.min.code 2 (some .int) ∈ lw_all) (d : decode cc pc = .ok (.invokestatic idx, 3)) (hlev : 0 < lev) (hk : k ≤ mc) (hW : (st.map fun v => v.category).sum ≤ 8) (e : E K (pc + 3) l (.int (if y < x then y else x) :: st) h k) : E K pc l (.int y :: .int x :: st) h k := fun H locs ls hp hs hl =>
  va_mmin C.x C.b (C.ml.trans hl.1.symm) C.ow (C.ts _ w1) (C.ts _ w2) (C.ts _ w3) (C.ts _ w4) (C.lv1 hlev).1 (by have := (C.lv1 hlev).2; omega) (C.fits (mc2 := 0) hk).1 (C.fits (mc2 := 0) hk).2 d (e H locs ls hp hs hl)
theorem E.ldcM (C : gC K own cc ret lev mc hh) {idx mi : Nat} {Cn : String} (w : Cond.classLink own idx Cn ∈ lw_all) (hM : va_Mi Cn mi (ks K)) (d : decode cc pc = .ok (.ldc idx, 2)) (e : E K (pc + 2) l (.ref mi :: st) h k) : E K pc l st h k := fun H locs ls hp hs hl =>
  va_ldcM C.x C.b C.ow (C.ts _ w) hM d (e H locs ls hp hs hl)
theorem E.aastN (C : gC K own cc ret lev mc hh) {a t n : Nat} {f : Nat → Option Nat} {i : Int32} (d : decode cc pc = .ok (.aastore, 1)) (hh9 : h a = some (t, .inl (gci (kG K) 6, n, .inr (.inr (.inr (.inr f)))))) (ht : t ≠ 0) (hin : vp_in i n) (e : E K (pc + 1) l st (gu h a (t, .inl (gci (kG K) 6, n, .inr (.inr (.inr (.inr (va_up f i.toNatClampNeg none))))))) k) : E K pc l (.null :: .int i :: .ref a :: st) h k := fun H locs ls hp hs hl => by
  have hlt := gclamp hin
  have hz := (hp a t _ hh9).1 ht
  refine va_WaastN (C := "java/lang/Object") C.x C.b (hp a t _ hh9).2 ((C.K9.2 6 _ rfl).1 n (fun j => va_rf (f j))) (fun h => by cases h) (by show ¬ (i < 0 ∨ (arrV _ _ _).slots.size ≤ _); rw [arrV_size]; exact hin) rfl rfl d fun H1 e1 z oq => ?_
  refine e H1 _ ls (hp.set (fun _ => hz) ?_ oq) (hs.put z oq hz) hl
  show H1[a]? = some (vp_cell _ _)
  rw [e1]
  rw [vp_cell_q, vp_cell_q, arrV_store]
  congr 2
  funext q
  by_cases hq : q = i.toNatClampNeg
  · subst hq
    simp [updV, va_up, va_rf]
  · simp [updV, va_up, hq]
theorem E.copyO (C : gC K own cc ret lev mc hh) {idx a0 a t0 t n0 n1 : Nat} {f g : Nat → Option Nat} {sp dp n : Int32} {Cn : String} (w1 : Cond.methodLink own idx arraycopyName ∈ lw_all) (w2 : Cond.native arraycopyName ∈ lw_all) (w3 : Cond.static arraycopyName ∈ lw_all) (w4 : Cond.initialized "java/lang/System" ∈ lw_all)
    (ha0 : h a0 = some (t0, .inl (gci (kG K) 6, n0, .inr (.inr (.inr (.inr f)))))) (ha1 : h a = some (t, .inl (gci (kG K) 6, n1, .inr (.inr (.inr (.inr g)))))) (ht : t ≠ 0) (h1 : ¬ sp < 0) (h2 : ¬ dp < 0) (h3 : ¬ n < 0) (h4 : sp.toNatClampNeg + n.toNatClampNeg ≤ n0) (h5 : dp.toNatClampNeg + n.toNatClampNeg ≤ n1)
    (hel : ∀ i : Nat, i < n.toNatClampNeg → ∀ y : Nat, f (sp.toNatClampNeg + i) = some y → gRv h y Cn) (hca : Cond.castable Cn "java/lang/Object" ∈ gNw) (hlev : 0 < lev) (hW : (st.map fun v => v.category).sum ≤ 8) (d : decode cc pc = .ok (.invokestatic idx, 3))
    (e : E K (pc + 3) l st (gu h a (t, .inl (gci (kG K) 6, n1, .inr (.inr (.inr (.inr (va_cpy f g sp.toNatClampNeg dp.toNatClampNeg n.toNatClampNeg))))))) k) : E K pc l (.int n :: .int dp :: .ref a :: .int sp :: .ref a0 :: st) h k := fun H locs ls hp hs hl => by
  have nn : ∀ z : Int32, ¬ z < 0 → z.toInt = (z.toNatClampNeg : Int) := by
    intro z hz
    have hz0 : (0 : Int) ≤ z.toInt := by
      have := Int32.not_lt.mp hz
      simpa using Int32.le_iff_toInt_le.mp this
    show z.toInt = ((z.toInt.toNat : Nat) : Int)
    omega
  intro T hT X
  have hz := (hp a t _ ha1).1 ht
  have hc0 : H[a0]? = some (vp_cell (gci (kG K) 6) (n0, .inr (.inr (.inr (.inr f))))) := (hp a0 t0 _ ha0).2
  have hc1 : H[a]? = some (vp_cell (gci (kG K) 6) (n1, .inr (.inr (.inr (.inr g))))) := (hp a t _ ha1).2
  obtain ⟨-, k0, hk0, cm0, hkk0⟩ := (C.K9.2 6 _ rfl).1 n0 (fun j => va_rf (f j))
  obtain ⟨-, k1, hk1, cm1, hkk1⟩ := (C.K9.2 6 _ rfl).1 n1 (fun j => va_rf (g j))
  have hl1 := C.lv1 hlev
  obtain ⟨vm', X', step⟩ := X.arraycopy C.x C.ow (C.ts _ w1) (C.ts _ w2) (C.ts _ w3) (C.ts _ w4) (src := a0) (dst := a) (cs := vp_cell (gci (kG K) 6) (n0, .inr (.inr (.inr (.inr f))))) (cd := vp_cell (gci (kG K) 6) (n1, .inr (.inr (.inr (.inr g))))) (srcPos := sp) (destPos := dp) (n := n) (by rw [hT]; exact hc0) (by rw [hT]; exact hc1)
    (fun _ h => by cases h) (fun _ h => by cases h) (fun h => by cases h) (fun h => by cases h) hk0 hk1 hkk0 hkk1 rfl h1 h2 h3
    (by rw [nn sp h1, nn n h3]; show ¬ _ > ((arrV _ n0 (fun j => va_rf (f j))).slots.size : Int); rw [arrV_size]; omega)
    (by rw [nn dp h2, nn n h3]; show ¬ _ > ((arrV _ n1 (fun j => va_rf (g j))).slots.size : Int); rw [arrV_size]; omega)
    (fun vm₁ hal i hi => by
      have e : (vp_cell (gci (kG K) 6) (n0, .inr (.inr (.inr (.inr f))))).slots.getD (sp.toNatClampNeg + i) .null = va_rf (f (sp.toNatClampNeg + i)) := by
        show (arrV _ n0 (fun j => va_rf (f j))).slots.getD _ _ = _
        rw [Array.getD_eq_getD_getElem?, arrV_read _ _ (by omega)]
        rfl
      rw [e]
      cases hy : f (sp.toNatClampNeg + i) with
      | none => exact ⟨rfl, trivial⟩
      | some y =>
        obtain ⟨cellV, g1, g2, g3⟩ := (hel i hi y hy).cell hp C.tb
        obtain ⟨kA, comp, r1, r2, r3, -⟩ := (C.K9.2 6 _ rfl).2
        cases hk1.symm.trans r1
        cases hkk1.symm.trans r2
        obtain ⟨kC, hkC, -⟩ := Vm.findClass_spec g3
        obtain ⟨kE, hkE, -⟩ := Vm.findClass_spec r3
        obtain ⟨kC', hkC', -⟩ := hal.2.2 _ _ hkC
        obtain ⟨kE', hkE', -⟩ := hal.2.2 _ _ hkE
        refine ⟨rfl, cellV, (show T.heap[y]? = some cellV by rw [hT]; exact g1), (fun q h => by rw [h] at g2; cases g2), ⟨kC', hkC'⟩, ?_, ?_⟩
        · exact ⟨kE', hkE'⟩
        · show vm₁.assignable _ _ = true
          rw [hal.assignable]
          exact vb_asgC (C.nw hca) _ _ r3 g3)
    (g := F0 (km K) pc ls (.int n :: .int dp :: .ref a :: .int sp :: .ref a0 :: st)) rfl (by show ls.size = _; rw [hl.1, C.ml]) (rest := st) rfl (by rw [C.b]; exact d) hl1.1 (by have hw : nativeFrameWords "java/lang/System" "arraycopy" 5 + 11 ≤ 30 := (by decide +kernel); show 2 * 0 + _ + _ ≤ _; omega)
  have e1 : copied (vp_cell (gci (kG K) 6) (n0, .inr (.inr (.inr (.inr f))))) (vp_cell (gci (kG K) 6) (n1, .inr (.inr (.inr (.inr g))))) sp dp n = vp_cell (gci (kG K) 6) (n1, .inr (.inr (.inr (.inr (va_cpy f g sp.toNatClampNeg dp.toNatClampNeg n.toNatClampNeg))))) := by
    rw [vp_cell_q, vp_cell_q, vp_cell_q]
    exact va_copied (fun z => va_rf z) _ _ f g h4
  rw [e1] at X' step
  have hlH : a < H.size := (Array.getElem?_eq_some_iff.mp hc1).1
  have hheap : ((T.setVm vm').setCell a (vp_cell (gci (kG K) 6) (n1, .inr (.inr (.inr (.inr (va_cpy f g sp.toNatClampNeg dp.toNatClampNeg n.toNatClampNeg))))))).heap = H.setIfInBounds a (vp_cell (gci (kG K) 6) (n1, .inr (.inr (.inr (.inr (va_cpy f g sp.toNatClampNeg dp.toNatClampNeg n.toNatClampNeg)))))) := by rw [← hT]; rfl
  have oq : ∀ q : Nat, q ≠ a → (H.setIfInBounds a (vp_cell (gci (kG K) 6) (n1, .inr (.inr (.inr (.inr (va_cpy f g sp.toNatClampNeg dp.toNatClampNeg n.toNatClampNeg)))))))[q]? = H[q]? := fun q hq => by simp [Array.getElem?_setIfInBounds, Ne.symm hq]
  obtain ⟨t, a1, b1⟩ := e _ _ ls (hp.set (fun _ => hz) (show (H.setIfInBounds a _)[a]? = some _ by simp [Array.getElem?_setIfInBounds, hlH]) oq) ⟨by simp; exact hs.1, fun q g1 g2 => by
      rw [oq q (fun e => g2 (by rw [e]; exact hz))]
      exact hs.2.1 q g1 g2, fun q hq => by
      rcases List.mem_append.mp hq with h | h
      · exact hs.2.2 q h
      · obtain ⟨z, -, hz9⟩ := List.mem_map.mp h
        rw [← hz9]
        exact hz⟩ hl _ hheap X'
  exact ⟨t, step t a1, b1⟩
end ROWS2
