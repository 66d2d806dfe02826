/-! an interface's inherited method: the words that no list carries, and the call -/
set_option maxRecDepth 100000
section UPCALL
variable {p : Program} {l : Launch} {e : Env} {R : Room} {s : State} {m : MethodId} {args : Array Value} {below : List Frame} {meth : Method} {c : Code} {H : Heap} {locs : List Loc} {cells slots : Nat}
variable {mc ms : Nat} {free : Addr → Prop}
theorem gx_callIU {T : State} (X : Stand p l e R s m args below meth c T locs cells slots) (hexec : p.tables.exec = Jvm.exec) {own C J : String} {index count : Nat} {x y : MethodName}
    (hown : s.vm.findClass own = some m.cls) (hU : gUf own index x J C y s) (hxo : x.cls ≠ J ∧ J ≠ "java/lang/invoke/MethodHandle" ∧ J ≠ "java/lang/invoke/VarHandle") (hinst : (Cond.instanceMethod y).before args s = true) (hx : x.cls ≠ "java/lang/invoke/MethodHandle" ∧ x.cls ≠ "java/lang/invoke/VarHandle")
    {W9 : Nat} {Pre : Pt → Array Value → Prop} {Post : Pt → Array Value → Option Value → Pt → Prop} {PostX : Pt → Array Value → Addr → Pt → Prop} (hK : vx_Back l R p e below s args y 5 W9 Pre Post PostX)
    {b : Addr} {cellB : Cell} {kB : Class} (hcell : T.heap[b]? = some cellB) (hobj : cellB.vm.isStatics = false) (hcls : s.vm.findClass C = some cellB.cls) (hkB : s.vm.classes[cellB.cls]? = some kB)
    {g : JFrame} (hg : g.method = m) (hsize : g.locals.size = c.maxLocals) {argsL rest : List Value} (hlen : ∀ sig, parseMethodDescriptor x.desc = some sig → argsL.length = sig.parameters.length)
    (hstack : g.stack = argsL.reverse ++ .ref b :: rest) (hW : 2 * g.monitorRoom + (rest.map fun v => v.category).sum ≤ W9) (hdg : decode c.code g.pc = .ok (.invokeinterface index count, 5))
    (hpre : ∀ vm₁, s.WarmedH vm₁ → Pre ⟨T.setVm vm₁, locs, cells, slots⟩ (Value.ref b :: argsL).toArray) :
    (∃ (v : Option Value) (vm₁ : Vm) (B : Pt), s.WarmedH vm₁ ∧ Stand p l e R s m args below meth c B.U B.locs B.cells B.slots ∧ Post ⟨T.setVm vm₁, locs, cells, slots⟩ (Value.ref b :: argsL).toArray v B ∧
      ∀ target, Steps p.tables e below (B.U.setTop { g with pc := g.pc + 5, stack := v.toList ++ rest }) target → Steps p.tables e below (T.setTop g) target) ∨
    (∃ (q : Addr) (vm₁ : Vm) (B : Pt), s.WarmedH vm₁ ∧ Stand p l e R s m args below meth c B.U B.locs B.cells B.slots ∧ PostX ⟨T.setVm vm₁, locs, cells, slots⟩ (Value.ref b :: argsL).toArray q B ∧
      Steps p.tables e below (T.setTop g) ((B.U.setTop { g with stack := rest }).pushFrame (.throwing q))) := by
  obtain ⟨h1, h2, h3, h4, h5, h6, h7, h8⟩ := hU
  have up : ∀ {c : Cond}, c.onTables = true → c.before #[] s = true → c.before args s = true := fun hc h => va_any hc h
  obtain ⟨r0, r, hn, hrm, hstR, hsigR⟩ := Cond.declares_spec h3
  obtain ⟨cL, kL, r1, hcL, hkL, hiL, hfoundL, hn1⟩ := Cond.interfaceMethod_spec h2
  cases hn.symm.trans hn1
  obtain ⟨hnameR, hdescR⟩ := name_of_methodNamed hn hrm
  obtain ⟨mk, methM, hnamed, hmethM, -, habM⟩ := Cond.instanceMethod_spec hinst
  obtain ⟨c2, r2, m2, q1, q2, q3, q4, -⟩ := Cond.selects_spec h5
  cases hcls.symm.trans q1
  cases (State.methodFound?_of_named hn hxo.2).symm.trans q2
  cases hnamed.symm.trans q3
  have hselP : selectMethod e.platform s.vm cellB.cls r0 = .method mk := by rw [Launch.admits_selectMethod X.admits]; exact q4
  have hpubM : hasFlag methM.accessFlags Acc.public_ = true := Cond.publicMethod_spec hnamed hmethM h6
  have hway : ((cellB.cls :: s.vm.superclasses cellB.cls).any fun k => (declaredIn s.vm r.name r.desc k).any fun (_, z) => z.isPrivate || z.isStatic) = false := by
    rw [hnameR, hdescR]; exact Cond.unhidden_spec hcls h7
  obtain ⟨c3, t3, w1, w2, w3⟩ := Cond.castable_spec h8
  cases hcls.symm.trans w1
  cases hcL.symm.trans w2
  obtain ⟨vm₁, X₁, hstep₁⟩ := X.invokeinterfaceUp hexec (J := J) hown (up rfl h1) (up rfl h2) (up rfl h3) (up rfl h4) hxo.1 hx hcL (a := b) (cell := cellB) (kcell := kB) hcell
    (fun z h => by rw [h] at hobj; cases hobj) hkB w3 hn hrm hselP hmethM hway hpubM habM (g := g) hg (argsL := argsL) (rest := rest) (hlen _ hsigR) hstack hdg
  rcases hK m meth c ⟨T.setVm vm₁, locs, cells, slots⟩ { g with stack := rest } (.invokeinterface index count) mk (Value.ref b :: argsL).toArray X₁ hg hsize hdg hW (X₁.named hnamed) (hpre vm₁ X₁.warmed) with ⟨v, B, X', hpost, hsteps⟩ | ⟨q, B, X', hpost, hsteps⟩
  · exact Or.inl ⟨v, vm₁, B, X₁.warmed, X', hpost, fun target h => hstep₁ _ fun acts => by rw [doInvoke_state]; exact hsteps.trans h⟩
  · exact Or.inr ⟨q, vm₁, B, X₁.warmed, X', hpost, hstep₁ _ fun acts => by rw [doInvoke_state]; exact hsteps⟩
theorem gx_runFU {x y : MethodName} {bytes cc : ByteArray} {maxL nL n index count : Nat} {ret : Option FieldType} {ws : List Cond} {rm : Room} {Pc : Array Value → State → Prop} {Qc : Array Value → State → Outcome → State → Prop} {XC : String → State → State → Prop} {Ts : List Cond} {own C J : String} {cC : ClassId} {b : Addr} {As rest : List Value} {g : JFrame}
    (hat : ClassAt s C cC) (S : CallFix p m c cc nL s args Ts own) (hM : vx_Met l y ws rm Pc Qc XC mc ms free) (hU : gUf own index x J C y s) (hxo : x.cls ≠ J ∧ J ≠ "java/lang/invoke/MethodHandle" ∧ J ≠ "java/lang/invoke/VarHandle")
    (back : rm.cells = mc ∧ rm.slots = ms ∧ rm.frames + 1 ≤ R.frames ∧ 8 + (maxL + 11) + rm.locals ≤ R.locals ∧ (∀ w ∈ ws, ∀ (a' : Array Value) (U : State), s.WarmedH U.vm → w.before a' U = true) ∧ Cond.code y bytes maxL ret ∈ ws)
    (hini : (Cond.initialized y.cls).before args s = true) (hinst : (Cond.instanceMethod y).before args s = true) (hxm : x.cls ≠ "java/lang/invoke/MethodHandle" ∧ x.cls ≠ "java/lang/invoke/VarHandle") (hlen : ∀ sig, parseMethodDescriptor x.desc = some sig → n = sig.parameters.length) (hp : PreV s H C b Pc As)
    (hg : g.method = m) (hn : As.length = n) (hsize : g.locals.size = nL) (hstack : g.stack = As.reverse ++ .ref b :: rest) (hW : 2 * g.monitorRoom + (rest.map fun v => v.category).sum ≤ 8) (hdg : decode cc g.pc = .ok (.invokeinterface index count, 5)) (hf : cells + mc ≤ R.cells ∧ slots + ms ≤ R.slots) :
    vx_Run5 p l e R s m args below meth c H locs cells slots mc ms g rest (Qc (Value.ref b :: As).toArray) XC free := by
  obtain ⟨hrc, hrs, hfr, hlo, hws, hcw⟩ := back
  have hK : vx_Back l R p e below s args y 5 8 (PreOf R mc ms Pc) (PostOf Qc mc ms free) (vx_Post XC mc ms free) := vx_back (bytes := bytes) (maxL := maxL) (ret := ret) hM hp.1 hrc hrs hfr hlo hws hcw (fun a' U hW => word_at hW (Or.inl (by first | rfl | simp [Cond.onTables, Cond.keeps, Cond.steady])) hini)
  obtain ⟨hx, hb, hml, ho, -⟩ := S
  obtain ⟨-, ⟨cellB, hcB, hoB, hclB⟩, hPc⟩ := hp
  obtain ⟨hfc, kB, hkB, -⟩ := hat
  cases hfc.symm.trans hclB
  intro T hT X
  rcases gx_callIU X hx (C := C) ho hU hxo hinst hxm hK (by rw [hT]; exact hcB) hoB hclB hkB hg (hsize.trans hml.symm) (argsL := As) (rest := rest) (fun sig h => hn.trans (hlen sig h)) hstack hW (by rw [hb]; exact hdg)
    (fun vm₁ hW₁ => ⟨hf.1, hf.2, hPc (T.setVm vm₁) hT hW₁⟩) with ⟨v, vm₁, ⟨U', l2, c2, s2⟩, hW₁, X', ⟨g', mk, t, L, e1, e2, hq, h1, hL, h2, h3⟩, st⟩ | ⟨q, vm₁, ⟨U', l2, c2, s2⟩, hW₁, X', ⟨g', mk, t, L, E, ce, e1, e2, hq, hce, hcv, hcl, h1, hL, h2, h3⟩, st⟩
  · dsimp only [Pt.U, Pt.locs, Pt.cells, Pt.slots] at X' e1 e2 h1 h2 h3 st
    subst h1; subst h2; subst h3
    exact Or.inl ⟨v, (T.setVm vm₁).calling g' mk (Value.ref b :: As).toArray, t, U', L, hT, X', hL, e1, e2, hq, st⟩
  · dsimp only [Pt.U, Pt.locs, Pt.cells, Pt.slots] at X' e1 e2 h1 h2 h3 st hcl
    subst h1; subst h2; subst h3
    exact Or.inr ⟨q, (T.setVm vm₁).calling g' mk (Value.ref b :: As).toArray, t, U', L, E, ce, hT, X', hL, e1, e2, hq, hce, hcv, vx_cls hW₁ hcl, st⟩
end UPCALL
section UPROW
variable {K : gK} {own : String} {cc : ByteArray} {ret : Option FieldType} {lev mc : Nat} {hh : List (Nat × Nat × Nat × Nat)}
variable {pc k : Nat} {l : List (Nat × Value)} {st : List Value} {h : gH}
variable {lev2 nL2 mc2 idx : Nat} {y : MethodName} {cc2 : ByteArray} {ret2 : Option FieldType} {As rest : List Value} {b : Nat} {Ret : Option Value → gH → Prop} {Thr : String → gH → Prop}
/-- a call through an interface of a method that a superinterface declares -/
theorem E.callFU (C : gC K own cc ret lev mc hh) {x : MethodName} {J Cn : String} {count : Nat} (M : gMet lev2 y cc2 nL2 ret2 (kG K) h (.ref b :: As) Ret Thr mc2) (d : decode cc pc = .ok (.invokeinterface idx count, 5)) (hU : gUf own idx x J Cn y (ks K)) (hxo : x.cls ≠ J ∧ J ≠ "java/lang/invoke/MethodHandle" ∧ J ≠ "java/lang/invoke/VarHandle") (w3 : Cond.instanceMethod y ∈ lw_all) (w4 : Cond.initialized y.cls ∈ lw_all) (w5 : Cond.code y cc2 nL2 ret2 ∈ lw_all)
    (hd : gNoMH x As.length) (hlev : lev2 < lev) (hn : nL2 ≤ 45) (hrv : gRv h b Cn) (hst : As.reverse ++ .ref b :: rest = st) (hW : (rest.map fun v => v.category).sum ≤ 8) (hk : k + mc2 ≤ mc) (hat : ∃ cC, ClassAt (ks K) Cn cC)
    (kx : ∀ X u, Thr X u → EX K pc X l rest u (k + mc2)) (kk : ∀ v u, Ret v u → E K (pc + 5) l (v.toList ++ rest) u (k + mc2)) : E K pc l st h k := fun H locs ls hp hs hl => by
  subst hst
  obtain ⟨cC, hat⟩ := hat
  have hR := C.lv (mc2 := mc2) hlev hn
  refine E.ofRun5 (gx_runFU (n := As.length) hat C.fix (M _ C.fl) hU hxo ⟨rfl, rfl, hR.1, hR.2, pay_in C.ts (lw_meth w5), List.mem_cons_self⟩ (C.ts _ w4) (C.ts _ w3) ⟨hd.1, hd.2.1⟩ (fun sig hsig => ?_) ⟨Wd.blind, hrv.cell hp C.tb, fun U hU9 hW9 => ⟨rfl, Wd.at C hp hs hU9 hW9⟩⟩ rfl rfl hl.1 rfl (lv_room hW) d (C.fits hk)) hs hl kx kk
  have h2 := hd.2.2
  rw [hsig] at h2
  exact (Option.some.inj h2).symm
end UPROW
