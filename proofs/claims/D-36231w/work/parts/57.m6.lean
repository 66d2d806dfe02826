/-! the reference's public methods: what is told -/
set_option maxRecDepth 100000
section M6
variable {G : gG} {h : gH} {m : Nat} {ad : Nat → Nat} {σ : Sg}
theorem m_X2_task (hM : MP G h m ad σ) (hW : Wb σ) {p due full rl am : Int32} : gMet 3 yX2_task cX2_task 7 (some .int) G h [.ref m, .int p, .int due, .int full, .int rl, .int am] (MR G h m ad (o_task σ p due full rl am)) gNo 0 := by
  refine gMet.of (by decide) (Nat.le_of_ble_eq_true rfl) (fun K C N hG hn hin => ?_)
  subst hG
  have kn_ : ∀ j : Nat, j < 7 → j < kn K := fun j hj => by rw [hn]; exact hj
  have hg : gfr 1 h h := gfr.rf
  have hW0 := hW
  obtain ⟨b0, b1, b2, b3, b4, b5, b6, b7, b8, b9, b10, b11⟩ := hW
  refine E.aload_n C dX2_task_0 rfl ?_
  refine E.iload_n C dX2_task_1 rfl ?_
  refine E.callV C (m_X2_isClass hM b0) dX2_task_2 q2161 q2163 qs34 q76 q2164 mh_X2_isClass (by decide) (by decide) hM.rv rfl (Nat.le_of_ble_eq_true rfl) (by omega) (fun _ _ hx => hx.elim) ?_
  rintro v u (⟨rfl, q2, ⟨i2, hi2, rfl⟩, rfl⟩ | ⟨rfl, q2, rfl⟩)
  · have e2 := nI_clamp (show i2 < 2 ^ 31 by omega)
    refine E.if_ne C dX2_task_5 (tgt := 14) (by decide) (fun cz => ?_) (fun c => absurd c (by decide))
    clear cz
    refine E.iload C dX2_task_14 rfl ?_
    refine E.bipush C dX2_task_16 (v := nI 104) (by decide) ?_
    refine E.icmp_eq C dX2_task_18 (tgt := 42) (by decide) (fun c18 => ?_) (fun c18 => ?_)
    · refine E.iconst C dX2_task_42 (v := nI 1) (by decide) ?_
      refine E.goto C dX2_task_43 (tgt := 47) (by decide) ?_
      refine E.istore C dX2_task_47 (kn_ _ (by decide)) ?_
      refine E.iload_n C dX2_task_49 rfl ?_
      refine E.iconst C dX2_task_50 (v := nI 0) (by decide) ?_
      refine E.ldc C dX2_task_51 q2169 ?_
      refine E.ri (show _ = nI 1000000 from rfl) ?_
      refine E.callS C (m_X2_in) dX2_task_53 q2146 q2147 q76 q2148 mh_X2_in (by decide) (by decide) rfl (Nat.le_of_ble_eq_true rfl) (by omega) (fun _ _ hx => hx.elim) ?_
      rintro v u (⟨rfl, q53, rfl⟩ | ⟨rfl, q53, rfl⟩)
      · refine E.if_eq C dX2_task_56 (tgt := 85) (by decide) (fun c => absurd c (by decide)) (fun cz => ?_)
        clear cz
        refine E.iload_n C dX2_task_59 rfl ?_
        refine E.iconst C dX2_task_60 (v := nI 1) (by decide) ?_
        refine E.bipush C dX2_task_61 (v := nI 100) (by decide) ?_
        refine E.callS C (m_X2_in) dX2_task_63 q2146 q2147 q76 q2148 mh_X2_in (by decide) (by decide) rfl (Nat.le_of_ble_eq_true rfl) (by omega) (fun _ _ hx => hx.elim) ?_
        rintro v u (⟨rfl, q63, rfl⟩ | ⟨rfl, q63, rfl⟩)
        · refine E.if_eq C dX2_task_66 (tgt := 85) (by decide) (fun c => absurd c (by decide)) (fun cz => ?_)
          clear cz
          refine E.iload C dX2_task_69 rfl ?_
          refine E.if_eq C dX2_task_71 (tgt := 85) (by decide) (fun c => absurd c (by decide)) (fun cz => ?_)
          clear cz
          refine E.iload C dX2_task_74 rfl ?_
          refine E.iconst C dX2_task_76 (v := nI 0) (by decide) ?_
          refine E.bipush C dX2_task_77 (v := nI 100) (by decide) ?_
          refine E.callS C (m_X2_in) dX2_task_79 q2146 q2147 q76 q2148 mh_X2_in (by decide) (by decide) rfl (Nat.le_of_ble_eq_true rfl) (by omega) (fun _ _ hx => hx.elim) ?_
          rintro v u (⟨rfl, q79, rfl⟩ | ⟨rfl, q79, rfl⟩)
          · refine E.if_ne C dX2_task_82 (tgt := 91) (by decide) (fun cz => ?_) (fun c => absurd c (by decide))
            clear cz
            refine E.aload_n C dX2_task_91 rfl ?_
            refine E.getf C dX2_task_92 hM.cell rfl 3 q2035 (by decide) rfl rfl ?_
            refine E.bipush C dX2_task_95 (v := nI 10) (by decide) ?_
            refine E.icmpN_ne C dX2_task_97 (tgt := 106) (by decide) (by omega) (by omega) (fun c97 => ?_) (fun c97 => ?_)
            · refine E.aload_n C dX2_task_106 rfl ?_
              refine E.getf C dX2_task_107 hM.cell rfl 12 q2044 (by decide) rfl rfl ?_
              refine E.aload_n C dX2_task_110 rfl ?_
              refine E.getf C dX2_task_111 hM.cell rfl 3 q2035 (by decide) rfl rfl ?_
              refine E.iload_n C dX2_task_114 rfl ?_
              refine E.mast12 C hM dX2_task_115 (by omega) ?_
              intro u hM g9
              replace hg := hg.tr g9
              refine E.aload_n C dX2_task_116 rfl ?_
              refine E.getf C dX2_task_117 hM.cell rfl 13 q2045 (by decide) rfl rfl ?_
              refine E.aload_n C dX2_task_120 rfl ?_
              refine E.getf C dX2_task_121 hM.cell rfl 3 q2035 (by decide) rfl rfl ?_
              refine E.iload_n C dX2_task_124 rfl ?_
              refine E.mast13 C hM dX2_task_125 (by omega) ?_
              intro u hM g9
              replace hg := hg.tr g9
              refine E.aload_n C dX2_task_126 rfl ?_
              refine E.getf C dX2_task_127 hM.cell rfl 14 q2046 (by decide) rfl rfl ?_
              refine E.aload_n C dX2_task_130 rfl ?_
              refine E.getf C dX2_task_131 hM.cell rfl 3 q2035 (by decide) rfl rfl ?_
              refine E.iload_n C dX2_task_134 rfl ?_
              refine E.mast14 C hM dX2_task_135 (by omega) ?_
              intro u hM g9
              replace hg := hg.tr g9
              refine E.aload_n C dX2_task_136 rfl ?_
              refine E.getf C dX2_task_137 hM.cell rfl 16 q2048 (by decide) rfl rfl ?_
              refine E.aload_n C dX2_task_140 rfl ?_
              refine E.getf C dX2_task_141 hM.cell rfl 3 q2035 (by decide) rfl rfl ?_
              refine E.iload C dX2_task_144 rfl ?_
              refine E.mast16 C hM dX2_task_146 (by omega) (by first | (rw [c18]; decide) | (rw [c25]; decide) | (rw [c32]; decide) | (rw [c39]; decide)) ?_
              intro u hM g9
              replace hg := hg.tr g9
              refine E.aload_n C dX2_task_147 rfl ?_
              refine E.getf C dX2_task_148 hM.cell rfl 15 q2047 (by decide) rfl rfl ?_
              refine E.aload_n C dX2_task_151 rfl ?_
              refine E.getf C dX2_task_152 hM.cell rfl 3 q2035 (by decide) rfl rfl ?_
              refine E.iload C dX2_task_155 rfl ?_
              refine E.mast15 C hM dX2_task_157 (by omega) ?_
              intro u hM g9
              replace hg := hg.tr g9
              refine E.aload_n C dX2_task_158 rfl ?_
              refine E.dup C dX2_task_159 (by first | rfl | assumption) ?_
              refine E.getf C dX2_task_160 hM.cell rfl 3 q2035 (by decide) rfl rfl ?_
              refine E.iconst C dX2_task_163 (v := nI 1) (by decide) ?_
              refine E.iaddN C dX2_task_164 ?_
              refine E.mputN3 C hM dX2_task_165 q2035 ?_
              intro u hM g9
              replace hg := hg.tr g9
              refine E.aload_n C dX2_task_168 rfl ?_
              refine E.aload_n C dX2_task_169 rfl ?_
              refine E.getf C dX2_task_170 hM.cell rfl 3 q2035 (by decide) rfl rfl ?_
              refine E.iconst C dX2_task_173 (v := nI 1) (by decide) ?_
              refine E.isub C dX2_task_174 ?_
              refine E.callV C (m_X2_tells hM) dX2_task_175 q2153 q2155 qs33 q76 q2156 mh_X2_tells (by decide) (by decide) hM.rv rfl (Nat.le_of_ble_eq_true rfl) (by omega) (fun _ _ hx => hx.elim) ?_
              rintro v u ⟨rfl, hM, g9⟩
              replace hg := hg.tr g9
              refine E.endI C N dX2_task_178 (by omega) ?_
              exact MR.mk (by simp [o_task, isRl, oF, oT, sN_1, sI_1, nI_s1, *] <;> rfl) hM hg
            · refine E.aload_n C dX2_task_100 rfl ?_
              refine E.iconst C dX2_task_101 (v := nI 3) (by decide) ?_
              refine E.callV C (m_X2_fails hM) dX2_task_102 q2149 q2151 qs32 q76 q2152 mh_X2_fails (by decide) (by decide) hM.rv rfl (Nat.le_of_ble_eq_true rfl) (by omega) (fun _ _ hx => hx.elim) ?_
              rintro v u ⟨rfl, hM, g9⟩
              replace hg := hg.tr g9
              refine E.endI C N dX2_task_105 (by omega) ?_
              exact MR.mk (by simp [o_task, isRl, oF, oT, sN_1, sI_1, nI_s1, *] <;> rfl) hM hg
          · refine E.if_ne C dX2_task_82 (tgt := 91) (by decide) (fun c => absurd c (by decide)) (fun cz => ?_)
            clear cz
            refine E.aload_n C dX2_task_85 rfl ?_
            refine E.iconst C dX2_task_86 (v := nI 2) (by decide) ?_
            refine E.callV C (m_X2_fails hM) dX2_task_87 q2149 q2151 qs32 q76 q2152 mh_X2_fails (by decide) (by decide) hM.rv rfl (Nat.le_of_ble_eq_true rfl) (by omega) (fun _ _ hx => hx.elim) ?_
            rintro v u ⟨rfl, hM, g9⟩
            replace hg := hg.tr g9
            refine E.endI C N dX2_task_90 (by omega) ?_
            exact MR.mk (by simp [o_task, isRl, oF, oT, sN_1, sI_1, nI_s1, *] <;> rfl) hM hg
        · refine E.if_eq C dX2_task_66 (tgt := 85) (by decide) (fun cz => ?_) (fun c => absurd c (by decide))
          clear cz
          refine E.aload_n C dX2_task_85 rfl ?_
          refine E.iconst C dX2_task_86 (v := nI 2) (by decide) ?_
          refine E.callV C (m_X2_fails hM) dX2_task_87 q2149 q2151 qs32 q76 q2152 mh_X2_fails (by decide) (by decide) hM.rv rfl (Nat.le_of_ble_eq_true rfl) (by omega) (fun _ _ hx => hx.elim) ?_
          rintro v u ⟨rfl, hM, g9⟩
          replace hg := hg.tr g9
          refine E.endI C N dX2_task_90 (by omega) ?_
          exact MR.mk (by simp [o_task, isRl, oF, oT, sN_1, sI_1, nI_s1, *] <;> rfl) hM hg
      · refine E.if_eq C dX2_task_56 (tgt := 85) (by decide) (fun cz => ?_) (fun c => absurd c (by decide))
        clear cz
        refine E.aload_n C dX2_task_85 rfl ?_
        refine E.iconst C dX2_task_86 (v := nI 2) (by decide) ?_
        refine E.callV C (m_X2_fails hM) dX2_task_87 q2149 q2151 qs32 q76 q2152 mh_X2_fails (by decide) (by decide) hM.rv rfl (Nat.le_of_ble_eq_true rfl) (by omega) (fun _ _ hx => hx.elim) ?_
        rintro v u ⟨rfl, hM, g9⟩
        replace hg := hg.tr g9
        refine E.endI C N dX2_task_90 (by omega) ?_
        exact MR.mk (by simp [o_task, isRl, oF, oT, sN_1, sI_1, nI_s1, *] <;> rfl) hM hg
    · refine E.iload C dX2_task_21 rfl ?_
      refine E.bipush C dX2_task_23 (v := nI 100) (by decide) ?_
      refine E.icmp_eq C dX2_task_25 (tgt := 42) (by decide) (fun c25 => ?_) (fun c25 => ?_)
      · refine E.iconst C dX2_task_42 (v := nI 1) (by decide) ?_
        refine E.goto C dX2_task_43 (tgt := 47) (by decide) ?_
        refine E.istore C dX2_task_47 (kn_ _ (by decide)) ?_
        refine E.iload_n C dX2_task_49 rfl ?_
        refine E.iconst C dX2_task_50 (v := nI 0) (by decide) ?_
        refine E.ldc C dX2_task_51 q2169 ?_
        refine E.ri (show _ = nI 1000000 from rfl) ?_
        refine E.callS C (m_X2_in) dX2_task_53 q2146 q2147 q76 q2148 mh_X2_in (by decide) (by decide) rfl (Nat.le_of_ble_eq_true rfl) (by omega) (fun _ _ hx => hx.elim) ?_
        rintro v u (⟨rfl, q53, rfl⟩ | ⟨rfl, q53, rfl⟩)
        · refine E.if_eq C dX2_task_56 (tgt := 85) (by decide) (fun c => absurd c (by decide)) (fun cz => ?_)
          clear cz
          refine E.iload_n C dX2_task_59 rfl ?_
          refine E.iconst C dX2_task_60 (v := nI 1) (by decide) ?_
          refine E.bipush C dX2_task_61 (v := nI 100) (by decide) ?_
          refine E.callS C (m_X2_in) dX2_task_63 q2146 q2147 q76 q2148 mh_X2_in (by decide) (by decide) rfl (Nat.le_of_ble_eq_true rfl) (by omega) (fun _ _ hx => hx.elim) ?_
          rintro v u (⟨rfl, q63, rfl⟩ | ⟨rfl, q63, rfl⟩)
          · refine E.if_eq C dX2_task_66 (tgt := 85) (by decide) (fun c => absurd c (by decide)) (fun cz => ?_)
            clear cz
            refine E.iload C dX2_task_69 rfl ?_
            refine E.if_eq C dX2_task_71 (tgt := 85) (by decide) (fun c => absurd c (by decide)) (fun cz => ?_)
            clear cz
            refine E.iload C dX2_task_74 rfl ?_
            refine E.iconst C dX2_task_76 (v := nI 0) (by decide) ?_
            refine E.bipush C dX2_task_77 (v := nI 100) (by decide) ?_
            refine E.callS C (m_X2_in) dX2_task_79 q2146 q2147 q76 q2148 mh_X2_in (by decide) (by decide) rfl (Nat.le_of_ble_eq_true rfl) (by omega) (fun _ _ hx => hx.elim) ?_
            rintro v u (⟨rfl, q79, rfl⟩ | ⟨rfl, q79, rfl⟩)
            · refine E.if_ne C dX2_task_82 (tgt := 91) (by decide) (fun cz => ?_) (fun c => absurd c (by decide))
              clear cz
              refine E.aload_n C dX2_task_91 rfl ?_
              refine E.getf C dX2_task_92 hM.cell rfl 3 q2035 (by decide) rfl rfl ?_
              refine E.bipush C dX2_task_95 (v := nI 10) (by decide) ?_
              refine E.icmpN_ne C dX2_task_97 (tgt := 106) (by decide) (by omega) (by omega) (fun c97 => ?_) (fun c97 => ?_)
              · refine E.aload_n C dX2_task_106 rfl ?_
                refine E.getf C dX2_task_107 hM.cell rfl 12 q2044 (by decide) rfl rfl ?_
                refine E.aload_n C dX2_task_110 rfl ?_
                refine E.getf C dX2_task_111 hM.cell rfl 3 q2035 (by decide) rfl rfl ?_
                refine E.iload_n C dX2_task_114 rfl ?_
                refine E.mast12 C hM dX2_task_115 (by omega) ?_
                intro u hM g9
                replace hg := hg.tr g9
                refine E.aload_n C dX2_task_116 rfl ?_
                refine E.getf C dX2_task_117 hM.cell rfl 13 q2045 (by decide) rfl rfl ?_
                refine E.aload_n C dX2_task_120 rfl ?_
                refine E.getf C dX2_task_121 hM.cell rfl 3 q2035 (by decide) rfl rfl ?_
                refine E.iload_n C dX2_task_124 rfl ?_
                refine E.mast13 C hM dX2_task_125 (by omega) ?_
                intro u hM g9
                replace hg := hg.tr g9
                refine E.aload_n C dX2_task_126 rfl ?_
                refine E.getf C dX2_task_127 hM.cell rfl 14 q2046 (by decide) rfl rfl ?_
                refine E.aload_n C dX2_task_130 rfl ?_
                refine E.getf C dX2_task_131 hM.cell rfl 3 q2035 (by decide) rfl rfl ?_
                refine E.iload_n C dX2_task_134 rfl ?_
                refine E.mast14 C hM dX2_task_135 (by omega) ?_
                intro u hM g9
                replace hg := hg.tr g9
                refine E.aload_n C dX2_task_136 rfl ?_
                refine E.getf C dX2_task_137 hM.cell rfl 16 q2048 (by decide) rfl rfl ?_
                refine E.aload_n C dX2_task_140 rfl ?_
                refine E.getf C dX2_task_141 hM.cell rfl 3 q2035 (by decide) rfl rfl ?_
                refine E.iload C dX2_task_144 rfl ?_
                refine E.mast16 C hM dX2_task_146 (by omega) (by first | (rw [c18]; decide) | (rw [c25]; decide) | (rw [c32]; decide) | (rw [c39]; decide)) ?_
                intro u hM g9
                replace hg := hg.tr g9
                refine E.aload_n C dX2_task_147 rfl ?_
                refine E.getf C dX2_task_148 hM.cell rfl 15 q2047 (by decide) rfl rfl ?_
                refine E.aload_n C dX2_task_151 rfl ?_
                refine E.getf C dX2_task_152 hM.cell rfl 3 q2035 (by decide) rfl rfl ?_
                refine E.iload C dX2_task_155 rfl ?_
                refine E.mast15 C hM dX2_task_157 (by omega) ?_
                intro u hM g9
                replace hg := hg.tr g9
                refine E.aload_n C dX2_task_158 rfl ?_
                refine E.dup C dX2_task_159 (by first | rfl | assumption) ?_
                refine E.getf C dX2_task_160 hM.cell rfl 3 q2035 (by decide) rfl rfl ?_
                refine E.iconst C dX2_task_163 (v := nI 1) (by decide) ?_
                refine E.iaddN C dX2_task_164 ?_
                refine E.mputN3 C hM dX2_task_165 q2035 ?_
                intro u hM g9
                replace hg := hg.tr g9
                refine E.aload_n C dX2_task_168 rfl ?_
                refine E.aload_n C dX2_task_169 rfl ?_
                refine E.getf C dX2_task_170 hM.cell rfl 3 q2035 (by decide) rfl rfl ?_
                refine E.iconst C dX2_task_173 (v := nI 1) (by decide) ?_
                refine E.isub C dX2_task_174 ?_
                refine E.callV C (m_X2_tells hM) dX2_task_175 q2153 q2155 qs33 q76 q2156 mh_X2_tells (by decide) (by decide) hM.rv rfl (Nat.le_of_ble_eq_true rfl) (by omega) (fun _ _ hx => hx.elim) ?_
                rintro v u ⟨rfl, hM, g9⟩
                replace hg := hg.tr g9
                refine E.endI C N dX2_task_178 (by omega) ?_
                exact MR.mk (by simp [o_task, isRl, oF, oT, sN_1, sI_1, nI_s1, *] <;> rfl) hM hg
              · refine E.aload_n C dX2_task_100 rfl ?_
                refine E.iconst C dX2_task_101 (v := nI 3) (by decide) ?_
                refine E.callV C (m_X2_fails hM) dX2_task_102 q2149 q2151 qs32 q76 q2152 mh_X2_fails (by decide) (by decide) hM.rv rfl (Nat.le_of_ble_eq_true rfl) (by omega) (fun _ _ hx => hx.elim) ?_
                rintro v u ⟨rfl, hM, g9⟩
                replace hg := hg.tr g9
                refine E.endI C N dX2_task_105 (by omega) ?_
                exact MR.mk (by simp [o_task, isRl, oF, oT, sN_1, sI_1, nI_s1, *] <;> rfl) hM hg
            · refine E.if_ne C dX2_task_82 (tgt := 91) (by decide) (fun c => absurd c (by decide)) (fun cz => ?_)
              clear cz
              refine E.aload_n C dX2_task_85 rfl ?_
              refine E.iconst C dX2_task_86 (v := nI 2) (by decide) ?_
              refine E.callV C (m_X2_fails hM) dX2_task_87 q2149 q2151 qs32 q76 q2152 mh_X2_fails (by decide) (by decide) hM.rv rfl (Nat.le_of_ble_eq_true rfl) (by omega) (fun _ _ hx => hx.elim) ?_
              rintro v u ⟨rfl, hM, g9⟩
              replace hg := hg.tr g9
              refine E.endI C N dX2_task_90 (by omega) ?_
              exact MR.mk (by simp [o_task, isRl, oF, oT, sN_1, sI_1, nI_s1, *] <;> rfl) hM hg
          · refine E.if_eq C dX2_task_66 (tgt := 85) (by decide) (fun cz => ?_) (fun c => absurd c (by decide))
            clear cz
            refine E.aload_n C dX2_task_85 rfl ?_
            refine E.iconst C dX2_task_86 (v := nI 2) (by decide) ?_
            refine E.callV C (m_X2_fails hM) dX2_task_87 q2149 q2151 qs32 q76 q2152 mh_X2_fails (by decide) (by decide) hM.rv rfl (Nat.le_of_ble_eq_true rfl) (by omega) (fun _ _ hx => hx.elim) ?_
            rintro v u ⟨rfl, hM, g9⟩
            replace hg := hg.tr g9
            refine E.endI C N dX2_task_90 (by omega) ?_
            exact MR.mk (by simp [o_task, isRl, oF, oT, sN_1, sI_1, nI_s1, *] <;> rfl) hM hg
        · refine E.if_eq C dX2_task_56 (tgt := 85) (by decide) (fun cz => ?_) (fun c => absurd c (by decide))
          clear cz
          refine E.aload_n C dX2_task_85 rfl ?_
          refine E.iconst C dX2_task_86 (v := nI 2) (by decide) ?_
          refine E.callV C (m_X2_fails hM) dX2_task_87 q2149 q2151 qs32 q76 q2152 mh_X2_fails (by decide) (by decide) hM.rv rfl (Nat.le_of_ble_eq_true rfl) (by omega) (fun _ _ hx => hx.elim) ?_
          rintro v u ⟨rfl, hM, g9⟩
          replace hg := hg.tr g9
          refine E.endI C N dX2_task_90 (by omega) ?_
          exact MR.mk (by simp [o_task, isRl, oF, oT, sN_1, sI_1, nI_s1, *] <;> rfl) hM hg
      · refine E.iload C dX2_task_28 rfl ?_
        refine E.bipush C dX2_task_30 (v := nI 103) (by decide) ?_
        refine E.icmp_eq C dX2_task_32 (tgt := 42) (by decide) (fun c32 => ?_) (fun c32 => ?_)
        · refine E.iconst C dX2_task_42 (v := nI 1) (by decide) ?_
          refine E.goto C dX2_task_43 (tgt := 47) (by decide) ?_
          refine E.istore C dX2_task_47 (kn_ _ (by decide)) ?_
          refine E.iload_n C dX2_task_49 rfl ?_
          refine E.iconst C dX2_task_50 (v := nI 0) (by decide) ?_
          refine E.ldc C dX2_task_51 q2169 ?_
          refine E.ri (show _ = nI 1000000 from rfl) ?_
          refine E.callS C (m_X2_in) dX2_task_53 q2146 q2147 q76 q2148 mh_X2_in (by decide) (by decide) rfl (Nat.le_of_ble_eq_true rfl) (by omega) (fun _ _ hx => hx.elim) ?_
          rintro v u (⟨rfl, q53, rfl⟩ | ⟨rfl, q53, rfl⟩)
          · refine E.if_eq C dX2_task_56 (tgt := 85) (by decide) (fun c => absurd c (by decide)) (fun cz => ?_)
            clear cz
            refine E.iload_n C dX2_task_59 rfl ?_
            refine E.iconst C dX2_task_60 (v := nI 1) (by decide) ?_
            refine E.bipush C dX2_task_61 (v := nI 100) (by decide) ?_
            refine E.callS C (m_X2_in) dX2_task_63 q2146 q2147 q76 q2148 mh_X2_in (by decide) (by decide) rfl (Nat.le_of_ble_eq_true rfl) (by omega) (fun _ _ hx => hx.elim) ?_
            rintro v u (⟨rfl, q63, rfl⟩ | ⟨rfl, q63, rfl⟩)
            · refine E.if_eq C dX2_task_66 (tgt := 85) (by decide) (fun c => absurd c (by decide)) (fun cz => ?_)
              clear cz
              refine E.iload C dX2_task_69 rfl ?_
              refine E.if_eq C dX2_task_71 (tgt := 85) (by decide) (fun c => absurd c (by decide)) (fun cz => ?_)
              clear cz
              refine E.iload C dX2_task_74 rfl ?_
              refine E.iconst C dX2_task_76 (v := nI 0) (by decide) ?_
              refine E.bipush C dX2_task_77 (v := nI 100) (by decide) ?_
              refine E.callS C (m_X2_in) dX2_task_79 q2146 q2147 q76 q2148 mh_X2_in (by decide) (by decide) rfl (Nat.le_of_ble_eq_true rfl) (by omega) (fun _ _ hx => hx.elim) ?_
              rintro v u (⟨rfl, q79, rfl⟩ | ⟨rfl, q79, rfl⟩)
              · refine E.if_ne C dX2_task_82 (tgt := 91) (by decide) (fun cz => ?_) (fun c => absurd c (by decide))
                clear cz
                refine E.aload_n C dX2_task_91 rfl ?_
                refine E.getf C dX2_task_92 hM.cell rfl 3 q2035 (by decide) rfl rfl ?_
                refine E.bipush C dX2_task_95 (v := nI 10) (by decide) ?_
                refine E.icmpN_ne C dX2_task_97 (tgt := 106) (by decide) (by omega) (by omega) (fun c97 => ?_) (fun c97 => ?_)
                · refine E.aload_n C dX2_task_106 rfl ?_
                  refine E.getf C dX2_task_107 hM.cell rfl 12 q2044 (by decide) rfl rfl ?_
                  refine E.aload_n C dX2_task_110 rfl ?_
                  refine E.getf C dX2_task_111 hM.cell rfl 3 q2035 (by decide) rfl rfl ?_
                  refine E.iload_n C dX2_task_114 rfl ?_
                  refine E.mast12 C hM dX2_task_115 (by omega) ?_
                  intro u hM g9
                  replace hg := hg.tr g9
                  refine E.aload_n C dX2_task_116 rfl ?_
                  refine E.getf C dX2_task_117 hM.cell rfl 13 q2045 (by decide) rfl rfl ?_
                  refine E.aload_n C dX2_task_120 rfl ?_
                  refine E.getf C dX2_task_121 hM.cell rfl 3 q2035 (by decide) rfl rfl ?_
                  refine E.iload_n C dX2_task_124 rfl ?_
                  refine E.mast13 C hM dX2_task_125 (by omega) ?_
                  intro u hM g9
                  replace hg := hg.tr g9
                  refine E.aload_n C dX2_task_126 rfl ?_
                  refine E.getf C dX2_task_127 hM.cell rfl 14 q2046 (by decide) rfl rfl ?_
                  refine E.aload_n C dX2_task_130 rfl ?_
                  refine E.getf C dX2_task_131 hM.cell rfl 3 q2035 (by decide) rfl rfl ?_
                  refine E.iload_n C dX2_task_134 rfl ?_
                  refine E.mast14 C hM dX2_task_135 (by omega) ?_
                  intro u hM g9
                  replace hg := hg.tr g9
                  refine E.aload_n C dX2_task_136 rfl ?_
                  refine E.getf C dX2_task_137 hM.cell rfl 16 q2048 (by decide) rfl rfl ?_
                  refine E.aload_n C dX2_task_140 rfl ?_
                  refine E.getf C dX2_task_141 hM.cell rfl 3 q2035 (by decide) rfl rfl ?_
                  refine E.iload C dX2_task_144 rfl ?_
                  refine E.mast16 C hM dX2_task_146 (by omega) (by first | (rw [c18]; decide) | (rw [c25]; decide) | (rw [c32]; decide) | (rw [c39]; decide)) ?_
                  intro u hM g9
                  replace hg := hg.tr g9
                  refine E.aload_n C dX2_task_147 rfl ?_
                  refine E.getf C dX2_task_148 hM.cell rfl 15 q2047 (by decide) rfl rfl ?_
                  refine E.aload_n C dX2_task_151 rfl ?_
                  refine E.getf C dX2_task_152 hM.cell rfl 3 q2035 (by decide) rfl rfl ?_
                  refine E.iload C dX2_task_155 rfl ?_
                  refine E.mast15 C hM dX2_task_157 (by omega) ?_
                  intro u hM g9
                  replace hg := hg.tr g9
                  refine E.aload_n C dX2_task_158 rfl ?_
                  refine E.dup C dX2_task_159 (by first | rfl | assumption) ?_
                  refine E.getf C dX2_task_160 hM.cell rfl 3 q2035 (by decide) rfl rfl ?_
                  refine E.iconst C dX2_task_163 (v := nI 1) (by decide) ?_
                  refine E.iaddN C dX2_task_164 ?_
                  refine E.mputN3 C hM dX2_task_165 q2035 ?_
                  intro u hM g9
                  replace hg := hg.tr g9
                  refine E.aload_n C dX2_task_168 rfl ?_
                  refine E.aload_n C dX2_task_169 rfl ?_
                  refine E.getf C dX2_task_170 hM.cell rfl 3 q2035 (by decide) rfl rfl ?_
                  refine E.iconst C dX2_task_173 (v := nI 1) (by decide) ?_
                  refine E.isub C dX2_task_174 ?_
                  refine E.callV C (m_X2_tells hM) dX2_task_175 q2153 q2155 qs33 q76 q2156 mh_X2_tells (by decide) (by decide) hM.rv rfl (Nat.le_of_ble_eq_true rfl) (by omega) (fun _ _ hx => hx.elim) ?_
                  rintro v u ⟨rfl, hM, g9⟩
                  replace hg := hg.tr g9
                  refine E.endI C N dX2_task_178 (by omega) ?_
                  exact MR.mk (by simp [o_task, isRl, oF, oT, sN_1, sI_1, nI_s1, *] <;> rfl) hM hg
                · refine E.aload_n C dX2_task_100 rfl ?_
                  refine E.iconst C dX2_task_101 (v := nI 3) (by decide) ?_
                  refine E.callV C (m_X2_fails hM) dX2_task_102 q2149 q2151 qs32 q76 q2152 mh_X2_fails (by decide) (by decide) hM.rv rfl (Nat.le_of_ble_eq_true rfl) (by omega) (fun _ _ hx => hx.elim) ?_
                  rintro v u ⟨rfl, hM, g9⟩
                  replace hg := hg.tr g9
                  refine E.endI C N dX2_task_105 (by omega) ?_
                  exact MR.mk (by simp [o_task, isRl, oF, oT, sN_1, sI_1, nI_s1, *] <;> rfl) hM hg
              · refine E.if_ne C dX2_task_82 (tgt := 91) (by decide) (fun c => absurd c (by decide)) (fun cz => ?_)
                clear cz
                refine E.aload_n C dX2_task_85 rfl ?_
                refine E.iconst C dX2_task_86 (v := nI 2) (by decide) ?_
                refine E.callV C (m_X2_fails hM) dX2_task_87 q2149 q2151 qs32 q76 q2152 mh_X2_fails (by decide) (by decide) hM.rv rfl (Nat.le_of_ble_eq_true rfl) (by omega) (fun _ _ hx => hx.elim) ?_
                rintro v u ⟨rfl, hM, g9⟩
                replace hg := hg.tr g9
                refine E.endI C N dX2_task_90 (by omega) ?_
                exact MR.mk (by simp [o_task, isRl, oF, oT, sN_1, sI_1, nI_s1, *] <;> rfl) hM hg
            · refine E.if_eq C dX2_task_66 (tgt := 85) (by decide) (fun cz => ?_) (fun c => absurd c (by decide))
              clear cz
              refine E.aload_n C dX2_task_85 rfl ?_
              refine E.iconst C dX2_task_86 (v := nI 2) (by decide) ?_
              refine E.callV C (m_X2_fails hM) dX2_task_87 q2149 q2151 qs32 q76 q2152 mh_X2_fails (by decide) (by decide) hM.rv rfl (Nat.le_of_ble_eq_true rfl) (by omega) (fun _ _ hx => hx.elim) ?_
              rintro v u ⟨rfl, hM, g9⟩
              replace hg := hg.tr g9
              refine E.endI C N dX2_task_90 (by omega) ?_
              exact MR.mk (by simp [o_task, isRl, oF, oT, sN_1, sI_1, nI_s1, *] <;> rfl) hM hg
          · refine E.if_eq C dX2_task_56 (tgt := 85) (by decide) (fun cz => ?_) (fun c => absurd c (by decide))
            clear cz
            refine E.aload_n C dX2_task_85 rfl ?_
            refine E.iconst C dX2_task_86 (v := nI 2) (by decide) ?_
            refine E.callV C (m_X2_fails hM) dX2_task_87 q2149 q2151 qs32 q76 q2152 mh_X2_fails (by decide) (by decide) hM.rv rfl (Nat.le_of_ble_eq_true rfl) (by omega) (fun _ _ hx => hx.elim) ?_
            rintro v u ⟨rfl, hM, g9⟩
            replace hg := hg.tr g9
            refine E.endI C N dX2_task_90 (by omega) ?_
            exact MR.mk (by simp [o_task, isRl, oF, oT, sN_1, sI_1, nI_s1, *] <;> rfl) hM hg
        · refine E.iload C dX2_task_35 rfl ?_
          refine E.bipush C dX2_task_37 (v := nI 115) (by decide) ?_
          refine E.icmp_ne C dX2_task_39 (tgt := 46) (by decide) (fun c39 => ?_) (fun c39 => ?_)
          · refine E.iconst C dX2_task_46 (v := nI 0) (by decide) ?_
            refine E.istore C dX2_task_47 (kn_ _ (by decide)) ?_
            refine E.iload_n C dX2_task_49 rfl ?_
            refine E.iconst C dX2_task_50 (v := nI 0) (by decide) ?_
            refine E.ldc C dX2_task_51 q2169 ?_
            refine E.ri (show _ = nI 1000000 from rfl) ?_
            refine E.callS C (m_X2_in) dX2_task_53 q2146 q2147 q76 q2148 mh_X2_in (by decide) (by decide) rfl (Nat.le_of_ble_eq_true rfl) (by omega) (fun _ _ hx => hx.elim) ?_
            rintro v u (⟨rfl, q53, rfl⟩ | ⟨rfl, q53, rfl⟩)
            · refine E.if_eq C dX2_task_56 (tgt := 85) (by decide) (fun c => absurd c (by decide)) (fun cz => ?_)
              clear cz
              refine E.iload_n C dX2_task_59 rfl ?_
              refine E.iconst C dX2_task_60 (v := nI 1) (by decide) ?_
              refine E.bipush C dX2_task_61 (v := nI 100) (by decide) ?_
              refine E.callS C (m_X2_in) dX2_task_63 q2146 q2147 q76 q2148 mh_X2_in (by decide) (by decide) rfl (Nat.le_of_ble_eq_true rfl) (by omega) (fun _ _ hx => hx.elim) ?_
              rintro v u (⟨rfl, q63, rfl⟩ | ⟨rfl, q63, rfl⟩)
              · refine E.if_eq C dX2_task_66 (tgt := 85) (by decide) (fun c => absurd c (by decide)) (fun cz => ?_)
                clear cz
                refine E.iload C dX2_task_69 rfl ?_
                refine E.if_eq C dX2_task_71 (tgt := 85) (by decide) (fun cz => ?_) (fun c => absurd c (by decide))
                clear cz
                refine E.aload_n C dX2_task_85 rfl ?_
                refine E.iconst C dX2_task_86 (v := nI 2) (by decide) ?_
                refine E.callV C (m_X2_fails hM) dX2_task_87 q2149 q2151 qs32 q76 q2152 mh_X2_fails (by decide) (by decide) hM.rv rfl (Nat.le_of_ble_eq_true rfl) (by omega) (fun _ _ hx => hx.elim) ?_
                rintro v u ⟨rfl, hM, g9⟩
                replace hg := hg.tr g9
                refine E.endI C N dX2_task_90 (by omega) ?_
                exact MR.mk (by simp [o_task, isRl, oF, oT, sN_1, sI_1, nI_s1, *] <;> rfl) hM hg
              · refine E.if_eq C dX2_task_66 (tgt := 85) (by decide) (fun cz => ?_) (fun c => absurd c (by decide))
                clear cz
                refine E.aload_n C dX2_task_85 rfl ?_
                refine E.iconst C dX2_task_86 (v := nI 2) (by decide) ?_
                refine E.callV C (m_X2_fails hM) dX2_task_87 q2149 q2151 qs32 q76 q2152 mh_X2_fails (by decide) (by decide) hM.rv rfl (Nat.le_of_ble_eq_true rfl) (by omega) (fun _ _ hx => hx.elim) ?_
                rintro v u ⟨rfl, hM, g9⟩
                replace hg := hg.tr g9
                refine E.endI C N dX2_task_90 (by omega) ?_
                exact MR.mk (by simp [o_task, isRl, oF, oT, sN_1, sI_1, nI_s1, *] <;> rfl) hM hg
            · refine E.if_eq C dX2_task_56 (tgt := 85) (by decide) (fun cz => ?_) (fun c => absurd c (by decide))
              clear cz
              refine E.aload_n C dX2_task_85 rfl ?_
              refine E.iconst C dX2_task_86 (v := nI 2) (by decide) ?_
              refine E.callV C (m_X2_fails hM) dX2_task_87 q2149 q2151 qs32 q76 q2152 mh_X2_fails (by decide) (by decide) hM.rv rfl (Nat.le_of_ble_eq_true rfl) (by omega) (fun _ _ hx => hx.elim) ?_
              rintro v u ⟨rfl, hM, g9⟩
              replace hg := hg.tr g9
              refine E.endI C N dX2_task_90 (by omega) ?_
              exact MR.mk (by simp [o_task, isRl, oF, oT, sN_1, sI_1, nI_s1, *] <;> rfl) hM hg
          · refine E.iconst C dX2_task_42 (v := nI 1) (by decide) ?_
            refine E.goto C dX2_task_43 (tgt := 47) (by decide) ?_
            refine E.istore C dX2_task_47 (kn_ _ (by decide)) ?_
            refine E.iload_n C dX2_task_49 rfl ?_
            refine E.iconst C dX2_task_50 (v := nI 0) (by decide) ?_
            refine E.ldc C dX2_task_51 q2169 ?_
            refine E.ri (show _ = nI 1000000 from rfl) ?_
            refine E.callS C (m_X2_in) dX2_task_53 q2146 q2147 q76 q2148 mh_X2_in (by decide) (by decide) rfl (Nat.le_of_ble_eq_true rfl) (by omega) (fun _ _ hx => hx.elim) ?_
            rintro v u (⟨rfl, q53, rfl⟩ | ⟨rfl, q53, rfl⟩)
            · refine E.if_eq C dX2_task_56 (tgt := 85) (by decide) (fun c => absurd c (by decide)) (fun cz => ?_)
              clear cz
              refine E.iload_n C dX2_task_59 rfl ?_
              refine E.iconst C dX2_task_60 (v := nI 1) (by decide) ?_
              refine E.bipush C dX2_task_61 (v := nI 100) (by decide) ?_
              refine E.callS C (m_X2_in) dX2_task_63 q2146 q2147 q76 q2148 mh_X2_in (by decide) (by decide) rfl (Nat.le_of_ble_eq_true rfl) (by omega) (fun _ _ hx => hx.elim) ?_
              rintro v u (⟨rfl, q63, rfl⟩ | ⟨rfl, q63, rfl⟩)
              · refine E.if_eq C dX2_task_66 (tgt := 85) (by decide) (fun c => absurd c (by decide)) (fun cz => ?_)
                clear cz
                refine E.iload C dX2_task_69 rfl ?_
                refine E.if_eq C dX2_task_71 (tgt := 85) (by decide) (fun c => absurd c (by decide)) (fun cz => ?_)
                clear cz
                refine E.iload C dX2_task_74 rfl ?_
                refine E.iconst C dX2_task_76 (v := nI 0) (by decide) ?_
                refine E.bipush C dX2_task_77 (v := nI 100) (by decide) ?_
                refine E.callS C (m_X2_in) dX2_task_79 q2146 q2147 q76 q2148 mh_X2_in (by decide) (by decide) rfl (Nat.le_of_ble_eq_true rfl) (by omega) (fun _ _ hx => hx.elim) ?_
                rintro v u (⟨rfl, q79, rfl⟩ | ⟨rfl, q79, rfl⟩)
                · refine E.if_ne C dX2_task_82 (tgt := 91) (by decide) (fun cz => ?_) (fun c => absurd c (by decide))
                  clear cz
                  refine E.aload_n C dX2_task_91 rfl ?_
                  refine E.getf C dX2_task_92 hM.cell rfl 3 q2035 (by decide) rfl rfl ?_
                  refine E.bipush C dX2_task_95 (v := nI 10) (by decide) ?_
                  refine E.icmpN_ne C dX2_task_97 (tgt := 106) (by decide) (by omega) (by omega) (fun c97 => ?_) (fun c97 => ?_)
                  · refine E.aload_n C dX2_task_106 rfl ?_
                    refine E.getf C dX2_task_107 hM.cell rfl 12 q2044 (by decide) rfl rfl ?_
                    refine E.aload_n C dX2_task_110 rfl ?_
                    refine E.getf C dX2_task_111 hM.cell rfl 3 q2035 (by decide) rfl rfl ?_
                    refine E.iload_n C dX2_task_114 rfl ?_
                    refine E.mast12 C hM dX2_task_115 (by omega) ?_
                    intro u hM g9
                    replace hg := hg.tr g9
                    refine E.aload_n C dX2_task_116 rfl ?_
                    refine E.getf C dX2_task_117 hM.cell rfl 13 q2045 (by decide) rfl rfl ?_
                    refine E.aload_n C dX2_task_120 rfl ?_
                    refine E.getf C dX2_task_121 hM.cell rfl 3 q2035 (by decide) rfl rfl ?_
                    refine E.iload_n C dX2_task_124 rfl ?_
                    refine E.mast13 C hM dX2_task_125 (by omega) ?_
                    intro u hM g9
                    replace hg := hg.tr g9
                    refine E.aload_n C dX2_task_126 rfl ?_
                    refine E.getf C dX2_task_127 hM.cell rfl 14 q2046 (by decide) rfl rfl ?_
                    refine E.aload_n C dX2_task_130 rfl ?_
                    refine E.getf C dX2_task_131 hM.cell rfl 3 q2035 (by decide) rfl rfl ?_
                    refine E.iload_n C dX2_task_134 rfl ?_
                    refine E.mast14 C hM dX2_task_135 (by omega) ?_
                    intro u hM g9
                    replace hg := hg.tr g9
                    refine E.aload_n C dX2_task_136 rfl ?_
                    refine E.getf C dX2_task_137 hM.cell rfl 16 q2048 (by decide) rfl rfl ?_
                    refine E.aload_n C dX2_task_140 rfl ?_
                    refine E.getf C dX2_task_141 hM.cell rfl 3 q2035 (by decide) rfl rfl ?_
                    refine E.iload C dX2_task_144 rfl ?_
                    refine E.mast16 C hM dX2_task_146 (by omega) (by first | (rw [c18]; decide) | (rw [c25]; decide) | (rw [c32]; decide) | (rw [c39]; decide)) ?_
                    intro u hM g9
                    replace hg := hg.tr g9
                    refine E.aload_n C dX2_task_147 rfl ?_
                    refine E.getf C dX2_task_148 hM.cell rfl 15 q2047 (by decide) rfl rfl ?_
                    refine E.aload_n C dX2_task_151 rfl ?_
                    refine E.getf C dX2_task_152 hM.cell rfl 3 q2035 (by decide) rfl rfl ?_
                    refine E.iload C dX2_task_155 rfl ?_
                    refine E.mast15 C hM dX2_task_157 (by omega) ?_
                    intro u hM g9
                    replace hg := hg.tr g9
                    refine E.aload_n C dX2_task_158 rfl ?_
                    refine E.dup C dX2_task_159 (by first | rfl | assumption) ?_
                    refine E.getf C dX2_task_160 hM.cell rfl 3 q2035 (by decide) rfl rfl ?_
                    refine E.iconst C dX2_task_163 (v := nI 1) (by decide) ?_
                    refine E.iaddN C dX2_task_164 ?_
                    refine E.mputN3 C hM dX2_task_165 q2035 ?_
                    intro u hM g9
                    replace hg := hg.tr g9
                    refine E.aload_n C dX2_task_168 rfl ?_
                    refine E.aload_n C dX2_task_169 rfl ?_
                    refine E.getf C dX2_task_170 hM.cell rfl 3 q2035 (by decide) rfl rfl ?_
                    refine E.iconst C dX2_task_173 (v := nI 1) (by decide) ?_
                    refine E.isub C dX2_task_174 ?_
                    refine E.callV C (m_X2_tells hM) dX2_task_175 q2153 q2155 qs33 q76 q2156 mh_X2_tells (by decide) (by decide) hM.rv rfl (Nat.le_of_ble_eq_true rfl) (by omega) (fun _ _ hx => hx.elim) ?_
                    rintro v u ⟨rfl, hM, g9⟩
                    replace hg := hg.tr g9
                    refine E.endI C N dX2_task_178 (by omega) ?_
                    exact MR.mk (by simp [o_task, isRl, oF, oT, sN_1, sI_1, nI_s1, *] <;> rfl) hM hg
                  · refine E.aload_n C dX2_task_100 rfl ?_
                    refine E.iconst C dX2_task_101 (v := nI 3) (by decide) ?_
                    refine E.callV C (m_X2_fails hM) dX2_task_102 q2149 q2151 qs32 q76 q2152 mh_X2_fails (by decide) (by decide) hM.rv rfl (Nat.le_of_ble_eq_true rfl) (by omega) (fun _ _ hx => hx.elim) ?_
                    rintro v u ⟨rfl, hM, g9⟩
                    replace hg := hg.tr g9
                    refine E.endI C N dX2_task_105 (by omega) ?_
                    exact MR.mk (by simp [o_task, isRl, oF, oT, sN_1, sI_1, nI_s1, *] <;> rfl) hM hg
                · refine E.if_ne C dX2_task_82 (tgt := 91) (by decide) (fun c => absurd c (by decide)) (fun cz => ?_)
                  clear cz
                  refine E.aload_n C dX2_task_85 rfl ?_
                  refine E.iconst C dX2_task_86 (v := nI 2) (by decide) ?_
                  refine E.callV C (m_X2_fails hM) dX2_task_87 q2149 q2151 qs32 q76 q2152 mh_X2_fails (by decide) (by decide) hM.rv rfl (Nat.le_of_ble_eq_true rfl) (by omega) (fun _ _ hx => hx.elim) ?_
                  rintro v u ⟨rfl, hM, g9⟩
                  replace hg := hg.tr g9
                  refine E.endI C N dX2_task_90 (by omega) ?_
                  exact MR.mk (by simp [o_task, isRl, oF, oT, sN_1, sI_1, nI_s1, *] <;> rfl) hM hg
              · refine E.if_eq C dX2_task_66 (tgt := 85) (by decide) (fun cz => ?_) (fun c => absurd c (by decide))
                clear cz
                refine E.aload_n C dX2_task_85 rfl ?_
                refine E.iconst C dX2_task_86 (v := nI 2) (by decide) ?_
                refine E.callV C (m_X2_fails hM) dX2_task_87 q2149 q2151 qs32 q76 q2152 mh_X2_fails (by decide) (by decide) hM.rv rfl (Nat.le_of_ble_eq_true rfl) (by omega) (fun _ _ hx => hx.elim) ?_
                rintro v u ⟨rfl, hM, g9⟩
                replace hg := hg.tr g9
                refine E.endI C N dX2_task_90 (by omega) ?_
                exact MR.mk (by simp [o_task, isRl, oF, oT, sN_1, sI_1, nI_s1, *] <;> rfl) hM hg
            · refine E.if_eq C dX2_task_56 (tgt := 85) (by decide) (fun cz => ?_) (fun c => absurd c (by decide))
              clear cz
              refine E.aload_n C dX2_task_85 rfl ?_
              refine E.iconst C dX2_task_86 (v := nI 2) (by decide) ?_
              refine E.callV C (m_X2_fails hM) dX2_task_87 q2149 q2151 qs32 q76 q2152 mh_X2_fails (by decide) (by decide) hM.rv rfl (Nat.le_of_ble_eq_true rfl) (by omega) (fun _ _ hx => hx.elim) ?_
              rintro v u ⟨rfl, hM, g9⟩
              replace hg := hg.tr g9
              refine E.endI C N dX2_task_90 (by omega) ?_
              exact MR.mk (by simp [o_task, isRl, oF, oT, sN_1, sI_1, nI_s1, *] <;> rfl) hM hg
  · refine E.if_ne C dX2_task_5 (tgt := 14) (by decide) (fun c => absurd c (by decide)) (fun cz => ?_)
    clear cz
    refine E.aload_n C dX2_task_8 rfl ?_
    refine E.iconst C dX2_task_9 (v := nI 1) (by decide) ?_
    refine E.callV C (m_X2_fails hM) dX2_task_10 q2149 q2151 qs32 q76 q2152 mh_X2_fails (by decide) (by decide) hM.rv rfl (Nat.le_of_ble_eq_true rfl) (by omega) (fun _ _ hx => hx.elim) ?_
    rintro v u ⟨rfl, hM, g9⟩
    replace hg := hg.tr g9
    refine E.endI C N dX2_task_13 (by omega) ?_
    exact MR.mk (by simp [o_task, isRl, oF, oT, sN_1, sI_1, nI_s1, *] <;> rfl) hM hg
theorem m_X2_insert (hM : MP G h m ad σ) (hW : Wb σ) {p x : Int32} : gMet 3 yX2_insert cX2_insert 4 (some .int) G h [.ref m, .int p, .int x] (MR G h m ad (o_insert σ p x)) gNo 0 := by
  refine gMet.of (by decide) (Nat.le_of_ble_eq_true rfl) (fun K C N hG hn hin => ?_)
  subst hG
  have kn_ : ∀ j : Nat, j < 4 → j < kn K := fun j hj => by rw [hn]; exact hj
  have hg : gfr 1 h h := gfr.rf
  have hW0 := hW
  obtain ⟨b0, b1, b2, b3, b4, b5, b6, b7, b8, b9, b10, b11⟩ := hW
  have lpv : ∀ i, i ≤ σ.1 4 0 → σ.1 4 0 < 40 → sgn x = true → ∀ (d k : Nat) (u : gH), k = i + d → k ≤ σ.1 4 0 → MP (kG K) u m ad (sA σ 7 (insT (σ.2 7) k (σ.1 4 0))) → gfr 1 h u → E K 51 [(0, .ref m), (1, .int (nI i)), (2, .int x), (3, .int (nI k))] [] u 0 := by
    intro i hi h40 hx d
    induction d with
    | zero =>
      intro k u hk hk2 hM hg
      refine E.iload_n C dX2_insert_51 rfl ?_
      refine E.iload_n C dX2_insert_52 rfl ?_
      refine E.icmpN_le C dX2_insert_53 (tgt := 76) (by decide) (by omega) (by omega) (fun c53 => ?_) (fun c53 => absurd c53 (by omega))
      refine E.aload_n C dX2_insert_76 rfl ?_
      refine E.getf C dX2_insert_77 hM.cell rfl 17 q2049 (by decide) rfl rfl ?_
      refine E.iload_n C dX2_insert_80 rfl ?_
      refine E.iload_n C dX2_insert_81 rfl ?_
      refine E.mast17 C hM dX2_insert_82 (by omega) ?_
      intro u hM g9
      replace hg := hg.tr g9
      rw [sA_sI, show i = k by omega, insT_fin] at hM
      refine E.aload_n C dX2_insert_83 rfl ?_
      refine E.dup C dX2_insert_84 (by first | rfl | assumption) ?_
      refine E.getf C dX2_insert_85 hM.cell rfl 5 q2037 (by decide) rfl rfl ?_
      refine E.iconst C dX2_insert_88 (v := nI 1) (by decide) ?_
      refine E.iaddN C dX2_insert_89 ?_
      refine E.mputN5 C hM dX2_insert_90 q2037 ?_
      intro u hM g9
      replace hg := hg.tr g9
      refine E.aload_n C dX2_insert_93 rfl ?_
      refine E.aload_n C dX2_insert_94 rfl ?_
      refine E.callV C (m_X2_chars hM (by simp [sN_1, sA_1]; omega)) dX2_insert_95 q2192 q2194 qs35 q76 q2195 mh_X2_chars (by decide) (by decide) hM.rv rfl (Nat.le_of_ble_eq_true rfl) (by omega) (fun _ _ hx => hx.elim) ?_
      rintro v u ⟨rfl, rfl⟩
      refine E.callV C (m_X2_tells hM) dX2_insert_98 q2153 q2155 qs33 q76 q2156 mh_X2_tells (by decide) (by decide) hM.rv rfl (Nat.le_of_ble_eq_true rfl) (by omega) (fun _ _ hx => hx.elim) ?_
      rintro v u ⟨rfl, hM, g9⟩
      replace hg := hg.tr g9
      refine E.endI C N dX2_insert_101 (by omega) ?_
      exact MR.mk (by rw [o_insert, if_pos (bt_t (nI_pos' (by omega)) ((nI_leI (by omega) (by omega)).mpr hi)), if_pos hx, if_neg (by omega), nI_clamp (by omega), show i = k by omega]; rfl) hM hg
    | succ d ih =>
      intro k u hk hk2 hM hg
      refine E.iload_n C dX2_insert_51 rfl ?_
      refine E.iload_n C dX2_insert_52 rfl ?_
      refine E.icmpN_le C dX2_insert_53 (tgt := 76) (by decide) (by omega) (by omega) (fun c53 => absurd c53 (by omega)) (fun c53 => ?_)
      refine E.aload_n C dX2_insert_56 rfl ?_
      refine E.getf C dX2_insert_57 hM.cell rfl 17 q2049 (by decide) rfl rfl ?_
      refine E.iload_n C dX2_insert_60 rfl ?_
      refine E.aload_n C dX2_insert_61 rfl ?_
      refine E.getf C dX2_insert_62 hM.cell rfl 17 q2049 (by decide) rfl rfl ?_
      refine E.iload_n C dX2_insert_65 rfl ?_
      refine E.iconst C dX2_insert_66 (v := nI 1) (by decide) ?_
      refine E.isubN C dX2_insert_67 (by omega) ?_
      refine E.iald C dX2_insert_68 hM.a17 (nI_in (by omega) (by omega)) (congrArg ((sA σ 7 (insT (σ.2 7) k (σ.1 4 0))).2 7) (nI_clamp (by omega))) ?_
      refine E.mast17 C hM dX2_insert_69 (by omega) ?_
      intro u hM g9
      replace hg := hg.tr g9
      rw [sA_sI, sA_2, if_pos rfl, insT_up (by omega) hk2] at hM
      refine E.iincM C dX2_insert_70 rfl (by omega) (kn_ _ (by decide)) ?_
      refine E.goto C dX2_insert_73 (tgt := 51) (by decide) ?_
      exact ih (k - 1) _ (by omega) (by omega) hM hg
  refine E.iload_n C dX2_insert_0 rfl ?_
  refine E.iconst C dX2_insert_1 (v := nI 0) (by decide) ?_
  refine E.aload_n C dX2_insert_2 rfl ?_
  refine E.getf C dX2_insert_3 hM.cell rfl 5 q2037 (by decide) rfl rfl ?_
  refine E.callS C (m_X2_in) dX2_insert_6 q2146 q2147 q76 q2148 mh_X2_in (by decide) (by decide) rfl (Nat.le_of_ble_eq_true rfl) (by omega) (fun _ _ hx => hx.elim) ?_
  rintro v u (⟨rfl, q6, rfl⟩ | ⟨rfl, q6, rfl⟩)
  · obtain ⟨i6, hi6, rfl⟩ := bt_ixle (by omega) q6
    refine E.if_ne C dX2_insert_9 (tgt := 18) (by decide) (fun cz => ?_) (fun c => absurd c (by decide))
    clear cz
    refine E.iload_n C dX2_insert_18 rfl ?_
    refine E.callS C (m_X2_isSign) dX2_insert_19 q2183 q2184 q76 q2185 mh_X2_isSign (by decide) (by decide) rfl (Nat.le_of_ble_eq_true rfl) (by omega) (fun _ _ hx => hx.elim) ?_
    rintro v u (⟨rfl, q19, rfl⟩ | ⟨rfl, q19, rfl⟩)
    · refine E.if_ne C dX2_insert_22 (tgt := 31) (by decide) (fun cz => ?_) (fun c => absurd c (by decide))
      clear cz
      refine E.aload_n C dX2_insert_31 rfl ?_
      refine E.getf C dX2_insert_32 hM.cell rfl 5 q2037 (by decide) rfl rfl ?_
      refine E.bipush C dX2_insert_35 (v := nI 40) (by decide) ?_
      refine E.icmpN_ne C dX2_insert_37 (tgt := 46) (by decide) (by omega) (by omega) (fun c37 => ?_) (fun c37 => ?_)
      · refine E.aload_n C dX2_insert_46 rfl ?_
        refine E.getf C dX2_insert_47 hM.cell rfl 5 q2037 (by decide) rfl rfl ?_
        refine E.istore_n C dX2_insert_50 (kn_ _ (by decide)) ?_
        exact lpv i6 hi6 (by omega) (by assumption) (σ.1 4 0 - i6) (σ.1 4 0) _ (by omega) (Nat.le_refl _) (by rw [insT_n, sA_s]; exact hM) hg
      · refine E.aload_n C dX2_insert_40 rfl ?_
        refine E.iconst C dX2_insert_41 (v := nI 3) (by decide) ?_
        refine E.callV C (m_X2_fails hM) dX2_insert_42 q2149 q2151 qs32 q76 q2152 mh_X2_fails (by decide) (by decide) hM.rv rfl (Nat.le_of_ble_eq_true rfl) (by omega) (fun _ _ hx => hx.elim) ?_
        rintro v u ⟨rfl, hM, g9⟩
        replace hg := hg.tr g9
        refine E.endI C N dX2_insert_45 (by omega) ?_
        exact MR.mk (by simp [o_insert, oF, oT, *] <;> rfl) hM hg
    · refine E.if_ne C dX2_insert_22 (tgt := 31) (by decide) (fun c => absurd c (by decide)) (fun cz => ?_)
      clear cz
      refine E.aload_n C dX2_insert_25 rfl ?_
      refine E.iconst C dX2_insert_26 (v := nI 2) (by decide) ?_
      refine E.callV C (m_X2_fails hM) dX2_insert_27 q2149 q2151 qs32 q76 q2152 mh_X2_fails (by decide) (by decide) hM.rv rfl (Nat.le_of_ble_eq_true rfl) (by omega) (fun _ _ hx => hx.elim) ?_
      rintro v u ⟨rfl, hM, g9⟩
      replace hg := hg.tr g9
      refine E.endI C N dX2_insert_30 (by omega) ?_
      exact MR.mk (by simp [o_insert, oF, oT, *] <;> rfl) hM hg
  · refine E.if_ne C dX2_insert_9 (tgt := 18) (by decide) (fun c => absurd c (by decide)) (fun cz => ?_)
    clear cz
    refine E.aload_n C dX2_insert_12 rfl ?_
    refine E.iconst C dX2_insert_13 (v := nI 1) (by decide) ?_
    refine E.callV C (m_X2_fails hM) dX2_insert_14 q2149 q2151 qs32 q76 q2152 mh_X2_fails (by decide) (by decide) hM.rv rfl (Nat.le_of_ble_eq_true rfl) (by omega) (fun _ _ hx => hx.elim) ?_
    rintro v u ⟨rfl, hM, g9⟩
    replace hg := hg.tr g9
    refine E.endI C N dX2_insert_17 (by omega) ?_
    exact MR.mk (by simp [o_insert, oF, oT, *] <;> rfl) hM hg
theorem m_X2_reverse (hM : MP G h m ad σ) (hW : Wb σ) : gMet 2 yX2_reverse cX2_reverse 3 (some .int) G h [.ref m] (MR G h m ad (o_reverse σ)) gNo 0 := by
  refine gMet.of (by decide) (Nat.le_of_ble_eq_true rfl) (fun K C N hG hn hin => ?_)
  subst hG
  have kn_ : ∀ j : Nat, j < 3 → j < kn K := fun j hj => by rw [hn]; exact hj
  have hg : gfr 1 h h := gfr.rf
  have hW0 := hW
  obtain ⟨b0, b1, b2, b3, b4, b5, b6, b7, b8, b9, b10, b11⟩ := hW
  have lp : ∀ (d k : Nat) (u : gH), k + d = σ.1 4 0 / 2 → MP (kG K) u m ad (sA σ 7 (rvT (σ.2 7) k (σ.1 4 0))) → gfr 1 h u → E K 2 [(0, .ref m), (1, .int (nI k))] [] u (0) := by
    intro d
    induction d with
    | zero =>
      intro k u hk hM hg
      have ek : k = σ.1 4 0 / 2 := by omega
      subst ek
      refine E.iload_n C dX2_reverse_2 rfl ?_
      refine E.aload_n C dX2_reverse_3 rfl ?_
      refine E.getf C dX2_reverse_4 hM.cell rfl 5 q2037 (by decide) rfl rfl ?_
      refine E.iconst C dX2_reverse_7 (v := nI 2) (by decide) ?_
      refine E.idivN C dX2_reverse_8 (by omega) (by decide) (by decide) ?_
      refine E.icmpN_ge C dX2_reverse_9 (tgt := 58) (by decide) (by omega) (by omega) (fun c9 => ?_) (fun c9 => absurd c9 (by omega))
      refine E.aload_n C dX2_reverse_58 rfl ?_
      refine E.aload_n C dX2_reverse_59 rfl ?_
      refine E.getf C dX2_reverse_60 hM.cell rfl 5 q2037 (by decide) rfl rfl ?_
      refine E.ifN_ne C dX2_reverse_63 (tgt := 70) (by decide) (by omega) (fun c63 => ?_) (fun c63 => ?_)
      · refine E.aload_n C dX2_reverse_70 rfl ?_
        refine E.getf C dX2_reverse_71 hM.cell rfl 17 q2049 (by decide) rfl rfl ?_
        refine E.iconst C dX2_reverse_74 (v := nI 0) (by decide) ?_
        refine E.iald C dX2_reverse_75 hM.a17 (nI_in (by omega) (by omega)) (congrArg ((sA σ 7 (rvT (σ.2 7) (σ.1 4 0 / 2) (σ.1 4 0))).2 7) (nI_clamp (by omega))) ?_
        refine E.callV C (m_X2_tells hM) dX2_reverse_76 q2153 q2155 qs33 q76 q2156 mh_X2_tells (by decide) (by decide) hM.rv rfl (Nat.le_of_ble_eq_true rfl) (by omega) (fun _ _ hx => hx.elim) ?_
        rintro v u ⟨rfl, hM, g9⟩
        replace hg := hg.tr g9
        refine E.endI C N dX2_reverse_79 (by omega) ?_
        first | exact MR.mk (by rw [o_reverse, if_pos (by assumption)]; rfl) hM hg | exact MR.mk (by rw [o_reverse, if_neg (by assumption)]; rfl) hM hg
      · refine E.iconst C dX2_reverse_66 (v := nI 0) (by decide) ?_
        refine E.goto C dX2_reverse_67 (tgt := 76) (by decide) ?_
        refine E.callV C (m_X2_tells hM) dX2_reverse_76 q2153 q2155 qs33 q76 q2156 mh_X2_tells (by decide) (by decide) hM.rv rfl (Nat.le_of_ble_eq_true rfl) (by omega) (fun _ _ hx => hx.elim) ?_
        rintro v u ⟨rfl, hM, g9⟩
        replace hg := hg.tr g9
        refine E.endI C N dX2_reverse_79 (by omega) ?_
        first | exact MR.mk (by rw [o_reverse, if_pos (by assumption)]; rfl) hM hg | exact MR.mk (by rw [o_reverse, if_neg (by assumption)]; rfl) hM hg
    | succ d ih =>
      intro k u hk hM hg
      refine E.iload_n C dX2_reverse_2 rfl ?_
      refine E.aload_n C dX2_reverse_3 rfl ?_
      refine E.getf C dX2_reverse_4 hM.cell rfl 5 q2037 (by decide) rfl rfl ?_
      refine E.iconst C dX2_reverse_7 (v := nI 2) (by decide) ?_
      refine E.idivN C dX2_reverse_8 (by omega) (by decide) (by decide) ?_
      refine E.icmpN_ge C dX2_reverse_9 (tgt := 58) (by decide) (by omega) (by omega) (fun c9 => absurd c9 (by omega)) (fun c9 => ?_)
      refine E.aload_n C dX2_reverse_12 rfl ?_
      refine E.getf C dX2_reverse_13 hM.cell rfl 17 q2049 (by decide) rfl rfl ?_
      refine E.iload_n C dX2_reverse_16 rfl ?_
      refine E.iald C dX2_reverse_17 hM.a17 (nI_in (by omega) (by omega)) (congrArg ((sA σ 7 (rvT (σ.2 7) k (σ.1 4 0))).2 7) (nI_clamp (by omega))) ?_
      refine E.istore_n C dX2_reverse_18 (kn_ _ (by decide)) ?_
      refine E.aload_n C dX2_reverse_19 rfl ?_
      refine E.getf C dX2_reverse_20 hM.cell rfl 17 q2049 (by decide) rfl rfl ?_
      refine E.iload_n C dX2_reverse_23 rfl ?_
      refine E.aload_n C dX2_reverse_24 rfl ?_
      refine E.getf C dX2_reverse_25 hM.cell rfl 17 q2049 (by decide) rfl rfl ?_
      refine E.aload_n C dX2_reverse_28 rfl ?_
      refine E.getf C dX2_reverse_29 hM.cell rfl 5 q2037 (by decide) rfl rfl ?_
      refine E.iconst C dX2_reverse_32 (v := nI 1) (by decide) ?_
      refine E.isubN C dX2_reverse_33 (by omega) ?_
      refine E.iload_n C dX2_reverse_34 rfl ?_
      refine E.isubN C dX2_reverse_35 (by omega) ?_
      refine E.iald C dX2_reverse_36 hM.a17 (nI_in (by omega) (by omega)) (congrArg ((sA σ 7 (rvT (σ.2 7) k (σ.1 4 0))).2 7) (nI_clamp (by omega))) ?_
      refine E.mast17 C hM dX2_reverse_37 (by omega) ?_
      intro u hM g9
      replace hg := hg.tr g9
      rw [sA_sI, sA_2, if_pos rfl] at hM
      refine E.aload_n C dX2_reverse_38 rfl ?_
      refine E.getf C dX2_reverse_39 hM.cell rfl 17 q2049 (by decide) rfl rfl ?_
      refine E.aload_n C dX2_reverse_42 rfl ?_
      refine E.getf C dX2_reverse_43 hM.cell rfl 5 q2037 (by decide) rfl rfl ?_
      refine E.iconst C dX2_reverse_46 (v := nI 1) (by decide) ?_
      refine E.isubN C dX2_reverse_47 (by omega) ?_
      refine E.iload_n C dX2_reverse_48 rfl ?_
      refine E.isubN C dX2_reverse_49 (by omega) ?_
      refine E.iload_n C dX2_reverse_50 rfl ?_
      refine E.mast17 C hM dX2_reverse_51 (by omega) ?_
      intro u hM g9
      replace hg := hg.tr g9
      rw [sA_sI, sA_2, if_pos rfl, rvT_up (by omega)] at hM
      refine E.iincN C dX2_reverse_52 rfl (kn_ _ (by decide)) ?_
      refine E.goto C dX2_reverse_55 (tgt := 2) (by decide) ?_
      exact E.sub [0, 1] rfl (ih (k + 1) _ (by omega) hM hg)
  refine E.iconst C dX2_reverse_0 (v := nI 0) (by decide) ?_
  refine E.istore_n C dX2_reverse_1 (kn_ _ (by decide)) ?_
  exact lp (σ.1 4 0 / 2) 0 _ (by omega) (by rw [rvT_0, sA_s]; exact hM) hg
theorem m_X2_charAt (hM : MP G h m ad σ) (hW : Wb σ) {p : Int32} : gMet 2 yX2_charAt cX2_charAt 4 (some .char) G h [.ref m, .int p] (MR G h m ad (o_charAt σ p)) gNo 0 := by
  refine gMet.of (by decide) (Nat.le_of_ble_eq_true rfl) (fun K C N hG hn hin => ?_)
  subst hG
  have kn_ : ∀ j : Nat, j < 4 → j < kn K := fun j hj => by rw [hn]; exact hj
  have hg : gfr 1 h h := gfr.rf
  have hW0 := hW
  obtain ⟨b0, b1, b2, b3, b4, b5, b6, b7, b8, b9, b10, b11⟩ := hW
  have lp : ∀ (d k : Nat) (left : Int32), k + d = σ.1 4 0 → chA (σ.2 7) d k left = chA (σ.2 7) (σ.1 4 0) 0 p → E K 4 [(0, .ref m), (1, .int p), (2, .int left), (3, .int (nI k))] [] h 0 := by
    intro d
    induction d with
    | zero =>
      intro k left hk hx
      refine E.iload_n C dX2_charAt_4 rfl ?_
      refine E.aload_n C dX2_charAt_5 rfl ?_
      refine E.getf C dX2_charAt_6 hM.cell rfl 5 q2037 (by decide) rfl rfl ?_
      refine E.icmpN_ge C dX2_charAt_9 (tgt := 64) (by decide) (by omega) (by omega) (fun c9 => ?_) (fun c9 => absurd c9 (by omega))
      refine E.aload_n C dX2_charAt_64 rfl ?_
      refine E.iconst C dX2_charAt_65 (v := nI 1) (by decide) ?_
      refine E.mputI9 C hM dX2_charAt_66 q2041 ?_
      intro u hM g9
      replace hg := hg.tr g9
      refine E.iconst C dX2_charAt_69 (v := nI 0) (by decide) ?_
      refine E.endZ C N dX2_charAt_70 rfl (by omega) ?_
      exact MR.mk (by rw [o_charAt, ← hx]; rfl) hM hg
    | succ d ih =>
      intro k left hk hx
      refine E.iload_n C dX2_charAt_4 rfl ?_
      refine E.aload_n C dX2_charAt_5 rfl ?_
      refine E.getf C dX2_charAt_6 hM.cell rfl 5 q2037 (by decide) rfl rfl ?_
      refine E.icmpN_ge C dX2_charAt_9 (tgt := 64) (by decide) (by omega) (by omega) (fun c9 => absurd c9 (by omega)) (fun c9 => ?_)
      refine E.iload_n C dX2_charAt_12 rfl ?_
      refine E.if_lt C dX2_charAt_13 (tgt := 64) (by decide) (fun c13 => ?_) (fun c13 => ?_)
      · refine E.aload_n C dX2_charAt_64 rfl ?_
        refine E.iconst C dX2_charAt_65 (v := nI 1) (by decide) ?_
        refine E.mputI9 C hM dX2_charAt_66 q2041 ?_
        intro u hM g9
        replace hg := hg.tr g9
        refine E.iconst C dX2_charAt_69 (v := nI 0) (by decide) ?_
        refine E.endZ C N dX2_charAt_70 rfl (by omega) ?_
        exact MR.mk (by rw [o_charAt, ← hx, chA, if_pos (by assumption)]) hM hg
      · refine E.iload_n C dX2_charAt_16 rfl ?_
        refine E.aload_n C dX2_charAt_17 rfl ?_
        refine E.getf C dX2_charAt_18 hM.cell rfl 17 q2049 (by decide) rfl rfl ?_
        refine E.iload_n C dX2_charAt_21 rfl ?_
        refine E.iald C dX2_charAt_22 hM.a17 (nI_in (by omega) (by omega)) (congrArg (σ.2 7) (nI_clamp (by omega))) ?_
        refine E.callS C (m_X2_charsOf) dX2_charAt_23 q2196 q2197 q76 q2198 mh_X2_charsOf (by decide) (by decide) rfl (Nat.le_of_ble_eq_true rfl) (by omega) (fun _ _ hx => hx.elim) ?_
        rintro v u ⟨rfl, rfl⟩
        refine E.icmp_ge C dX2_charAt_26 (tgt := 46) (by decide) (fun c26 => ?_) (fun c26 => ?_)
        · refine E.iload_n C dX2_charAt_46 rfl ?_
          refine E.aload_n C dX2_charAt_47 rfl ?_
          refine E.getf C dX2_charAt_48 hM.cell rfl 17 q2049 (by decide) rfl rfl ?_
          refine E.iload_n C dX2_charAt_51 rfl ?_
          refine E.iald C dX2_charAt_52 hM.a17 (nI_in (by omega) (by omega)) (congrArg (σ.2 7) (nI_clamp (by omega))) ?_
          refine E.callS C (m_X2_charsOf) dX2_charAt_53 q2196 q2197 q76 q2198 mh_X2_charsOf (by decide) (by decide) rfl (Nat.le_of_ble_eq_true rfl) (by omega) (fun _ _ hx => hx.elim) ?_
          rintro v u ⟨rfl, rfl⟩
          refine E.isub C dX2_charAt_56 ?_
          refine E.istore_n C dX2_charAt_57 (kn_ _ (by decide)) ?_
          refine E.iincN C dX2_charAt_58 rfl (kn_ _ (by decide)) ?_
          refine E.goto C dX2_charAt_61 (tgt := 4) (by decide) ?_
          exact ih (k + 1) _ (by omega) (by rw [← hx, chA, if_neg (by assumption), if_neg (Int32.not_lt.mpr c26)])
        · refine E.aload_n C dX2_charAt_29 rfl ?_
          refine E.iconst C dX2_charAt_30 (v := nI 0) (by decide) ?_
          refine E.mputI9 C hM dX2_charAt_31 q2041 ?_
          intro u hM g9
          replace hg := hg.tr g9
          refine E.aload_n C dX2_charAt_34 rfl ?_
          refine E.getf C dX2_charAt_35 hM.cell rfl 17 q2049 (by decide) rfl rfl ?_
          refine E.iload_n C dX2_charAt_38 rfl ?_
          refine E.iald C dX2_charAt_39 hM.a17 (nI_in (by omega) (by omega)) (congrArg (σ.2 7) (nI_clamp (by omega))) ?_
          refine E.iload_n C dX2_charAt_40 rfl ?_
          refine E.callS C (m_X2_charOf) dX2_charAt_41 q2212 q2213 q76 q2214 mh_X2_charOf (by decide) (by decide) rfl (Nat.le_of_ble_eq_true rfl) (by omega) (fun _ _ hx => hx.elim) ?_
          rintro v u ⟨rfl, rfl⟩
          refine E.i2c C dX2_charAt_44 ?_
          refine E.endZ C N dX2_charAt_45 (pk_nc _) (by omega) ?_
          exact MR.mk (by rw [o_charAt, ← hx, chA, if_neg (by assumption), if_pos (Int32.not_le.mp c26)]) hM hg
  refine E.iload_n C dX2_charAt_0 rfl ?_
  refine E.istore_n C dX2_charAt_1 (kn_ _ (by decide)) ?_
  refine E.iconst C dX2_charAt_2 (v := nI 0) (by decide) ?_
  refine E.istore_n C dX2_charAt_3 (kn_ _ (by decide)) ?_
  exact lp (σ.1 4 0) 0 p (by omega) rfl
theorem m_X2_finds (hM : MP G h m ad σ) {v : Nat} (hv : v < 60) (hs : σ.1 12 v ≤ 40) : gMet 2 yX2_finds cX2_finds 8 none G h [.ref m, .int (nI v)] (fun w u => w = none ∧ MP G u m ad (fnS σ v) ∧ gfr 1 h u) gNo 0 := by
  refine gMet.of (by decide) (Nat.le_of_ble_eq_true rfl) (fun K C N hG hn hin => ?_)
  subst hG
  have kn_ : ∀ j : Nat, j < 8 → j < kn K := fun j hj => by rw [hn]; exact hj
  have fin : ∀ (k : Nat) (c : Nat) (S : Nat → Int32) (u : gH) (l8 : List (Nat × Value)), k = σ.1 12 v - 3 → fnd (σ.2 11) (40 * v) (σ.2 12) k = (S, c) → MP (kG K) u m ad (sA σ 12 S) → gfr 1 h u → lv_pick l8 [0, 1, 3] = [(0, .ref m), (1, .int (nI v)), (3, .int (nI c))] → E K 176 l8 [] u 0 := by
    intro k c S u l8 hk hf hM hg h8
    refine E.sub [0, 1, 3] h8 ?_
    refine E.aload_n C dX2_finds_176 rfl ?_
    refine E.getf C dX2_finds_177 hM.cell rfl 29 q2061 (by decide) rfl rfl ?_
    refine E.iload_n C dX2_finds_180 rfl ?_
    refine E.iload_n C dX2_finds_181 rfl ?_
    refine E.mast29 C hM dX2_finds_182 (by omega) ?_
    intro u hM g9
    replace hg := hg.tr g9
    refine E.endV C N dX2_finds_183 (by omega) ?_
    refine ⟨rfl, ?_, hg⟩
    rw [fnS, ← hk, hf]
    exact hM
  have cle : ∀ k, (fnd (σ.2 11) (40 * v) (σ.2 12) k).2 ≤ k := by
    intro k
    induction k with
    | zero => exact Nat.le_refl _
    | succ k ih =>
      rw [fnd, fst1]
      split
      · exact Nat.le_succ_of_le ih
      · exact Nat.succ_le_succ ih
  have lp : ∀ (d k c : Nat) (S : Nat → Int32) (u : gH) (l8 : List (Nat × Value)), k + d = σ.1 12 v - 3 → fnd (σ.2 11) (40 * v) (σ.2 12) k = (S, c) → MP (kG K) u m ad (sA σ 12 S) → gfr 1 h u → lv_pick l8 [0, 1, 2, 3, 4] = [(0, .ref m), (1, .int (nI v)), (2, .int (nI (40 * v))), (3, .int (nI c)), (4, .int (nI k))] → E K 10 l8 [] u 0 := by
    intro d
    induction d with
    | zero =>
      intro k c S u l8 hk hf hM hg h8
      refine E.sub [0, 1, 2, 3, 4] h8 ?_
      refine E.iload C dX2_finds_10 rfl ?_
      refine E.iconst C dX2_finds_12 (v := nI 4) (by decide) ?_
      refine E.iaddN C dX2_finds_13 ?_
      refine E.aload_n C dX2_finds_14 rfl ?_
      refine E.getf C dX2_finds_15 hM.cell rfl 22 q2054 (by decide) rfl rfl ?_
      refine E.iload_n C dX2_finds_18 rfl ?_
      refine E.iald C dX2_finds_19 hM.a22 (nI_in (by omega) (by omega)) (congrArg (fun k => nI (σ.1 12 k)) (nI_clamp (by omega))) ?_
      refine E.icmpN_gt C dX2_finds_20 (tgt := 176) (by decide) (by omega) (by omega) (fun c20 => ?_) (fun c20 => absurd c20 (by omega))
      exact fin k c S _ _ (by omega) hf hM hg rfl
    | succ d ih =>
      intro k c S u l8 hk hf hM hg h8
      have hc := cle k
      rw [hf] at hc
      have hc : c ≤ k := hc
      generalize hh : hsh (σ.2 11) (40 * v + k) = hx at *
      have hf2 : fnd (σ.2 11) (40 * v) (σ.2 12) (k + 1) = fst1 S (40 * v) c hx := by rw [fnd, hf, hh]
      have nx : ∀ (c9 : Nat) (S9 : Nat → Int32) (u9 : gH) (l9 : List (Nat × Value)), fst1 S (40 * v) c hx = (S9, c9) → MP (kG K) u9 m ad (sA σ 12 S9) → gfr 1 h u9 → lv_pick l9 [0, 1, 2, 3, 4] = [(0, .ref m), (1, .int (nI v)), (2, .int (nI (40 * v))), (3, .int (nI c9)), (4, .int (nI (k + 1)))] → E K 10 l9 [] u9 0 := fun c9 S9 u9 l9 h1 h2 h3 h4 => ih (k + 1) c9 S9 u9 l9 (by omega) (hf2.trans h1) h2 h3 h4
      have shl : ∀ (at9 : Nat), plc S (40 * v) hx c 0 = at9 → at9 ≤ c → ¬ (at9 < c ∧ S (40 * v + at9) = hx) → ∀ (d2 k2 : Nat) (u2 : gH), k2 = at9 + d2 → k2 ≤ c → MP (kG K) u2 m ad (sA σ 12 (insT S (40 * v + k2) (40 * v + c))) → gfr 1 h u2 → E K 123 [(0, .ref m), (1, .int (nI v)), (2, .int (nI (40 * v))), (3, .int (nI c)), (4, .int (nI k)), (5, .int hx), (6, .int (nI at9)), (7, .int (nI k2))] [] u2 0 := by
        intro at9 ha hac hne d2
        induction d2 with
        | zero =>
          intro k2 u2 hk2 hk3 hM hg
          have e9 : at9 = k2 := by omega
          subst e9
          refine E.iload C dX2_finds_123 rfl ?_
          refine E.iload C dX2_finds_125 rfl ?_
          refine E.icmpN_le C dX2_finds_127 (tgt := 156) (by decide) (by omega) (by omega) (fun c127 => ?_) (fun c127 => absurd c127 (by omega))
          refine E.aload_n C dX2_finds_156 rfl ?_
          refine E.getf C dX2_finds_157 hM.cell rfl 28 q2060 (by decide) rfl rfl ?_
          refine E.iload_n C dX2_finds_160 rfl ?_
          refine E.iload C dX2_finds_161 rfl ?_
          refine E.iaddN C dX2_finds_163 ?_
          refine E.iload C dX2_finds_164 rfl ?_
          refine E.mast28 C hM dX2_finds_166 (by omega) ?_
          intro u hM g9
          replace hg := hg.tr g9
          rw [sA_sI, insT_fin] at hM
          refine E.iincN C dX2_finds_167 rfl (kn_ _ (by decide)) ?_
          refine E.iincN C dX2_finds_170 rfl (kn_ _ (by decide)) ?_
          refine E.goto C dX2_finds_173 (tgt := 10) (by decide) ?_
          exact nx (c + 1) _ _ _ (by rw [fst1, ha, if_neg hne]) hM hg rfl
        | succ d2 ih2 =>
          intro k2 u2 hk2 hk3 hM hg
          refine E.iload C dX2_finds_123 rfl ?_
          refine E.iload C dX2_finds_125 rfl ?_
          refine E.icmpN_le C dX2_finds_127 (tgt := 156) (by decide) (by omega) (by omega) (fun c127 => absurd c127 (by omega)) (fun c127 => ?_)
          refine E.aload_n C dX2_finds_130 rfl ?_
          refine E.getf C dX2_finds_131 hM.cell rfl 28 q2060 (by decide) rfl rfl ?_
          refine E.iload_n C dX2_finds_134 rfl ?_
          refine E.iload C dX2_finds_135 rfl ?_
          refine E.iaddN C dX2_finds_137 ?_
          refine E.aload_n C dX2_finds_138 rfl ?_
          refine E.getf C dX2_finds_139 hM.cell rfl 28 q2060 (by decide) rfl rfl ?_
          refine E.iload_n C dX2_finds_142 rfl ?_
          refine E.iload C dX2_finds_143 rfl ?_
          refine E.iaddN C dX2_finds_145 ?_
          refine E.iconst C dX2_finds_146 (v := nI 1) (by decide) ?_
          refine E.isubN C dX2_finds_147 (by omega) ?_
          refine E.iald C dX2_finds_148 hM.a28 (nI_in (by omega) (by omega)) (congrArg ((sA σ 12 (insT S (40 * v + k2) (40 * v + c))).2 12) (nI_clamp (by omega))) ?_
          refine E.mast28 C hM dX2_finds_149 (by omega) ?_
          intro u hM g9
          replace hg := hg.tr g9
          rw [sA_sI, sA_2, if_pos rfl, insT_up (by omega) (by omega), show 40 * v + k2 - 1 = 40 * v + (k2 - 1) by omega] at hM
          refine E.iincM C dX2_finds_150 rfl (by omega) (kn_ _ (by decide)) ?_
          refine E.goto C dX2_finds_153 (tgt := 123) (by decide) ?_
          exact ih2 (k2 - 1) _ (by omega) (by omega) hM hg
      have pl : ∀ (d2 a : Nat), a + d2 = c → plc S (40 * v) hx d2 a = plc S (40 * v) hx c 0 → E K 71 [(0, .ref m), (1, .int (nI v)), (2, .int (nI (40 * v))), (3, .int (nI c)), (4, .int (nI k)), (5, .int hx), (6, .int (nI a))] [] u 0 := by
        intro d2
        induction d2 with
        | zero =>
          intro a ha hp
          refine E.iload C dX2_finds_71 rfl ?_
          refine E.iload_n C dX2_finds_73 rfl ?_
          refine E.icmpN_ge C dX2_finds_74 (tgt := 97) (by decide) (by omega) (by omega) (fun c74 => ?_) (fun c74 => absurd c74 (by omega))
          refine E.iload C dX2_finds_97 rfl ?_
          refine E.iload_n C dX2_finds_99 rfl ?_
          refine E.icmpN_ge C dX2_finds_100 (tgt := 120) (by decide) (by omega) (by omega) (fun c100 => ?_) (fun c100 => absurd c100 (by omega))
          refine E.iload_n C dX2_finds_120 rfl ?_
          refine E.istore C dX2_finds_121 (kn_ _ (by decide)) ?_
          exact shl a (by rw [← hp]; rfl) (by omega) (by omega) (c - a) c _ (by omega) (Nat.le_refl _) (by rw [insT_n]; exact hM) hg
        | succ d2 ih2 =>
          intro a ha hp
          have pa : S (40 * v + a) < hx ∨ plc S (40 * v) hx c 0 = a := by
            by_cases q : S (40 * v + a) < hx
            · exact Or.inl q
            · exact Or.inr (by rw [← hp, plc, if_neg q])
          refine E.iload C dX2_finds_71 rfl ?_
          refine E.iload_n C dX2_finds_73 rfl ?_
          refine E.icmpN_ge C dX2_finds_74 (tgt := 97) (by decide) (by omega) (by omega) (fun c74 => absurd c74 (by omega)) (fun c74 => ?_)
          refine E.aload_n C dX2_finds_77 rfl ?_
          refine E.getf C dX2_finds_78 hM.cell rfl 28 q2060 (by decide) rfl rfl ?_
          refine E.iload_n C dX2_finds_81 rfl ?_
          refine E.iload C dX2_finds_82 rfl ?_
          refine E.iaddN C dX2_finds_84 ?_
          refine E.iald C dX2_finds_85 hM.a28 (nI_in (by omega) (by omega)) (congrArg ((sA σ 12 S).2 12) (nI_clamp (by omega))) ?_
          refine E.ri (show _ = S (40 * v + a) from rfl) ?_
          refine E.iload C dX2_finds_86 rfl ?_
          refine E.icmp_ge C dX2_finds_88 (tgt := 97) (by decide) (fun c88 => ?_) (fun c88 => ?_)
          · refine E.iload C dX2_finds_97 rfl ?_
            refine E.iload_n C dX2_finds_99 rfl ?_
            refine E.icmpN_ge C dX2_finds_100 (tgt := 120) (by decide) (by omega) (by omega) (fun c100 => absurd c100 (by omega)) (fun c100 => ?_)
            refine E.aload_n C dX2_finds_103 rfl ?_
            refine E.getf C dX2_finds_104 hM.cell rfl 28 q2060 (by decide) rfl rfl ?_
            refine E.iload_n C dX2_finds_107 rfl ?_
            refine E.iload C dX2_finds_108 rfl ?_
            refine E.iaddN C dX2_finds_110 ?_
            refine E.iald C dX2_finds_111 hM.a28 (nI_in (by omega) (by omega)) (congrArg ((sA σ 12 S).2 12) (nI_clamp (by omega))) ?_
            refine E.ri (show _ = S (40 * v + a) from rfl) ?_
            refine E.iload C dX2_finds_112 rfl ?_
            refine E.icmp_ne C dX2_finds_114 (tgt := 120) (by decide) (fun c114 => ?_) (fun c114 => ?_)
            · refine E.iload_n C dX2_finds_120 rfl ?_
              refine E.istore C dX2_finds_121 (kn_ _ (by decide)) ?_
              exact shl a (pa.resolve_left (Int32.not_lt.mpr c88)) (by omega) (fun z => c114 z.2) (c - a) c _ (by omega) (Nat.le_refl _) (by rw [insT_n]; exact hM) hg
            · refine E.goto C dX2_finds_117 (tgt := 170) (by decide) ?_
              refine E.iincN C dX2_finds_170 rfl (kn_ _ (by decide)) ?_
              refine E.goto C dX2_finds_173 (tgt := 10) (by decide) ?_
              exact nx c S _ _ (by rw [fst1, pa.resolve_left (Int32.not_lt.mpr c88), if_pos ⟨by omega, c114⟩]) hM hg rfl
          · refine E.iincN C dX2_finds_91 rfl (kn_ _ (by decide)) ?_
            refine E.goto C dX2_finds_94 (tgt := 71) (by decide) ?_
            exact ih2 (a + 1) (by omega) (by rw [← hp, plc, if_pos (Int32.not_le.mp c88)])
      have hl : ∀ (d2 j : Nat) (x : Int32), j + d2 = 4 → x = hsN (σ.2 11) (40 * v + k) j → E K 29 [(0, .ref m), (1, .int (nI v)), (2, .int (nI (40 * v))), (3, .int (nI c)), (4, .int (nI k)), (5, .int x), (6, .int (nI j))] [] u 0 := by
        intro d2
        induction d2 with
        | zero =>
          intro j x hj hx9
          have ej : j = 4 := by omega
          subst ej
          refine E.iload C dX2_finds_29 rfl ?_
          refine E.iconst C dX2_finds_31 (v := nI 4) (by decide) ?_
          refine E.icmpN_ge C dX2_finds_32 (tgt := 61) (by decide) (by omega) (by omega) (fun c32 => ?_) (fun c32 => absurd c32 (by omega))
          refine E.iload C dX2_finds_61 rfl ?_
          refine E.ldc C dX2_finds_63 q2241 ?_
          refine E.ri (show _ = nI 1048575 from rfl) ?_
          refine E.iand C dX2_finds_65 ?_
          refine E.ri (show _ = hx from by rw [← hh, hsh, hx9]) ?_
          refine E.istore C dX2_finds_66 (kn_ _ (by decide)) ?_
          refine E.iconst C dX2_finds_68 (v := nI 0) (by decide) ?_
          refine E.istore C dX2_finds_69 (kn_ _ (by decide)) ?_
          exact pl c 0 (by omega) rfl
        | succ d2 ih2 =>
          intro j x hj hx9
          refine E.iload C dX2_finds_29 rfl ?_
          refine E.iconst C dX2_finds_31 (v := nI 4) (by decide) ?_
          refine E.icmpN_ge C dX2_finds_32 (tgt := 61) (by decide) (by omega) (by omega) (fun c32 => absurd c32 (by omega)) (fun c32 => ?_)
          refine E.iload C dX2_finds_35 rfl ?_
          refine E.callS C (m_X2_turned) dX2_finds_37 q2238 q2239 q76 q2240 mh_X2_turned (by decide) (by decide) rfl (Nat.le_of_ble_eq_true rfl) (by omega) (fun _ _ hx => hx.elim) ?_
          rintro v u ⟨rfl, rfl⟩
          refine E.aload_n C dX2_finds_40 rfl ?_
          refine E.getf C dX2_finds_41 hM.cell rfl 27 q2059 (by decide) rfl rfl ?_
          refine E.iload_n C dX2_finds_44 rfl ?_
          refine E.iload C dX2_finds_45 rfl ?_
          refine E.iaddN C dX2_finds_47 ?_
          refine E.iload C dX2_finds_48 rfl ?_
          refine E.iaddN C dX2_finds_50 ?_
          refine E.iald C dX2_finds_51 hM.a27 (nI_in (by omega) (by omega)) (congrArg ((sA σ 12 S).2 11) (nI_clamp (by omega))) ?_
          refine E.ixor C dX2_finds_52 ?_
          refine E.istore C dX2_finds_53 (kn_ _ (by decide)) ?_
          refine E.iincN C dX2_finds_55 rfl (kn_ _ (by decide)) ?_
          refine E.goto C dX2_finds_58 (tgt := 29) (by decide) ?_
          exact ih2 (j + 1) _ (by omega) (by rw [hx9]; rfl)
      refine E.sub [0, 1, 2, 3, 4] h8 ?_
      refine E.iload C dX2_finds_10 rfl ?_
      refine E.iconst C dX2_finds_12 (v := nI 4) (by decide) ?_
      refine E.iaddN C dX2_finds_13 ?_
      refine E.aload_n C dX2_finds_14 rfl ?_
      refine E.getf C dX2_finds_15 hM.cell rfl 22 q2054 (by decide) rfl rfl ?_
      refine E.iload_n C dX2_finds_18 rfl ?_
      refine E.iald C dX2_finds_19 hM.a22 (nI_in (by omega) (by omega)) (congrArg (fun k => nI (σ.1 12 k)) (nI_clamp (by omega))) ?_
      refine E.icmpN_gt C dX2_finds_20 (tgt := 176) (by decide) (by omega) (by omega) (fun c20 => absurd c20 (by omega)) (fun c20 => ?_)
      refine E.iconst C dX2_finds_23 (v := nI 0) (by decide) ?_
      refine E.istore C dX2_finds_24 (kn_ _ (by decide)) ?_
      refine E.iconst C dX2_finds_26 (v := nI 0) (by decide) ?_
      refine E.istore C dX2_finds_27 (kn_ _ (by decide)) ?_
      exact E.sub [0, 1, 2, 3, 4, 5, 6] rfl (hl 4 0 _ (by omega) rfl)
  refine E.bipush C dX2_finds_0 (v := nI 40) (by decide) ?_
  refine E.iload_n C dX2_finds_2 rfl ?_
  refine E.imulN C dX2_finds_3 ?_
  refine E.istore_n C dX2_finds_4 (kn_ _ (by decide)) ?_
  refine E.iconst C dX2_finds_5 (v := nI 0) (by decide) ?_
  refine E.istore_n C dX2_finds_6 (kn_ _ (by decide)) ?_
  refine E.iconst C dX2_finds_7 (v := nI 0) (by decide) ?_
  refine E.istore C dX2_finds_8 (kn_ _ (by decide)) ?_
  exact lp (σ.1 12 v - 3) 0 0 (σ.2 12) _ _ (by omega) rfl (by rw [sA_s]; exact hM) gfr.rf rfl
end M6
