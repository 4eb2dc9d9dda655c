set_option maxRecDepth 100000
/-! the Reader: an order of a season that is no block -/
theorem C_x_plain {own : Int → Int} {sz : Int} {im : Int → aIm} {ct : Int → Int → Int} {a : Int} {s N tp : Int → Int} {n p : Int} {Q : aPost} (Z : ZR own sz im ct a s N tp n p) (hA : (11 ≤ tW tp n p ∧ tW tp n p ≤ 16) ∨ tW tp n p = 20) (hF : ∀ (k pl sz1 : Int) (im1 : Int → aIm) (ct1 : Int → Int → Int), ordP tp n (tE tp n p) s N (tW tp n p) = .inl (k, pl) → GB a sz im ct sz1 im1 ct1 k pl → Q (.inr (0, 7)) (sz1, im1, ct1)) (hQ : ∀ (q kk A B C E : Int) (im1 : Int → aIm) (ct1 : Int → Int → Int), ordP tp n (tE tp n p) s N (tW tp n p) = .inr (q, kk, A, B, C, E) → RDX (sz + 1) im1 ct1 a tp n q → GR a sz im ct (sz + 1) im1 ct1 → aob (sz + 1) im1 sz 12 → ((im1 sz).2.2 0 = (if kk = 20 then 6 else kk - 11) ∧ (im1 sz).2.2 1 = A ∧ (im1 sz).2.2 2 = B ∧ (im1 sz).2.2 3 = C ∧ (im1 sz).2.2 4 = E) → Q (.inl (some (vR sz))) (sz + 1, im1, ct1)) : AMet md_X8_plain 10 1 5 [vR a, vR 10] (sz, im, ct) Q := by
  refine AMet.go (L := [some (vR a), some (vR 10), none, none, none, none]) mok_X8_plain (Nat.le_of_ble_eq_true rfl) rfl ?_
  have HR := Z.1
  have ha := HR.1.1.1
  have ha1 := ha.2.1
  have ha0 := ha.1
  have hP0 := Z.2.2.2.2.1
  have hPq := Z.2.2.2.2.2.2.2.1.1
  refine aw_aload_n dX8_plain_0 rfl ?_
  refine c_X8_119 rfl dX8_plain_1 ha (Nat.le_of_ble_eq_true rfl) (by omega) (C_x_acts HR (fun v hv => ?_))
  refine aK_i ?_
  refine aw_istore2 dX8_plain_4 (by decide) rfl ?_
  refine aw_aload_n dX8_plain_5 rfl ?_
  refine c_X8_19 rfl dX8_plain_6 ha (Nat.le_of_ble_eq_true rfl) (by omega) (C_x_next HR.1 HR.goes.1 HR.goes.2 (fun ct1 HR1 f1 => ?_))
  have g1 := GR.rf.fa f1 (sz := sz) (im := im)
  have Z1 := Z.gr g1 HR1
  refine aK_v ?_
  refine aw_iload_n dX8_plain_9 rfl ?_
  refine aw_ifne (tgt := 32) dX8_plain_10 (by decide) (fun h10 => ?_) (fun h10 => ?_)
  · refine aw_iload_n dX8_plain_32 rfl ?_
    refine aw_iconst dX8_plain_33 (by decide) ?_
    refine aw_icmpne (tgt := 56) dX8_plain_34 (by decide) (fun h34 => ?_) (fun h34 => ?_)
    · refine aw_iload_n dX8_plain_56 rfl ?_
      refine aw_bipush dX8_plain_57 (by decide) ?_
      refine aw_icmpne (tgt := 75) dX8_plain_59 (by decide) (fun h59 => ?_) (fun h59 => ?_)
      · refine aw_iload_n dX8_plain_75 rfl ?_
        refine aw_iconst dX8_plain_76 (by decide) ?_
        refine aw_icmpne (tgt := 117) dX8_plain_77 (by decide) (fun h77 => ?_) (fun h77 => ?_)
        · have hv3 : tW tp n p = 12 ∧ v = 1 ∨ tW tp n p = 13 ∧ v = 2 ∨ tW tp n p = 14 ∧ v = 3 := by omega
          rcases hv3 with ⟨hw, hv1⟩ | ⟨hw, hv1⟩ | ⟨hw, hv1⟩
          · rw [hw, ordP_12] at hF hQ
            refine aw_aload_n dX8_plain_117 rfl ?_
            refine aw_aload_n dX8_plain_118 rfl ?_
            refine c_X8_255 rfl dX8_plain_119 HR1.1.1.1 (Nat.le_of_ble_eq_true rfl) (by omega) (C_x_rhive (la := 0) Z1.1 Z1.2.1.choose_spec (fun k9 pl9 ct9 y2 f9 => ?_) (fun v2 q2 ct2 y2 HR2 f2 => ?_))
            · exact aK_x (ax_out rfl (hF _ _ _ _ _ (by exact bnd_l (show hvP tp n _ s N = _ from y2)) (g1.fb f9)))
            · have g2 := g1.fa f2
              have Z2 := Z.gr g2 HR2
              have y2 : hvP tp n _ s N = .inr (v2, q2) := y2
              have yb2 := hvP_p Z1.1.2.1.2 hP0.1 y2
              refine aK_i ?_
              refine aw_istore3 dX8_plain_122 (by decide) rfl ?_
              refine aw_aload_n dX8_plain_123 rfl ?_
              refine aw_iconst dX8_plain_124 (by decide) ?_
              refine aw_iload_n dX8_plain_125 rfl ?_
              refine aw_iconst dX8_plain_126 (by decide) ?_
              refine aw_icmpne (tgt := 136) dX8_plain_127 (by decide) (fun h127 => ?_) (fun h127 => ?_)
              · exfalso; omega
              · refine aw_sipush dX8_plain_130 (by decide) ?_
                refine aw_goto (tgt := 148) dX8_plain_133 (by decide) ?_
                refine c_X8_76 rfl dX8_plain_148 HR2.1.1.1 (Nat.le_of_ble_eq_true rfl) (by omega) (C_x_rnum Z2.1 (fun k9 pl9 ct9 y3 f9 => ?_) (fun v3 q3 ct3 y3 HR3 f3 => ?_))
                · exact aK_x (ax_out rfl (hF _ _ _ _ _ (by rw [bnd_r y2]; exact bnd_l y3) (g2.fb f9)))
                · have g3 := g2.fa f3
                  have Z3 := Z.gr g3 HR3
                  refine aK_i ?_
                  refine aw_istore4 dX8_plain_151 (by decide) rfl ?_
                  refine aw_iload_n dX8_plain_153 rfl ?_
                  refine aw_iconst dX8_plain_154 (by decide) ?_
                  refine aw_icmpeq (tgt := 172) dX8_plain_155 (by decide) (fun h155 => ?_) (fun h155 => ?_)
                  · exfalso; omega
                  · refine AW.widen (kc' := 0 + 1) (ks' := 0 + 5) (by first | decide | omega) (by first | decide | omega) (aw_new (c9 := 12) (q := (RX14, TX14, 5)) (N9 := 5) dX8_plain_158 rfl q960 q961 q142 rfl ?_)
                    have g4 := g3.new (z := (12, 0, adf 12)) (g := adf 12) ha1
                    have HR4 := HR3.new (z := (12, 0, adf 12)) (g := adf 12)
                    have Z4 := Z.gr g4 HR4
                    refine aw_dup dX8_plain_161 rfl ?_
                    refine aw_iload_n dX8_plain_162 rfl ?_
                    refine aw_iload_n dX8_plain_163 rfl ?_
                    refine aw_iload dX8_plain_164 rfl ?_
                    refine aw_iconst dX8_plain_166 (by decide) ?_
                    refine aw_iconst dX8_plain_167 (by decide) ?_
                    refine c_X8_252 rfl dX8_plain_168 (by omega) (Nat.le_of_ble_eq_true rfl) (by omega) (C_x_actinit (aob_at (by omega)) (fun im9 o9 w9 z9 => ?_))
                    refine aK_v ?_
                    refine aw_areturn dX8_plain_171 rfl (Or.inl ⟨_, rfl⟩) ?_
                    exact hQ _ _ _ _ _ _ im9 _ (by rw [bnd_r y2, bnd_r y3]) (HR4.mono2 (Int.le_refl _) (fun x hx => z9 x (by have q0 := HR.1.2.1.1.2.1; have q6 := HR.1.2.1.2.2.2.1.2.1; have q7 := HR.1.2.1.2.2.2.2.2.1; omega)) rfl (fun _ _ => rfl)) ⟨g4.1, fun x hx => ⟨by rw [z9 x (by omega)]; exact (g4.2.1 x hx).1, (g4.2.1 x hx).2⟩, g4.2.2⟩ o9 ⟨by rw [w9.1]; omega, w9.2.1, w9.2.2.1, w9.2.2.2.1, w9.2.2.2.2⟩
          · rw [hw, ordP_13] at hF hQ
            refine aw_aload_n dX8_plain_117 rfl ?_
            refine aw_aload_n dX8_plain_118 rfl ?_
            refine c_X8_255 rfl dX8_plain_119 HR1.1.1.1 (Nat.le_of_ble_eq_true rfl) (by omega) (C_x_rhive (la := 0) Z1.1 Z1.2.1.choose_spec (fun k9 pl9 ct9 y2 f9 => ?_) (fun v2 q2 ct2 y2 HR2 f2 => ?_))
            · exact aK_x (ax_out rfl (hF _ _ _ _ _ (by exact bnd_l (show hvP tp n _ s N = _ from y2)) (g1.fb f9)))
            · have g2 := g1.fa f2
              have Z2 := Z.gr g2 HR2
              have y2 : hvP tp n _ s N = .inr (v2, q2) := y2
              have yb2 := hvP_p Z1.1.2.1.2 hP0.1 y2
              refine aK_i ?_
              refine aw_istore3 dX8_plain_122 (by decide) rfl ?_
              refine aw_aload_n dX8_plain_123 rfl ?_
              refine aw_iconst dX8_plain_124 (by decide) ?_
              refine aw_iload_n dX8_plain_125 rfl ?_
              refine aw_iconst dX8_plain_126 (by decide) ?_
              refine aw_icmpne (tgt := 136) dX8_plain_127 (by decide) (fun h127 => ?_) (fun h127 => ?_)
              · have Yh2 := Z2.2.1.choose_spec.2.2.2.2.2.2.2 v2 yb2.1.1 yb2.1.2
                have pn2 := (Z.2.2.2.2.2.2.1 v2 yb2.1.1 yb2.1.2).1
                refine aw_aload_n dX8_plain_136 rfl ?_
                refine g_X8_184_5 rfl dX8_plain_137 Z2.2.1.choose_spec.1 ?_
                refine aw_iload_n dX8_plain_140 rfl ?_
                refine aw_aaload dX8_plain_141 Z2.2.1.choose_spec.2.2.1 (by decide) (by omega) (by omega) ?_
                refine g_X8_257_9 rfl dX8_plain_142 Yh2.1.1 ?_
                refine aw_alen dX8_plain_145 Yh2.1.2.1 ?_
                refine aw_iconst dX8_plain_146 (by decide) ?_
                refine aw_isubr dX8_plain_147 (by omega) ?_
                refine c_X8_76 rfl dX8_plain_148 HR2.1.1.1 (Nat.le_of_ble_eq_true rfl) (by omega) (C_x_rnum Z2.1 (fun k9 pl9 ct9 y3 f9 => ?_) (fun v3 q3 ct3 y3 HR3 f3 => ?_))
                · exact aK_x (ax_out rfl (hF _ _ _ _ _ (by rw [bnd_r y2]; exact bnd_l y3) (g2.fb f9)))
                · have g3 := g2.fa f3
                  have Z3 := Z.gr g3 HR3
                  refine aK_i ?_
                  refine aw_istore4 dX8_plain_151 (by decide) rfl ?_
                  refine aw_iload_n dX8_plain_153 rfl ?_
                  refine aw_iconst dX8_plain_154 (by decide) ?_
                  refine aw_icmpeq (tgt := 172) dX8_plain_155 (by decide) (fun h155 => ?_) (fun h155 => ?_)
                  · exfalso; omega
                  · refine AW.widen (kc' := 0 + 1) (ks' := 0 + 5) (by first | decide | omega) (by first | decide | omega) (aw_new (c9 := 12) (q := (RX14, TX14, 5)) (N9 := 5) dX8_plain_158 rfl q960 q961 q142 rfl ?_)
                    have g4 := g3.new (z := (12, 0, adf 12)) (g := adf 12) ha1
                    have HR4 := HR3.new (z := (12, 0, adf 12)) (g := adf 12)
                    have Z4 := Z.gr g4 HR4
                    refine aw_dup dX8_plain_161 rfl ?_
                    refine aw_iload_n dX8_plain_162 rfl ?_
                    refine aw_iload_n dX8_plain_163 rfl ?_
                    refine aw_iload dX8_plain_164 rfl ?_
                    refine aw_iconst dX8_plain_166 (by decide) ?_
                    refine aw_iconst dX8_plain_167 (by decide) ?_
                    refine c_X8_252 rfl dX8_plain_168 (by omega) (Nat.le_of_ble_eq_true rfl) (by omega) (C_x_actinit (aob_at (by omega)) (fun im9 o9 w9 z9 => ?_))
                    refine aK_v ?_
                    refine aw_areturn dX8_plain_171 rfl (Or.inl ⟨_, rfl⟩) ?_
                    exact hQ _ _ _ _ _ _ im9 _ (by rw [bnd_r y2, bnd_r (show frP tp n q2 s v2 = _ from y3)]) (HR4.mono2 (Int.le_refl _) (fun x hx => z9 x (by have q0 := HR.1.2.1.1.2.1; have q6 := HR.1.2.1.2.2.2.1.2.1; have q7 := HR.1.2.1.2.2.2.2.2.1; omega)) rfl (fun _ _ => rfl)) ⟨g4.1, fun x hx => ⟨by rw [z9 x (by omega)]; exact (g4.2.1 x hx).1, (g4.2.1 x hx).2⟩, g4.2.2⟩ o9 ⟨by rw [w9.1]; omega, w9.2.1, w9.2.2.1, w9.2.2.2.1, w9.2.2.2.2⟩
              · exfalso; omega
          · rw [hw, ordP_14] at hF hQ
            refine aw_aload_n dX8_plain_117 rfl ?_
            refine aw_aload_n dX8_plain_118 rfl ?_
            refine c_X8_255 rfl dX8_plain_119 HR1.1.1.1 (Nat.le_of_ble_eq_true rfl) (by omega) (C_x_rhive (la := 0) Z1.1 Z1.2.1.choose_spec (fun k9 pl9 ct9 y2 f9 => ?_) (fun v2 q2 ct2 y2 HR2 f2 => ?_))
            · exact aK_x (ax_out rfl (hF _ _ _ _ _ (by exact bnd_l (show hvP tp n _ s N = _ from y2)) (g1.fb f9)))
            · have g2 := g1.fa f2
              have Z2 := Z.gr g2 HR2
              have y2 : hvP tp n _ s N = .inr (v2, q2) := y2
              have yb2 := hvP_p Z1.1.2.1.2 hP0.1 y2
              refine aK_i ?_
              refine aw_istore3 dX8_plain_122 (by decide) rfl ?_
              refine aw_aload_n dX8_plain_123 rfl ?_
              refine aw_iconst dX8_plain_124 (by decide) ?_
              refine aw_iload_n dX8_plain_125 rfl ?_
              refine aw_iconst dX8_plain_126 (by decide) ?_
              refine aw_icmpne (tgt := 136) dX8_plain_127 (by decide) (fun h127 => ?_) (fun h127 => ?_)
              · have Yh2 := Z2.2.1.choose_spec.2.2.2.2.2.2.2 v2 yb2.1.1 yb2.1.2
                have pn2 := (Z.2.2.2.2.2.2.1 v2 yb2.1.1 yb2.1.2).1
                refine aw_aload_n dX8_plain_136 rfl ?_
                refine g_X8_184_5 rfl dX8_plain_137 Z2.2.1.choose_spec.1 ?_
                refine aw_iload_n dX8_plain_140 rfl ?_
                refine aw_aaload dX8_plain_141 Z2.2.1.choose_spec.2.2.1 (by decide) (by omega) (by omega) ?_
                refine g_X8_257_9 rfl dX8_plain_142 Yh2.1.1 ?_
                refine aw_alen dX8_plain_145 Yh2.1.2.1 ?_
                refine aw_iconst dX8_plain_146 (by decide) ?_
                refine aw_isubr dX8_plain_147 (by omega) ?_
                refine c_X8_76 rfl dX8_plain_148 HR2.1.1.1 (Nat.le_of_ble_eq_true rfl) (by omega) (C_x_rnum Z2.1 (fun k9 pl9 ct9 y3 f9 => ?_) (fun v3 q3 ct3 y3 HR3 f3 => ?_))
                · exact aK_x (ax_out rfl (hF _ _ _ _ _ (by rw [bnd_r y2]; exact bnd_l y3) (g2.fb f9)))
                · have g3 := g2.fa f3
                  have Z3 := Z.gr g3 HR3
                  refine aK_i ?_
                  refine aw_istore4 dX8_plain_151 (by decide) rfl ?_
                  refine aw_iload_n dX8_plain_153 rfl ?_
                  refine aw_iconst dX8_plain_154 (by decide) ?_
                  refine aw_icmpeq (tgt := 172) dX8_plain_155 (by decide) (fun h155 => ?_) (fun h155 => ?_)
                  · refine aw_aload_n dX8_plain_172 rfl ?_
                    refine aw_aload_n dX8_plain_173 rfl ?_
                    refine c_X8_255 rfl dX8_plain_174 HR3.1.1.1 (Nat.le_of_ble_eq_true rfl) (by omega) (C_x_rhive (la := 0) Z3.1 Z3.2.1.choose_spec (fun k9 pl9 ct9 y4 f9 => ?_) (fun v4 q4 ct4 y4 HR4 f4 => ?_))
                    · exact aK_x (ax_out rfl (hF _ _ _ _ _ (by rw [bnd_r y2, bnd_r (show frP tp n q2 s v2 = _ from y3)]; exact bnd_l (show hvP tp n _ s N = _ from y4)) (g3.fb f9)))
                    · have g4 := g3.fa f4
                      have Z4 := Z.gr g4 HR4
                      have y4 : hvP tp n _ s N = .inr (v4, q4) := y4
                      have yb4 := hvP_p Z3.1.2.1.2 hP0.1 y4
                      refine aK_i ?_
                      refine aw_istore5 dX8_plain_177 (by decide) rfl ?_
                      refine AW.widen (kc' := 0 + 1) (ks' := 0 + 5) (by first | decide | omega) (by first | decide | omega) (aw_new (c9 := 12) (q := (RX14, TX14, 5)) (N9 := 5) dX8_plain_179 rfl q960 q961 q142 rfl ?_)
                      have g5 := g4.new (z := (12, 0, adf 12)) (g := adf 12) ha1
                      have HR5 := HR4.new (z := (12, 0, adf 12)) (g := adf 12)
                      have Z5 := Z.gr g5 HR5
                      have Yh5 := Z5.2.1.choose_spec.2.2.2.2.2.2.2 v4 yb4.1.1 yb4.1.2
                      have pn5 := (Z.2.2.2.2.2.2.1 v4 yb4.1.1 yb4.1.2).1
                      refine aw_dup dX8_plain_182 rfl ?_
                      refine aw_iload_n dX8_plain_183 rfl ?_
                      refine aw_iload_n dX8_plain_184 rfl ?_
                      refine aw_iload dX8_plain_185 rfl ?_
                      refine aw_iload dX8_plain_187 rfl ?_
                      refine aw_aload_n dX8_plain_189 rfl ?_
                      refine aw_iconst dX8_plain_190 (by decide) ?_
                      refine aw_aload_n dX8_plain_191 rfl ?_
                      refine g_X8_184_5 rfl dX8_plain_192 Z5.2.1.choose_spec.1 ?_
                      refine aw_iload dX8_plain_195 rfl ?_
                      refine aw_aaload dX8_plain_197 Z5.2.1.choose_spec.2.2.1 (by decide) (by omega) (by omega) ?_
                      refine g_X8_257_9 rfl dX8_plain_198 Yh5.1.1 ?_
                      refine aw_alen dX8_plain_201 Yh5.1.2.1 ?_
                      refine aw_iconst dX8_plain_202 (by decide) ?_
                      refine aw_isubr dX8_plain_203 (by omega) ?_
                      refine c_X8_76 rfl dX8_plain_204 HR5.1.1.1 (Nat.le_of_ble_eq_true rfl) (by omega) (C_x_rnum Z5.1 (fun k9 pl9 ct9 y6 f9 => ?_) (fun v6 q6 ct6 y6 HR6 f6 => ?_))
                      · exact aK_x (ax_out rfl (hF _ _ _ _ _ (by rw [bnd_r y2, bnd_r (show frP tp n q2 s v2 = _ from y3), bnd_r y4]; exact bnd_l y6) (g5.fb f9)))
                      · have g6 := g5.fa f6
                        have Z6 := Z.gr g6 HR6
                        refine aK_i ?_
                        refine c_X8_252 rfl dX8_plain_207 (by omega) (Nat.le_of_ble_eq_true rfl) (by omega) (C_x_actinit (aob_at (by omega)) (fun im9 o9 w9 z9 => ?_))
                        refine aK_v ?_
                        refine aw_areturn dX8_plain_210 rfl (Or.inl ⟨_, rfl⟩) ?_
                        exact hQ _ _ _ _ _ _ im9 _ (by rw [bnd_r y2, bnd_r (show frP tp n q2 s v2 = _ from y3), bnd_r y4, bnd_r (show frP tp n q4 s v4 = _ from y6)]) (HR6.mono2 (Int.le_refl _) (fun x hx => z9 x (by have q0 := HR.1.2.1.1.2.1; have q6 := HR.1.2.1.2.2.2.1.2.1; have q7 := HR.1.2.1.2.2.2.2.2.1; omega)) rfl (fun _ _ => rfl)) ⟨g6.1, fun x hx => ⟨by rw [z9 x (by omega)]; exact (g6.2.1 x hx).1, (g6.2.1 x hx).2⟩, g6.2.2⟩ o9 ⟨by rw [w9.1]; omega, w9.2.1, w9.2.2.1, w9.2.2.2.1, w9.2.2.2.2⟩
                  · exfalso; omega
              · exfalso; omega
        · have hw : tW tp n p = 16 := by omega
          rw [hw, ordP_16] at hF hQ
          refine aw_aload_n dX8_plain_80 rfl ?_
          refine aw_aload_n dX8_plain_81 rfl ?_
          refine g_X8_149_5 rfl dX8_plain_82 Z1.2.1.choose_spec.1 ?_
          skip
          refine aw_aload_n dX8_plain_85 rfl ?_
          refine c_X8_139 rfl dX8_plain_86 ha (Nat.le_of_ble_eq_true rfl) (by omega) (C_x_name HR1 (fun k9 pl9 ct9 e9 f9 => ?_) (fun x e9 => ?_))
          · exact aK_x (ax_out rfl (hF _ _ _ _ _ (bnd_l (show oldP tp n (tE tp n p) N 12 (s 1) = .inl (k9, pl9) from bnd_l e9)) (g1.fb f9)))
          · have hfb := fnd_bd (N := N) (b := 12) (c := s 1) (x := x) hPq.1.1
            refine aK_i ?_
            refine c_X8_153 rfl dX8_plain_89 Z1.2.2.1.1 (Nat.le_of_ble_eq_true rfl) (by omega) (C_x_queenNamed Z1.2.2.1 ?_)
            refine aK_i ?_
            refine c_X8_161 rfl dX8_plain_92 ha (Nat.le_of_ble_eq_true rfl) (by omega) (C_x_known HR1 (fun ct9 hk f9 => ?_) (fun hk => ?_))
            · exact aK_x (ax_out rfl (hF _ _ _ _ _ (bnd_l (show oldP tp n (tE tp n p) N 12 (s 1) = .inl (3, tF tp n (tE tp n p)) from by unfold oldP; rw [bnd_r e9, if_pos (by omega)])) (g1.fb f9)))
            · refine aK_i ?_
              refine aw_istore3 dX8_plain_95 (by decide) rfl ?_
              refine aw_aload_n dX8_plain_96 rfl ?_
              refine c_X8_19 rfl dX8_plain_97 HR1.1.1.1 (Nat.le_of_ble_eq_true rfl) (by omega) (C_x_next HR1.1 HR1.goes.1 HR1.goes.2 (fun ct2 HR2 f2 => ?_))
              have g2 := g1.fa f2
              have y2 : oldP tp n (tE tp n p) N 12 (s 1) = .inr (fnd N 12 (s 1) x, tE tp n (tE tp n p)) := by unfold oldP; rw [bnd_r e9, if_neg (by omega)]
              refine aK_v ?_
              refine AW.widen (kc' := 0 + 1) (ks' := 0 + 5) (by first | decide | omega) (by first | decide | omega) (aw_new (c9 := 12) (q := (RX14, TX14, 5)) (N9 := 5) dX8_plain_100 rfl q960 q961 q142 rfl ?_)
              have g3 := g2.new (z := (12, 0, adf 12)) (g := adf 12) ha1
              have HR3 := HR2.new (z := (12, 0, adf 12)) (g := adf 12)
              have Z3 := Z.gr g3 HR3
              refine aw_dup dX8_plain_103 rfl ?_
              refine aw_iload_n dX8_plain_104 rfl ?_
              refine aw_iload_n dX8_plain_105 rfl ?_
              refine aw_aload_n dX8_plain_106 rfl ?_
              refine aw_aload_n dX8_plain_107 rfl ?_
              refine c_X8_255 rfl dX8_plain_108 HR3.1.1.1 (Nat.le_of_ble_eq_true rfl) (by omega) (C_x_rhive (la := 0) Z3.1 Z3.2.1.choose_spec (fun k9 pl9 ct9 y4 f9 => ?_) (fun v4 q4 ct4 y4 HR4 f4 => ?_))
              · exact aK_x (ax_out rfl (hF _ _ _ _ _ (by rw [bnd_r y2]; exact bnd_l (show hvP tp n _ s N = _ from y4)) (g3.fb f9)))
              · have g4 := g3.fa f4
                have Z4 := Z.gr g4 HR4
                have y4 : hvP tp n _ s N = .inr (v4, q4) := y4
                have yb4 := hvP_p Z3.1.2.1.2 hP0.1 y4
                refine aK_i ?_
                refine aw_iconst dX8_plain_111 (by decide) ?_
                refine aw_iconst dX8_plain_112 (by decide) ?_
                refine c_X8_252 rfl dX8_plain_113 (by omega) (Nat.le_of_ble_eq_true rfl) (by omega) (C_x_actinit (aob_at (by omega)) (fun im9 o9 w9 z9 => ?_))
                refine aK_v ?_
                refine aw_areturn dX8_plain_116 rfl (Or.inl ⟨_, rfl⟩) ?_
                exact hQ _ _ _ _ _ _ im9 _ (by rw [bnd_r y2, bnd_r y4]) (HR4.mono2 (Int.le_refl _) (fun x hx => z9 x (by have q0 := HR.1.2.1.1.2.1; have q6 := HR.1.2.1.2.2.2.1.2.1; have q7 := HR.1.2.1.2.2.2.2.2.1; omega)) rfl (fun _ _ => rfl)) ⟨g4.1, fun x hx => ⟨by rw [z9 x (by omega)]; exact (g4.2.1 x hx).1, (g4.2.1 x hx).2⟩, g4.2.2⟩ o9 ⟨by rw [w9.1]; omega, w9.2.1, w9.2.2.1, w9.2.2.2.1, w9.2.2.2.2⟩
      · have hw : tW tp n p = 20 := by omega
        rw [hw, ordP_19 (by decide)] at hF hQ
        refine AW.widen (kc' := 0 + 1) (ks' := 0 + 5) (by first | decide | omega) (by first | decide | omega) (aw_new (c9 := 12) (q := (RX14, TX14, 5)) (N9 := 5) dX8_plain_62 rfl q960 q961 q142 rfl ?_)
        have g2 := g1.new (z := (12, 0, adf 12)) (g := adf 12) ha1
        have HR2 := HR1.new (z := (12, 0, adf 12)) (g := adf 12)
        have Z2 := Z.gr g2 HR2
        refine aw_dup dX8_plain_65 rfl ?_
        refine aw_iload_n dX8_plain_66 rfl ?_
        refine aw_iconst dX8_plain_67 (by decide) ?_
        refine aw_iconst dX8_plain_68 (by decide) ?_
        refine aw_iconst dX8_plain_69 (by decide) ?_
        refine aw_iconst dX8_plain_70 (by decide) ?_
        refine c_X8_252 rfl dX8_plain_71 (by omega) (Nat.le_of_ble_eq_true rfl) (by omega) (C_x_actinit (aob_at (by omega)) (fun im9 o9 w9 z9 => ?_))
        refine aK_v ?_
        refine aw_areturn dX8_plain_74 rfl (Or.inl ⟨_, rfl⟩) ?_
        exact hQ _ _ _ _ _ _ im9 _ rfl (HR2.mono2 (Int.le_refl _) (fun x hx => z9 x (by have q0 := HR.1.2.1.1.2.1; have q6 := HR.1.2.1.2.2.2.1.2.1; have q7 := HR.1.2.1.2.2.2.2.2.1; omega)) rfl (fun _ _ => rfl)) ⟨g2.1, fun x hx => ⟨by rw [z9 x (by omega)]; exact (g2.2.1 x hx).1, (g2.2.1 x hx).2⟩, g2.2.2⟩ o9 ⟨by rw [w9.1]; omega, w9.2.1, w9.2.2.1, w9.2.2.2.1, w9.2.2.2.2⟩
    · have hw : tW tp n p = 15 := by omega
      rw [hw, ordP_15] at hF hQ
      refine AW.widen (kc' := 0 + 1) (ks' := 0 + 5) (by first | decide | omega) (by first | decide | omega) (aw_new (c9 := 12) (q := (RX14, TX14, 5)) (N9 := 5) dX8_plain_37 rfl q960 q961 q142 rfl ?_)
      have g2 := g1.new (z := (12, 0, adf 12)) (g := adf 12) ha1
      have HR2 := HR1.new (z := (12, 0, adf 12)) (g := adf 12)
      have Z2 := Z.gr g2 HR2
      refine aw_dup dX8_plain_40 rfl ?_
      refine aw_iload_n dX8_plain_41 rfl ?_
      refine aw_aload_n dX8_plain_42 rfl ?_
      refine aw_iconst dX8_plain_43 (by decide) ?_
      refine aw_bipush dX8_plain_44 (by decide) ?_
      refine c_X8_76 rfl dX8_plain_46 HR2.1.1.1 (Nat.le_of_ble_eq_true rfl) (by omega) (C_x_rnum Z2.1 (fun k9 pl9 ct9 y3 f9 => ?_) (fun v3 q3 ct3 y3 HR3 f3 => ?_))
      · exact aK_x (ax_out rfl (hF _ _ _ _ _ (by exact bnd_l y3) (g2.fb f9)))
      · have g3 := g2.fa f3
        have Z3 := Z.gr g3 HR3
        refine aK_i ?_
        refine aw_iconst dX8_plain_49 (by decide) ?_
        refine aw_iconst dX8_plain_50 (by decide) ?_
        refine aw_iconst dX8_plain_51 (by decide) ?_
        refine c_X8_252 rfl dX8_plain_52 (by omega) (Nat.le_of_ble_eq_true rfl) (by omega) (C_x_actinit (aob_at (by omega)) (fun im9 o9 w9 z9 => ?_))
        refine aK_v ?_
        refine aw_areturn dX8_plain_55 rfl (Or.inl ⟨_, rfl⟩) ?_
        exact hQ _ _ _ _ _ _ im9 _ (by rw [bnd_r y3]) (HR3.mono2 (Int.le_refl _) (fun x hx => z9 x (by have q0 := HR.1.2.1.1.2.1; have q6 := HR.1.2.1.2.2.2.1.2.1; have q7 := HR.1.2.1.2.2.2.2.2.1; omega)) rfl (fun _ _ => rfl)) ⟨g3.1, fun x hx => ⟨by rw [z9 x (by omega)]; exact (g3.2.1 x hx).1, (g3.2.1 x hx).2⟩, g3.2.2⟩ o9 ⟨by rw [w9.1]; omega, w9.2.1, w9.2.2.1, w9.2.2.2.1, w9.2.2.2.2⟩
  · have hw : tW tp n p = 11 := by omega
    rw [hw, ordP_11] at hF hQ
    refine AW.widen (kc' := 0 + 1) (ks' := 0 + 5) (by first | decide | omega) (by first | decide | omega) (aw_new (c9 := 12) (q := (RX14, TX14, 5)) (N9 := 5) dX8_plain_13 rfl q960 q961 q142 rfl ?_)
    have g2 := g1.new (z := (12, 0, adf 12)) (g := adf 12) ha1
    have HR2 := HR1.new (z := (12, 0, adf 12)) (g := adf 12)
    have Z2 := Z.gr g2 HR2
    refine aw_dup dX8_plain_16 rfl ?_
    refine aw_iload_n dX8_plain_17 rfl ?_
    refine aw_aload_n dX8_plain_18 rfl ?_
    refine aw_iconst dX8_plain_19 (by decide) ?_
    refine aw_bipush dX8_plain_20 (by decide) ?_
    refine c_X8_76 rfl dX8_plain_22 HR2.1.1.1 (Nat.le_of_ble_eq_true rfl) (by omega) (C_x_rnum Z2.1 (fun k9 pl9 ct9 y3 f9 => ?_) (fun v3 q3 ct3 y3 HR3 f3 => ?_))
    · exact aK_x (ax_out rfl (hF _ _ _ _ _ (by exact bnd_l y3) (g2.fb f9)))
    · have g3 := g2.fa f3
      have Z3 := Z.gr g3 HR3
      refine aK_i ?_
      refine aw_iconst dX8_plain_25 (by decide) ?_
      refine aw_iconst dX8_plain_26 (by decide) ?_
      refine aw_iconst dX8_plain_27 (by decide) ?_
      refine c_X8_252 rfl dX8_plain_28 (by omega) (Nat.le_of_ble_eq_true rfl) (by omega) (C_x_actinit (aob_at (by omega)) (fun im9 o9 w9 z9 => ?_))
      refine aK_v ?_
      refine aw_areturn dX8_plain_31 rfl (Or.inl ⟨_, rfl⟩) ?_
      exact hQ _ _ _ _ _ _ im9 _ (by rw [bnd_r y3]) (HR3.mono2 (Int.le_refl _) (fun x hx => z9 x (by have q0 := HR.1.2.1.1.2.1; have q6 := HR.1.2.1.2.2.2.1.2.1; have q7 := HR.1.2.1.2.2.2.2.2.1; omega)) rfl (fun _ _ => rfl)) ⟨g3.1, fun x hx => ⟨by rw [z9 x (by omega)]; exact (g3.2.1 x hx).1, (g3.2.1 x hx).2⟩, g3.2.2⟩ o9 ⟨by rw [w9.1]; omega, w9.2.1, w9.2.2.1, w9.2.2.2.1, w9.2.2.2.2⟩
