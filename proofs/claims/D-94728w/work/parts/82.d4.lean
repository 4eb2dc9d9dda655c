set_option maxRecDepth 100000
/-! the Reader: a step of a season -/
theorem C_x_stepc {tp : Int → Int} {n : Int} {s N : Int → Int} {D dB d : Nat} (hBk : ∀ D1 : Nat, D = D1 + 1 → BLKC tp n s N D1 dB) (hdB : ∀ D1 : Nat, D = D1 + 1 → dB + 1 ≤ d) (hd0 : 11 ≤ d) : STEPC tp n s N D d := by
  intro Q own sz im ct a b i t X Z hc5 hD hT hK hW hBB eX hF hQ
  refine AMet.go (L := [some (vR a), some (vR 10), some (vR b), some (vI t.2.2.2.1), none, none, none]) mok_X8_step (Nat.le_of_ble_eq_true rfl) rfl ?_
  have HR := Z.1
  have ha := HR.1.1.1
  have ha1 := ha.2.1
  have ha0 := ha.1
  have hp := HR.2.1
  have oa := Z.2.2.2.1
  have hP0 := Z.2.2.2.2.1
  have hPq := Z.2.2.2.2.2.2.2.1.1
  have hs0 := hP0.1
  have hs4 := hP0.2
  have hs1 := hPq.1.1
  have hT0 := hT.1
  have hT1 := hT.2.1
  have hT2 := hT.2.2.1
  have hT3 := hT.2.2.2
  have hE := tE_bd (tp := tp) hp.2
  have hF9 := tF_bd (tp := tp) hp.2
  have hBl := hBB.lt
  obtain ⟨⟨-, hsz, h60⟩, ⟨hB, hB1, hB5, hTp, hBad⟩, hn, htp⟩ := id HR.1
  have hne := HR.1.ne
  have e1 := HR.2.2.1
  have e3 := HR.2.2.2.2.1
  obtain ⟨g1, g2⟩ := stX_gd (tp := tp) (n := n) (N := N) hs0 hs1 D t hp.2 hD hT hK hW
  rw [eX] at g1 g2
  have ob := hBB.2.1
  have obt := hBB.2.2.1
  have hba : b ≠ a := fun z => by rw [z] at ob; omega
  have hta : ct b 0 ≠ a := fun z => by rw [z] at obt; omega
  have hcX : t.2.2.2.2.2 ≠ 30 → t.2.2.2.2.2 + 1 ≤ cN X ∧ cN X ≤ 30 := fun h => by
    cases X with
    | inl e9 => exact ⟨by show t.2.2.2.2.2 + 1 ≤ 30; omega, Int.le_refl _⟩
    | inr u => exact ⟨(g2 u rfl).2.2.2.2.2, (g2 u rfl).2.2.1.2.2.1.2⟩
  have K136 : ∀ (v : ST) (own1 : Int → Int) (sz1 : Int) (im1 : Int → aIm) (ct1 : Int → Int → Int) (o w4 w5 : Int), X = .inr v → RDX sz1 im1 ct1 a tp n v.1 → ct1 a 5 = v.2.2.2.2.2 → FSB own a sz im ct own1 sz1 im1 ct1 → STs own1 sz1 im1 ct1 (sR s v.2.1) (D + 1) o t.2.2.1 v.2.2.1 → AW (mq Q) md_X8_step d 1 120 136 [some (vR a), some (vR 10), some (vR b), some (vI t.2.2.2.1), some (vI w4), some (vI w5), some (vR o)] [] (sz1, im1, ct1) := fun v own1 sz1 im1 ct1 o w4 w5 eXv HR1 h59 F1 hSt => by
    obtain ⟨-, k2, k3, k4, k5, k6⟩ := g2 v eXv
    have hvm : v.2.2.1 ≤ 60 := by have := k3.2.1; have := k3.2.2.1; have := k3.2.2.2; omega
    have cb : ct1 b = ct b := (F1.2 b hBl.1.2).2.2 hba
    have B1 : BB own1 sz1 im1 ct1 (sR s v.2.1) (D + 1) b i t.2.2.1 := (hBB.mv F1.1 (fun x hx => (F1.2 x hx).1) (fun x hx h1 => ⟨(F1.2 x hx).2.1.trans h1, (F1.2 x hx).2.2 (fun z => by rw [z] at h1; omega)⟩) cb ((F1.2 _ hBl.2.1.2).2.2 hta) ((F1.2 b hBl.1.2).2.1.trans ob) ((F1.2 _ hBl.2.1.2).2.1.trans obt)).rows hs4 (fun q q0 q1 => k2.2.2.2.2.2 q q1)
    have hB1l := B1.lt
    obtain ⟨b1, b2, b3, b4, b5, cap, p9, b6, b7, b8, b9, b10, b11⟩ := id B1
    rcases b1 with hbc | hbc
    · refine aw_aload_n dX8_step_136 rfl ?_
      refine aw_aload dX8_step_137 rfl ?_
      refine c_add_10 (kc2 := 0) (ks2 := 0) (by decide) (by decide) rfl dX8_step_139 hbc (Nat.le_of_ble_eq_true rfl) (by omega) (C_x_add10 hbc rfl rfl b6 ⟨b4, b8, by omega⟩ b7 (fun z => hB1l.2.2.1 z) hSt.may (fun j j0 j1 => (b11 j j0 j1).may) (fun sz2 im2 ct2 t2 cap2 z1 z2 z3 z4 z5 z6 z7 z8 z9 z10 z11 z12 => ?_))
      refine aK_v ?_
      refine aw_ret dX8_step_142 rfl ?_
      obtain ⟨own2, eo2⟩ : ∃ z : Int → Int, z = fun x => if x < sz1 then own1 x else -4 := ⟨_, rfl⟩
      have ow1 : ∀ x, x < sz1 → own2 x = own1 x := fun x hx => by rw [eo2]; exact if_pos hx
      have ot2 : own2 t2 = -4 := by
        rcases z5 with z | ⟨z, -⟩
        · rw [z, ow1 _ hB1l.2.1.2]; exact b3
        · rw [eo2, z]; exact if_neg (by omega)
      have n6b : ∀ x, x = 0 ∨ x = 6 ∨ x = 7 ∨ x = a → x < sz1 ∧ x ≠ b ∧ x ≠ ct1 b 0 := fun x hx => by
        have r0 := HR1.1.2.1.1
        have r6 := HR1.1.2.1.2.2.2.1
        have r7 := HR1.1.2.1.2.2.2.2
        have ra := HR1.1.1.1
        rcases hx with z | z | z | z <;> subst z
        · exact ⟨r0.2.1, aob_nec r0 hbc (by decide), aob_ne r0 b6 (by decide)⟩
        · refine ⟨r6.2.1, fun z => aob_ne hbc r6 (by decide) z.symm, fun z => ?_⟩
          have y1 := r6.2.2.1
          have y2 := b6.2.2.1
          rw [← z] at y2
          omega
        · exact ⟨r7.2.1, aob_nec r7 hbc (by decide), aob_ne r7 b6 (by decide)⟩
        · exact ⟨ra.2.1, aob_nec ra hbc (by decide), aob_ne ra b6 (by decide)⟩
      have m6 := n6b 6 (Or.inr (Or.inl rfl))
      have ma := n6b a (Or.inr (Or.inr (Or.inr rfl)))
      have F1z : sz ≤ sz1 := F1.1
      refine hQ v own2 sz2 im2 ct2 eXv (HR1.mono2 z1 (fun x hx => z2 x (n6b x hx).1) (z3 6 m6.1 m6.2.1 m6.2.2) (fun j _ => by rw [z3 a ma.1 ma.2.1 ma.2.2])) (by rw [z3 a ma.1 ma.2.1 ma.2.2]; exact h59) ⟨by omega, fun x hx => ⟨(z2 x (by omega)).trans (F1.2 x hx).1, (ow1 x (by omega)).trans (F1.2 x hx).2.1, fun x1 x2 x3 => (z3 x (by omega) x2 (by rw [cb]; exact x3)).trans ((F1.2 x hx).2.2 x1)⟩, by rw [z9, ← cb]; omega⟩
        (BB.add (own' := own2) B1 z1 z2 (fun x hx h1 => ⟨(ow1 x hx).trans h1, z3 x hx (fun z => by rw [z] at h1; omega) (fun z => by rw [z] at h1; omega)⟩) ((ow1 b hB1l.1.2).trans b2) ot2 z6 z7 z8 z9 z10 z11 z12 (hSt.mv z1 z2 (fun x hx h1 => ⟨(ow1 x hx).trans h1, z3 x hx (fun z => by rw [z] at h1; omega) (fun z => by rw [z] at h1; omega)⟩)) hvm)
    · refine aw_aload_n dX8_step_136 rfl ?_
      refine aw_aload dX8_step_137 rfl ?_
      refine c_add_11 (kc2 := 0) (ks2 := 0) (by decide) (by decide) rfl dX8_step_139 hbc (Nat.le_of_ble_eq_true rfl) (by omega) (C_x_add11 hbc rfl rfl b6 ⟨b4, b8, by omega⟩ b7 (fun z => hB1l.2.2.1 z) hSt.may (fun j j0 j1 => (b11 j j0 j1).may) (fun sz2 im2 ct2 t2 cap2 z1 z2 z3 z4 z5 z6 z7 z8 z9 z10 z11 z12 => ?_))
      refine aK_v ?_
      refine aw_ret dX8_step_142 rfl ?_
      obtain ⟨own2, eo2⟩ : ∃ z : Int → Int, z = fun x => if x < sz1 then own1 x else -4 := ⟨_, rfl⟩
      have ow1 : ∀ x, x < sz1 → own2 x = own1 x := fun x hx => by rw [eo2]; exact if_pos hx
      have ot2 : own2 t2 = -4 := by
        rcases z5 with z | ⟨z, -⟩
        · rw [z, ow1 _ hB1l.2.1.2]; exact b3
        · rw [eo2, z]; exact if_neg (by omega)
      have n6b : ∀ x, x = 0 ∨ x = 6 ∨ x = 7 ∨ x = a → x < sz1 ∧ x ≠ b ∧ x ≠ ct1 b 0 := fun x hx => by
        have r0 := HR1.1.2.1.1
        have r6 := HR1.1.2.1.2.2.2.1
        have r7 := HR1.1.2.1.2.2.2.2
        have ra := HR1.1.1.1
        rcases hx with z | z | z | z <;> subst z
        · exact ⟨r0.2.1, aob_nec r0 hbc (by decide), aob_ne r0 b6 (by decide)⟩
        · refine ⟨r6.2.1, fun z => aob_ne hbc r6 (by decide) z.symm, fun z => ?_⟩
          have y1 := r6.2.2.1
          have y2 := b6.2.2.1
          rw [← z] at y2
          omega
        · exact ⟨r7.2.1, aob_nec r7 hbc (by decide), aob_ne r7 b6 (by decide)⟩
        · exact ⟨ra.2.1, aob_nec ra hbc (by decide), aob_ne ra b6 (by decide)⟩
      have m6 := n6b 6 (Or.inr (Or.inl rfl))
      have ma := n6b a (Or.inr (Or.inr (Or.inr rfl)))
      have F1z : sz ≤ sz1 := F1.1
      refine hQ v own2 sz2 im2 ct2 eXv (HR1.mono2 z1 (fun x hx => z2 x (n6b x hx).1) (z3 6 m6.1 m6.2.1 m6.2.2) (fun j _ => by rw [z3 a ma.1 ma.2.1 ma.2.2])) (by rw [z3 a ma.1 ma.2.1 ma.2.2]; exact h59) ⟨by omega, fun x hx => ⟨(z2 x (by omega)).trans (F1.2 x hx).1, (ow1 x (by omega)).trans (F1.2 x hx).2.1, fun x1 x2 x3 => (z3 x (by omega) x2 (by rw [cb]; exact x3)).trans ((F1.2 x hx).2.2 x1)⟩, by rw [z9, ← cb]; omega⟩
        (BB.add (own' := own2) B1 z1 z2 (fun x hx h1 => ⟨(ow1 x hx).trans h1, z3 x hx (fun z => by rw [z] at h1; omega) (fun z => by rw [z] at h1; omega)⟩) ((ow1 b hB1l.1.2).trans b2) ot2 z6 z7 z8 z9 z10 z11 z12 (hSt.mv z1 z2 (fun x hx h1 => ⟨(ow1 x hx).trans h1, z3 x hx (fun z => by rw [z] at h1; omega) (fun z => by rw [z] at h1; omega)⟩)) hvm)
  have K99 : ∀ (w4 w5 : Int), ((tW tp n t.1 = 17 ∧ w4 = 1 ∧ w5 = 1) ∨ (tW tp n t.1 = 18 ∧ w4 = 0 ∧ w5 = 1) ∨ (((11 ≤ tW tp n t.1 ∧ tW tp n t.1 ≤ 16) ∨ tW tp n t.1 = 20) ∧ w4 = 0 ∧ w5 = 0)) → t.2.2.2.2.2 ≠ 30 → (w5 = 0 ∨ t.2.2.2.1 ≠ 3) → AW (mq Q) md_X8_step d (3 * (cN X - t.2.2.2.2.2)).toNat (130 * (cN X - t.2.2.2.2.2)).toNat 99 [some (vR a), some (vR 10), some (vR b), some (vI t.2.2.2.1), some (vI w4), some (vI w5), none] [] (sz, im, ct) := fun w4 w5 hww hc30 hw5 => by
    have hcX1 := hcX hc30
    refine aw_aload_n dX8_step_99 rfl ?_
    refine aw_dup dX8_step_100 rfl ?_
    refine g_X8_233_8 rfl dX8_step_101 ha ?_
    rw [hc5]
    refine aw_iconst dX8_step_104 (by decide) ?_
    refine aw_iaddr dX8_step_105 (by omega) ?_
    refine p_X8_233_8 rfl dX8_step_106 ha ?_
    obtain ⟨ct1, ect⟩ : ∃ z, z = aup ct a 5 (t.2.2.2.2.2 + 1) := ⟨_, rfl⟩
    rw [← ect]
    have cA : ∀ x, x ≠ a → ct1 x = ct x := fun x hx => by rw [ect, aup_rn hx]
    have c15 : ct1 a 5 = t.2.2.2.2.2 + 1 := by rw [ect]; exact aup_s
    have HR1 : RDX sz im ct1 a tp n t.1 := HR.fr (cA 6 hne.2.1.symm) (fun j hj => by rw [ect]; exact aup_n (by omega))
    have Z1 : ZR own sz im ct1 a s N tp n t.1 := Z.tg4 (Int.le_refl _) (fun x hx => ⟨rfl, rfl, fun x3 _ => cA x (fun z => x3 (by rw [z]; exact oa))⟩) HR1
    refine aw_iload dX8_step_109 rfl ?_
    refine aw_ifeq (tgt := 125) dX8_step_111 (by decide) (fun h111 => ?_) (fun h111 => ?_)
    · have hwp : (11 ≤ tW tp n t.1 ∧ tW tp n t.1 ≤ 16) ∨ tW tp n t.1 = 20 := by omega
      have eXp := eX
      rw [stX_pl (by omega) (by omega) hc30] at eXp
      refine aw_aload_n dX8_step_125 rfl ?_
      refine aw_aload_n dX8_step_126 rfl ?_
      refine c_X8_240a (kc1 := 1) (ks1 := 5) (kc2 := 1) (ks2 := 120) (by omega) (by omega) rfl dX8_step_127 ha (Nat.le_of_ble_eq_true rfl) (by omega) (C_x_plain Z1 hwp (fun k9 pl9 sz9 im9 ct9 e9 q9 => ?_) (fun q kk A B C E im9 ct9 e9 HR9 g9 o9 w9 => ?_))
      · rw [e9, bnd_l rfl] at eXp
        exact aK_x (ax_out rfl (hF _ _ _ _ _ eXp.symm (G4.pre oa cA (G4.gb oa q9))))
      · rw [e9, bnd_r rfl] at eXp
        dsimp only at eXp
        refine aK_i ?_
        have ow1 : ∀ x, x < sz → (fun x => if x < sz then own x else -1) x = own x := fun x hx => if_pos hx
        refine aw_astore6 dX8_step_130 (by decide) rfl ?_
        refine aw_aload_n dX8_step_132 rfl ?_
        refine c_X8_175 rfl dX8_step_133 HR9.1.1.1 (Nat.le_of_ble_eq_true rfl) (by omega) (C_x_close HR9 (fun ct3 hs f3 => ?_) (fun ct3 hs HR3 f3 => ?_))
        · rw [if_neg hs] at eXp
          exact aK_x (ax_out rfl (hF _ _ _ _ _ eXp.symm (G4.pre oa cA (G4.gb oa (g9.fb f3)))))
        · refine aK_v ?_
          rw [if_pos hs, nxtP_pl (by omega) (by omega)] at eXp
          dsimp only at eXp
          have hro := ordP_row (r := 860 + 6 * t.2.2.1) (S := sR s (rowW t.2.1 t.2.2.1 kk A B C E)) hE.2 hs0 hs1 (by omega) e9 (fun i hi => sR_lo hi) hs4 (by rw [sR_hi (by omega)]; exact rowW_at.1) (by rw [sR_hi (by omega), show 860 + 6 * t.2.2.1 + 1 = 861 + 6 * t.2.2.1 by omega]; exact rowW_at.2.1) (by rw [sR_hi (by omega), show 860 + 6 * t.2.2.1 + 2 = 862 + 6 * t.2.2.1 by omega]; exact rowW_at.2.2.1) (by rw [sR_hi (by omega), show 860 + 6 * t.2.2.1 + 3 = 863 + 6 * t.2.2.1 by omega]; exact rowW_at.2.2.2.1) (by rw [sR_hi (by omega), show 860 + 6 * t.2.2.1 + 5 = 865 + 6 * t.2.2.1 by omega]; exact rowW_at.2.2.2.2)
          refine K136 _ (fun x => if x < sz then own x else -1) (sz + 1) im9 ct3 sz w4 w5 eXp.symm HR3 ((f3.2.trans g9.2.2).trans c15) ⟨by omega, fun x hx => ⟨(g9.2.1 x hx).1, if_pos hx, fun hxa => ((f3.1 x hxa).trans ((g9.2.1 x hx).2 hxa)).trans (cA x hxa)⟩⟩ ⟨if_neg (by omega), hT0, by show t.2.2.1 + 1 ≤ 60; omega, Or.inl ⟨o9, rfl, hro.2, ?_, ?_, ?_, ?_, ?_⟩⟩
          · rw [sR_hi (by omega)]; dsimp only; simp only [rowW_at.1]; exact w9.1
          · rw [sR_hi (by omega)]; dsimp only; rw [rowW_at.2.1]; exact w9.2.1
          · rw [sR_hi (by omega)]; dsimp only; rw [rowW_at.2.2.1]; exact w9.2.2.1
          · rw [sR_hi (by omega)]; dsimp only; rw [rowW_at.2.2.2.1]; exact w9.2.2.2.1
          · rw [sR_hi (by omega)]; dsimp only; rw [rowW_at.2.2.2.2]; exact w9.2.2.2.2
    · obtain ⟨D1, eD⟩ : ∃ k, D = k + 1 := ⟨D - 1, by omega⟩
      subst eD
      have hw17 : tW tp n t.1 = 17 ∨ tW tp n t.1 = 18 := by omega
      obtain ⟨Y, eY⟩ : ∃ z, blP tp n s N D1 t = z := ⟨_, rfl⟩
      have eX2 : bnd Y (enX tp n) = X := by rw [← eY, ← stX_blk hw17 hc30]; exact eX
      have hcY : t.2.2.2.2.2 + 1 ≤ cN Y ∧ cN Y ≤ cN X := by
        cases Y with
        | inl e9 => rw [bnd_l rfl] at eX2; rw [← eX2]; exact ⟨by show t.2.2.2.2.2 + 1 ≤ 30; omega, Int.le_refl _⟩
        | inr u =>
          have bp := blP_p hs0 hs1 hp.2 (by omega) hT hw17 hc30 eY
          refine ⟨bp.2.2.2.2.1, ?_⟩
          rw [bnd_r rfl] at eX2
          rw [← eX2]
          unfold enX
          split
          · rw [nxtP_cl]; exact Int.le_refl _
          · exact bp.1.2.2.1.2
      refine aw_aload_n dX8_step_114 rfl ?_
      refine aw_aload_n dX8_step_115 rfl ?_
      refine aw_iload dX8_step_116 rfl ?_
      refine aw_iload_n dX8_step_118 rfl ?_
      refine c_X8_236a (kc1 := (3 * (cN Y - t.2.2.2.2.2) - 1).toNat) (ks1 := (130 * (cN Y - t.2.2.2.2.2) - 120).toNat) (kc2 := 1) (ks2 := 120) (by omega) (by omega) rfl dX8_step_119 ha (Nat.le_of_ble_eq_true rfl) (by have := hdB D1 rfl; omega) (hBk D1 rfl t Y Z1 c15 (by omega) hT hc30 (by omega) eY (fun k9 pl9 sz9 im9 ct9 e9 q9 => ?_) (fun u own9 sz9 im9 ct9 o e9 HR9 h59 F9 l9 l99 B9 H9 => ?_))
      · rw [e9, bnd_l rfl] at eX2
        exact aK_x (ax_out rfl (hF _ _ _ _ _ eX2.symm (G4.pre oa cA q9)))
      have bp := blP_p hs0 hs1 hp.2 (by omega) hT hw17 hc30 (eY.trans e9)
      rw [e9, bnd_r rfl] at eX2
      have oa9 : own9 a = -3 := (F9.2 a ha1).2.1.trans oa
      refine aK_i ?_
      refine aw_goto (tgt := 130) dX8_step_122 (by decide) ?_
      refine aw_astore6 dX8_step_130 (by decide) rfl ?_
      refine aw_aload_n dX8_step_132 rfl ?_
      refine c_X8_175 rfl dX8_step_133 HR9.1.1.1 (Nat.le_of_ble_eq_true rfl) (by omega) (C_x_close HR9 (fun ct3 hs f3 => ?_) (fun ct3 hs HR3 f3 => ?_))
      · have eE : enX tp n u = .inl (wr tp n (tE tp n u.1), tF tp n (tE tp n u.1)) := if_neg hs
        rw [eE] at eX2
        exact aK_x (ax_out rfl (hF _ _ _ _ _ eX2.symm (G4.pre oa cA (F9.g4 oa (G4.fb oa9 f3)))))
      · refine aK_v ?_
        have eE : enX tp n u = .inr (tE tp n (tE tp n u.1), upA (upA (rowW u.2.1 u.2.2.1 19 0 0 0 0) (864 + 6 * u.2.2.1) t.2.2.1) (864 + 6 * t.2.2.1) u.2.2.1, u.2.2.1 + 1, t.2.2.2.1, u.2.2.2.2.1, u.2.2.2.2.2) := by
          unfold enX
          rw [if_pos hs, nxtP_cl, show u.2.2.2.1 - 1 = t.2.2.2.1 by omega, bp.2.2.1]
        rw [eE] at eX2
        have hua : o ≠ a := fun z => by rw [z] at l9; omega
        have B3 : BB own9 sz9 im9 ct3 (sR s u.2.1) (D1 + 1) o (t.2.2.1 + 1) u.2.2.1 := B9.mv (Int.le_refl _) (fun _ _ => rfl) (fun x hx h1 => ⟨h1, f3.1 x (fun z => by rw [z] at h1; omega)⟩) (f3.1 _ hua) (f3.1 _ (fun z => by have := B9.2.2.1; rw [z] at this; omega)) B9.2.1 B9.2.2.1
        have e30 : ct3 o 0 = ct9 o 0 := by rw [f3.1 o hua]
        have u1 := bp.1.2.1
        have u2 := bp.1.2.2.1
        have u3 := bp.1.2.2.2
        exact K136 _ (fun x => if x = o ∨ x = ct3 o 0 then -1 else own9 x) sz9 im9 ct3 o w4 w5 eX2.symm HR3 (f3.2.trans h59) ⟨F9.1, fun x hx => ⟨(F9.2 x hx).1, (if_neg (by rw [e30]; omega)).trans (F9.2 x hx).2.1, fun hxa => ((f3.1 x hxa).trans ((F9.2 x hx).2.2 hxa)).trans (cA x hxa)⟩⟩ (B3.done H9 hs4 hT0 (by omega))
  have K46 : ∀ (w4 w5 : Int), ((tW tp n t.1 = 17 ∧ w4 = 1 ∧ w5 = 1) ∨ (tW tp n t.1 = 18 ∧ w4 = 0 ∧ w5 = 1) ∨ (((11 ≤ tW tp n t.1 ∧ tW tp n t.1 ≤ 16) ∨ tW tp n t.1 = 20) ∧ w4 = 0 ∧ w5 = 0)) → AW (mq Q) md_X8_step d (3 * (cN X - t.2.2.2.2.2)).toNat (130 * (cN X - t.2.2.2.2.2)).toNat 46 [some (vR a), some (vR 10), some (vR b), some (vI t.2.2.2.1), some (vI w4), some (vI w5), none] [] (sz, im, ct) := fun w4 w5 hww => by
    refine aw_aload_n dX8_step_46 rfl ?_
    refine g_X8_233_8 rfl dX8_step_47 ha ?_
    rw [hc5]
    refine aw_bipush dX8_step_50 (by decide) ?_
    refine aw_icmpne (tgt := 72) dX8_step_52 (by decide) (fun h52 => ?_) (fun h52 => ?_)
    · refine aw_iload dX8_step_72 rfl ?_
      refine aw_ifeq (tgt := 99) dX8_step_74 (by decide) (fun h74 => ?_) (fun h74 => ?_)
      · exact K99 w4 w5 hww (by omega) (by omega)
      · refine aw_iload_n dX8_step_77 rfl ?_
        refine aw_iconst dX8_step_78 (by decide) ?_
        refine aw_icmpne (tgt := 99) dX8_step_79 (by decide) (fun h79 => ?_) (fun h79 => ?_)
        · exact K99 w4 w5 hww (by omega) (by omega)
        · refine aw_aload_n dX8_step_82 rfl ?_
          refine g_X8_3_8 rfl dX8_step_83 ha ?_
          rw [h60]
          refine g_X8_55_0 rfl dX8_step_86 (by assumption) ?_
          rw [hB5]
          refine aw_bipush dX8_step_89 (by decide) ?_
          refine aw_aload_n dX8_step_91 rfl ?_
          refine g_X8_29_8 rfl dX8_step_92 ha ?_
          rw [e1]
          refine c_X8_59 rfl dX8_step_95 (by assumption) (Nat.le_of_ble_eq_true rfl) (by omega) (C_x_badat hBad ?_)
          refine aK_i ?_
          have eD : D = 0 := by omega
          rw [eD] at eX
          exact aw_athrow (E := 0) dX8_step_98 hBad ⟨_, rfl, rfl⟩ (ax_out rfl (hF _ _ _ _ _ (eX.symm.trans (stX_7 (by omega) (by omega))) (G4.fb oa FB.of)))
    · refine aw_aload_n dX8_step_55 rfl ?_
      refine g_X8_3_8 rfl dX8_step_56 ha ?_
      rw [h60]
      refine g_X8_55_0 rfl dX8_step_59 (by assumption) ?_
      rw [hB5]
      refine aw_bipush dX8_step_62 (by decide) ?_
      refine aw_aload_n dX8_step_64 rfl ?_
      refine g_X8_29_8 rfl dX8_step_65 ha ?_
      rw [e1]
      refine c_X8_59 rfl dX8_step_68 (by assumption) (Nat.le_of_ble_eq_true rfl) (by omega) (C_x_badat hBad ?_)
      refine aK_i ?_
      exact aw_athrow (E := 0) dX8_step_71 hBad ⟨_, rfl, rfl⟩ (ax_out rfl (hF _ _ _ _ _ (eX.symm.trans (stX_e.2 (by omega) (by omega))) (G4.fb oa FB.of)))
  refine aw_aload_n dX8_step_0 rfl ?_
  refine aw_ldcS (k9 := 20) dX8_step_1 rfl rfl (by decide) ?_
  refine c_X8_72 rfl dX8_step_3 ha (Nat.le_of_ble_eq_true rfl) (by omega) (C_x_isWord (k := 20) (w := 17) HR (by decide) rfl (fun hw20 => ?_) (fun hw20 => ?_))
  · first
      | (exfalso; omega)
      | skip
        refine aK_i ?_
        refine aw_istore4 dX8_step_6 (by decide) rfl ?_
        refine aw_iload dX8_step_8 rfl ?_
        refine aw_ifne (tgt := 22) dX8_step_10 (by decide) (fun h10 => ?_) (fun h10 => ?_)
        · first
            | (exfalso; omega)
            | skip
              refine aw_iconst dX8_step_22 (by decide) ?_
              refine aw_goto (tgt := 27) dX8_step_23 (by decide) ?_
              refine aw_istore5 dX8_step_27 (by decide) rfl ?_
              refine aw_aload_n dX8_step_29 rfl ?_
              refine c_X8_119 rfl dX8_step_30 ha (Nat.le_of_ble_eq_true rfl) (by omega) (C_x_acts HR (fun v hv => ?_))
              refine aK_i ?_
              refine aw_ifge (tgt := 46) dX8_step_33 (by decide) (fun h33 => ?_) (fun h33 => ?_)
              · first
                  | (exfalso; omega)
                  | skip
                    exact K46 _ _ (by omega)
              · first
                  | (exfalso; omega)
                  | skip
                    refine aw_iload dX8_step_36 rfl ?_
                    refine aw_ifne (tgt := 46) dX8_step_38 (by decide) (fun h38 => ?_) (fun h38 => ?_)
                    · first
                        | (exfalso; omega)
                        | skip
                          exact K46 _ _ (by omega)
                    · first
                        | (exfalso; omega)
                        | skip
                          refine aw_aload_n dX8_step_41 rfl ?_
                          refine c_X8_68 rfl dX8_step_42 ha (Nat.le_of_ble_eq_true rfl) (by omega) (C_x_wrong HR (fun ctw fw => ?_))
                          refine aK_i ?_
                          exact aw_athrow (E := 0) dX8_step_45 hBad ⟨_, rfl, rfl⟩ (ax_out rfl (hF _ _ _ _ _ (eX.symm.trans (stX_e.1 (by have := tW_bd (tp := tp) (n := n) (p := t.1); omega))) (G4.fb oa fw)))
        · first
            | (exfalso; omega)
            | skip
              refine aw_aload_n dX8_step_13 rfl ?_
              refine aw_ldcS (k9 := 21) dX8_step_14 rfl rfl (by decide) ?_
              refine c_X8_72 rfl dX8_step_16 ha (Nat.le_of_ble_eq_true rfl) (by omega) (C_x_isWord (k := 21) (w := 18) HR (by decide) rfl (fun hw21 => ?_) (fun hw21 => ?_))
              · first
                  | (exfalso; omega)
                  | skip
                    refine aK_i ?_
                    refine aw_ifeq (tgt := 26) dX8_step_19 (by decide) (fun h => absurd h (by decide)) (fun _ => ?_)
                    refine aw_iconst dX8_step_22 (by decide) ?_
                    refine aw_goto (tgt := 27) dX8_step_23 (by decide) ?_
                    refine aw_istore5 dX8_step_27 (by decide) rfl ?_
                    refine aw_aload_n dX8_step_29 rfl ?_
                    refine c_X8_119 rfl dX8_step_30 ha (Nat.le_of_ble_eq_true rfl) (by omega) (C_x_acts HR (fun v hv => ?_))
                    refine aK_i ?_
                    refine aw_ifge (tgt := 46) dX8_step_33 (by decide) (fun h33 => ?_) (fun h33 => ?_)
                    · first
                        | (exfalso; omega)
                        | skip
                          exact K46 _ _ (by omega)
                    · first
                        | (exfalso; omega)
                        | skip
                          refine aw_iload dX8_step_36 rfl ?_
                          refine aw_ifne (tgt := 46) dX8_step_38 (by decide) (fun h38 => ?_) (fun h38 => ?_)
                          · first
                              | (exfalso; omega)
                              | skip
                                exact K46 _ _ (by omega)
                          · first
                              | (exfalso; omega)
                              | skip
                                refine aw_aload_n dX8_step_41 rfl ?_
                                refine c_X8_68 rfl dX8_step_42 ha (Nat.le_of_ble_eq_true rfl) (by omega) (C_x_wrong HR (fun ctw fw => ?_))
                                refine aK_i ?_
                                exact aw_athrow (E := 0) dX8_step_45 hBad ⟨_, rfl, rfl⟩ (ax_out rfl (hF _ _ _ _ _ (eX.symm.trans (stX_e.1 (by have := tW_bd (tp := tp) (n := n) (p := t.1); omega))) (G4.fb oa fw)))
              · first
                  | (exfalso; omega)
                  | skip
                    refine aK_i ?_
                    refine aw_ifeq (tgt := 26) dX8_step_19 (by decide) (fun _ => ?_) (fun h => absurd h (by decide))
                    refine aw_iconst dX8_step_26 (by decide) ?_
                    refine aw_istore5 dX8_step_27 (by decide) rfl ?_
                    refine aw_aload_n dX8_step_29 rfl ?_
                    refine c_X8_119 rfl dX8_step_30 ha (Nat.le_of_ble_eq_true rfl) (by omega) (C_x_acts HR (fun v hv => ?_))
                    refine aK_i ?_
                    refine aw_ifge (tgt := 46) dX8_step_33 (by decide) (fun h33 => ?_) (fun h33 => ?_)
                    · first
                        | (exfalso; omega)
                        | skip
                          exact K46 _ _ (by omega)
                    · first
                        | (exfalso; omega)
                        | skip
                          refine aw_iload dX8_step_36 rfl ?_
                          refine aw_ifne (tgt := 46) dX8_step_38 (by decide) (fun h38 => ?_) (fun h38 => ?_)
                          · first
                              | (exfalso; omega)
                              | skip
                                exact K46 _ _ (by omega)
                          · first
                              | (exfalso; omega)
                              | skip
                                refine aw_aload_n dX8_step_41 rfl ?_
                                refine c_X8_68 rfl dX8_step_42 ha (Nat.le_of_ble_eq_true rfl) (by omega) (C_x_wrong HR (fun ctw fw => ?_))
                                refine aK_i ?_
                                exact aw_athrow (E := 0) dX8_step_45 hBad ⟨_, rfl, rfl⟩ (ax_out rfl (hF _ _ _ _ _ (eX.symm.trans (stX_e.1 (by have := tW_bd (tp := tp) (n := n) (p := t.1); omega))) (G4.fb oa fw)))
  · first
      | (exfalso; omega)
      | skip
        refine aK_i ?_
        refine aw_istore4 dX8_step_6 (by decide) rfl ?_
        refine aw_iload dX8_step_8 rfl ?_
        refine aw_ifne (tgt := 22) dX8_step_10 (by decide) (fun h10 => ?_) (fun h10 => ?_)
        · first
            | (exfalso; omega)
            | skip
              refine aw_iconst dX8_step_22 (by decide) ?_
              refine aw_goto (tgt := 27) dX8_step_23 (by decide) ?_
              refine aw_istore5 dX8_step_27 (by decide) rfl ?_
              refine aw_aload_n dX8_step_29 rfl ?_
              refine c_X8_119 rfl dX8_step_30 ha (Nat.le_of_ble_eq_true rfl) (by omega) (C_x_acts HR (fun v hv => ?_))
              refine aK_i ?_
              refine aw_ifge (tgt := 46) dX8_step_33 (by decide) (fun h33 => ?_) (fun h33 => ?_)
              · first
                  | (exfalso; omega)
                  | skip
                    exact K46 _ _ (by omega)
              · first
                  | (exfalso; omega)
                  | skip
                    refine aw_iload dX8_step_36 rfl ?_
                    refine aw_ifne (tgt := 46) dX8_step_38 (by decide) (fun h38 => ?_) (fun h38 => ?_)
                    · first
                        | (exfalso; omega)
                        | skip
                          exact K46 _ _ (by omega)
                    · first
                        | (exfalso; omega)
                        | skip
                          refine aw_aload_n dX8_step_41 rfl ?_
                          refine c_X8_68 rfl dX8_step_42 ha (Nat.le_of_ble_eq_true rfl) (by omega) (C_x_wrong HR (fun ctw fw => ?_))
                          refine aK_i ?_
                          exact aw_athrow (E := 0) dX8_step_45 hBad ⟨_, rfl, rfl⟩ (ax_out rfl (hF _ _ _ _ _ (eX.symm.trans (stX_e.1 (by have := tW_bd (tp := tp) (n := n) (p := t.1); omega))) (G4.fb oa fw)))
        · first
            | (exfalso; omega)
            | skip
              refine aw_aload_n dX8_step_13 rfl ?_
              refine aw_ldcS (k9 := 21) dX8_step_14 rfl rfl (by decide) ?_
              refine c_X8_72 rfl dX8_step_16 ha (Nat.le_of_ble_eq_true rfl) (by omega) (C_x_isWord (k := 21) (w := 18) HR (by decide) rfl (fun hw21 => ?_) (fun hw21 => ?_))
              · first
                  | (exfalso; omega)
                  | skip
                    refine aK_i ?_
                    refine aw_ifeq (tgt := 26) dX8_step_19 (by decide) (fun h => absurd h (by decide)) (fun _ => ?_)
                    refine aw_iconst dX8_step_22 (by decide) ?_
                    refine aw_goto (tgt := 27) dX8_step_23 (by decide) ?_
                    refine aw_istore5 dX8_step_27 (by decide) rfl ?_
                    refine aw_aload_n dX8_step_29 rfl ?_
                    refine c_X8_119 rfl dX8_step_30 ha (Nat.le_of_ble_eq_true rfl) (by omega) (C_x_acts HR (fun v hv => ?_))
                    refine aK_i ?_
                    refine aw_ifge (tgt := 46) dX8_step_33 (by decide) (fun h33 => ?_) (fun h33 => ?_)
                    · first
                        | (exfalso; omega)
                        | skip
                          exact K46 _ _ (by omega)
                    · first
                        | (exfalso; omega)
                        | skip
                          refine aw_iload dX8_step_36 rfl ?_
                          refine aw_ifne (tgt := 46) dX8_step_38 (by decide) (fun h38 => ?_) (fun h38 => ?_)
                          · first
                              | (exfalso; omega)
                              | skip
                                exact K46 _ _ (by omega)
                          · first
                              | (exfalso; omega)
                              | skip
                                refine aw_aload_n dX8_step_41 rfl ?_
                                refine c_X8_68 rfl dX8_step_42 ha (Nat.le_of_ble_eq_true rfl) (by omega) (C_x_wrong HR (fun ctw fw => ?_))
                                refine aK_i ?_
                                exact aw_athrow (E := 0) dX8_step_45 hBad ⟨_, rfl, rfl⟩ (ax_out rfl (hF _ _ _ _ _ (eX.symm.trans (stX_e.1 (by have := tW_bd (tp := tp) (n := n) (p := t.1); omega))) (G4.fb oa fw)))
              · first
                  | (exfalso; omega)
                  | skip
                    refine aK_i ?_
                    refine aw_ifeq (tgt := 26) dX8_step_19 (by decide) (fun _ => ?_) (fun h => absurd h (by decide))
                    refine aw_iconst dX8_step_26 (by decide) ?_
                    refine aw_istore5 dX8_step_27 (by decide) rfl ?_
                    refine aw_aload_n dX8_step_29 rfl ?_
                    refine c_X8_119 rfl dX8_step_30 ha (Nat.le_of_ble_eq_true rfl) (by omega) (C_x_acts HR (fun v hv => ?_))
                    refine aK_i ?_
                    refine aw_ifge (tgt := 46) dX8_step_33 (by decide) (fun h33 => ?_) (fun h33 => ?_)
                    · first
                        | (exfalso; omega)
                        | skip
                          exact K46 _ _ (by omega)
                    · first
                        | (exfalso; omega)
                        | skip
                          refine aw_iload dX8_step_36 rfl ?_
                          refine aw_ifne (tgt := 46) dX8_step_38 (by decide) (fun h38 => ?_) (fun h38 => ?_)
                          · first
                              | (exfalso; omega)
                              | skip
                                exact K46 _ _ (by omega)
                          · first
                              | (exfalso; omega)
                              | skip
                                refine aw_aload_n dX8_step_41 rfl ?_
                                refine c_X8_68 rfl dX8_step_42 ha (Nat.le_of_ble_eq_true rfl) (by omega) (C_x_wrong HR (fun ctw fw => ?_))
                                refine aK_i ?_
                                exact aw_athrow (E := 0) dX8_step_45 hBad ⟨_, rfl, rfl⟩ (ax_out rfl (hF _ _ _ _ _ (eX.symm.trans (stX_e.1 (by have := tW_bd (tp := tp) (n := n) (p := t.1); omega))) (G4.fb oa fw)))
theorem C_x_stepD {tp : Int → Int} {n : Int} {s N : Int → Int} : ∀ D : Nat, STEPC tp n s N D (11 + 2 * D)
  | 0 => C_x_stepc (dB := 0) (fun D1 e => absurd e (by omega)) (fun D1 e => absurd e (by omega)) (by omega)
  | D + 1 => C_x_stepc (dB := 11 + 2 * D + 1) (fun D1 e => by
      have e1 : D = D1 := by omega
      subst e1
      exact @C_x_block tp n s N D (11 + 2 * D) (11 + 2 * D + 1) (C_x_stepD D) (by omega) (by omega)) (fun D1 e => by omega) (by omega)
