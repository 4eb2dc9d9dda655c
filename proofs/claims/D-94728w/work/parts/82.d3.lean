set_option maxRecDepth 100000
/-! the Reader: a block, a step, a season-/
theorem GR.pre {a sz sz1 : Int} {im im1 : Int → aIm} {ct ct0 ct1 : Int → Int → Int} (f : FA a ct0 ct) (g : GR a sz im ct sz1 im1 ct1) : GR a sz im ct0 sz1 im1 ct1 := ⟨g.1, fun x hx => ⟨(g.2.1 x hx).1, fun hxa => ((g.2.1 x hx).2 hxa).trans (f.1 x hxa)⟩, g.2.2.trans f.2⟩
theorem GB.pre {a sz sz1 k pl : Int} {im im1 : Int → aIm} {ct ct0 ct1 : Int → Int → Int} (f : FA a ct0 ct) (g : GB a sz im ct sz1 im1 ct1 k pl) : GB a sz im ct0 sz1 im1 ct1 k pl := ⟨g.1, fun x hx => ⟨(g.2.1 x hx).1, fun hxa h7 => ((g.2.1 x hx).2 hxa h7).trans (f.1 x hxa)⟩, g.2.2⟩
theorem C_x_block {tp : Int → Int} {n : Int} {s N : Int → Int} {D dS d : Nat} (hS : STEPC tp n s N D dS) (hd : dS + 1 ≤ d) (hd0 : 11 ≤ d) : BLKC tp n s N D d := by
  intro Q own sz im ct a w t X Z hn5 hD hT h30 hw eX hF hQ
  refine AMet.go (L := [some (vR a), some (vR 10), some (vI w), some (vI t.2.2.2.1), none]) mok_X8_block (Nat.le_of_ble_eq_true rfl) rfl ?_
  have HR := Z.1
  have ha := HR.1.1.1
  have ha1 := ha.2.1
  have ha0 := ha.1
  have hp := HR.2.1
  have oa := Z.2.2.2.1
  have hP0 := Z.2.2.2.2.1
  have hPq := Z.2.2.2.2.2.2.2.1.1
  have hs0 := hP0.1
  have hs4 := hP0.2
  have hs1 := hPq.1.1
  have hT0 := hT.1
  have hT1 := hT.2.1
  have hT2 := hT.2.2.1
  have hT3 := hT.2.2.2
  have hE := tE_bd (tp := tp) hp.2
  have hF9 := tF_bd (tp := tp) hp.2
  have hw17 : tW tp n t.1 = 17 ∨ tW tp n t.1 = 18 := by omega
  have hcX : t.2.2.2.2.2 + 1 ≤ cN X ∧ cN X ≤ 30 := by
    cases X with
    | inl e9 => exact ⟨by show t.2.2.2.2.2 + 1 ≤ 30; omega, Int.le_refl _⟩
    | inr u =>
      have := blP_p hs0 hs1 hp.2 hD hT hw17 h30 eX
      exact ⟨this.2.2.2.2.1, this.1.2.2.1.2⟩
  refine AW.widen (kc' := 2 + (3 * (cN X - t.2.2.2.2.2 - 1)).toNat) (ks' := 10 + (130 * (cN X - t.2.2.2.2.2 - 1)).toNat) (by omega) (by omega) ?_
  have K30 : ∀ (q kk A B C E : Int) (im2 : Int → aIm) (ct2 : Int → Int → Int), ordP tp n (tE tp n t.1) s N (tW tp n t.1) = .inr (q, kk, A, B, C, E) → RDX (sz + 2) im2 ct2 a tp n q → GR a sz im ct (sz + 2) im2 ct2 → (aob (sz + 2) im2 sz 10 ∨ aob (sz + 2) im2 sz 11) → (∀ R : Int → Int, HDB (sz + 2) im2 (sR s (rowW R t.2.2.1 kk A B C E)) sz t.2.2.1) → aar (sz + 2) im2 (sz + 1) 8 4 → ct2 sz 0 = sz + 1 → ct2 sz 1 = 0 → AW (mq Q) md_X8_block d (3 * (cN X - t.2.2.2.2.2 - 1)).toNat (130 * (cN X - t.2.2.2.2.2 - 1)).toNat 30 [some (vR a), some (vR 10), some (vI w), some (vI t.2.2.2.1), none] [vR sz] (sz + 2, im2, ct2) := fun q kk A B C E im2 ct2 eo HR2 g2 hcl hhd har hc0 hc1 => by
    have eB := eX
    unfold blP at eB
    rw [eo, bnd_r rfl] at eB
    dsimp only at eB
    have hq := ordP_p hE.2 hs0 hs1 eo
    have hq2 := tE_bd (tp := tp) (n := n) (p := q) hq.2
    have haz : sz ≠ a := fun z => by omega
    refine aw_astore4 dX8_block_30 (by decide) rfl ?_
    refine aw_aload_n dX8_block_32 rfl ?_
    refine c_X8_175 rfl dX8_block_33 HR2.1.1.1 (Nat.le_of_ble_eq_true rfl) (by omega) (C_x_close HR2 (fun ct3 hs f3 => ?_) (fun ct3 hs HR3 f3 => ?_))
    · rw [if_neg hs] at eB
      exact aK_x (ax_out rfl (hF _ _ _ _ _ eB.symm (G4.gb oa (g2.fb f3))))
    · refine aK_v ?_
      rw [if_pos hs, nxtP_op hw17] at eB
      dsimp only at eB
      have e3z : ct3 sz = ct2 sz := f3.1 sz haz
      obtain ⟨own2, eo2⟩ : ∃ z : Int → Int, z = fun x => if x < sz then own x else -4 := ⟨_, rfl⟩
      have ow1 : ∀ x, x < sz → own2 x = own x := fun x hx => by rw [eo2]; exact if_pos hx
      have ow2 : ∀ x, sz ≤ x → own2 x = -4 := fun x hx => by rw [eo2]; exact if_neg (by omega)
      have hB0 : FSB own a sz im ct own2 (sz + 2) im2 ct3 := ⟨by omega, fun x hx => ⟨(g2.2.1 x hx).1, ow1 x hx, fun hxa => (f3.1 x hxa).trans ((g2.2.1 x hx).2 hxa)⟩⟩
      have oa2 : own2 a = -3 := (ow1 a ha1).trans oa
      have ob2 : own2 sz = -4 := ow2 sz (by omega)
      have e30 : ct3 sz 0 = sz + 1 := by rw [e3z]; exact hc0
      have ot2 : own2 (ct3 sz 0) = -4 := by rw [e30]; exact ow2 _ (by omega)
      have har3 : aar (sz + 2) im2 (ct3 sz 0) 8 4 := by rw [e30]; exact har
      have e31 : ct3 sz 1 = 0 := by rw [e3z]; exact hc1
      refine AW.widen (kc' := (3 * (cN X - (t.2.2.2.2.2 + 1))).toNat) (ks' := (130 * (cN X - (t.2.2.2.2.2 + 1))).toNat) (by omega) (by omega) ?_
      exact L_x_blk (R0 := (rowW t.2.1 t.2.2.1 kk A B C E)) (ct0 := ct3) (i := t.2.2.1 + 1) hd hd0 hs0 hs1 hs4 hS oa2 ob2 ot2 (fun k9 pl9 sz9 im9 ct9 e9 q9 => hF _ _ _ _ _ e9 (hB0.g4 oa q9))
        (fun u own9 sz9 im9 ct9 e9 HR9 h59 F9 B9 r9 => hQ u own9 sz9 im9 ct9 sz e9 HR9 h59 ⟨by have := F9.1; omega, fun x hx => ⟨((F9.2.1 x (by omega)).1).trans (hB0.2 x hx).1, ((F9.2.1 x (by omega)).2.1).trans (hB0.2 x hx).2.1, fun hxa => ((F9.2.1 x (by omega)).2.2 hxa (by omega) (by omega)).trans ((hB0.2 x hx).2.2 hxa)⟩⟩ (Int.le_refl _) (by have := F9.2.2; omega) B9
          ((hhd t.2.1).mv F9.1 (fun x hx => (F9.2.1 x hx).1) (by rw [sR_lo (by decide), sR_lo (by decide)]) (fun z z0 z1 z2 => by rw [sR_hi (by omega), sR_hi (by omega)]; exact r9 z (by omega))))
        ((n - tE tp n q).toNat + 1) (tE tp n q, rowW t.2.1 t.2.2.1 kk A B C E, t.2.2.1 + 1, t.2.2.2.1 + 1, upA t.2.2.2.2.1 t.2.2.2.1 t.2.2.1, t.2.2.2.2.2 + 1) own2 (sz + 2) im2 ct3 (by show n - tE tp n q < _; omega) eB
        (Z.tg4 (by omega) (fun x hx => ⟨(hB0.2 x hx).1, (hB0.2 x hx).2.1, fun x3 _ => (hB0.2 x hx).2.2 (fun z => x3 (by rw [z]; exact oa))⟩) HR3) ((f3.2.trans g2.2.2).trans hn5) rfl (by show t.2.2.2.1 + 1 + D = 3; omega) hT1.1
        ⟨by show 0 ≤ t.2.2.1 + 1; omega, ⟨by show 0 ≤ t.2.2.2.1 + 1; omega, by show t.2.2.2.1 + 1 ≤ 3; omega⟩, ⟨by show 0 ≤ t.2.2.2.2.2 + 1; omega, by show t.2.2.2.2.2 + 1 ≤ 30; omega⟩, by show t.2.2.1 + 1 + (t.2.2.2.1 + 1) ≤ 2 * (t.2.2.2.2.2 + 1); omega⟩ FSS.rf
        ⟨hcl, ob2, ot2, by omega, ⟨by omega, by show t.2.2.1 + 1 ≤ 60; omega⟩, 4, fun _ => t.2.2.1 + 1, har3, by decide, by omega, rfl, rfl, fun k k0 k1 => by omega⟩ (Int.le_refl _) (fun _ _ => rfl)
  rcases hw with ⟨hwk, hw1⟩ | ⟨hwk, hw1⟩
  · subst hw1
    refine aw_aload_n dX8_block_0 rfl ?_
    refine c_X8_19 rfl dX8_block_1 ha (Nat.le_of_ble_eq_true rfl) (by omega) (C_x_next HR.1 HR.goes.1 HR.goes.2 (fun ct1 HR1 f1 => ?_))
    have g1 := GR.rf.fa f1 (sz := sz) (im := im)
    have Z1 := Z.gr g1 HR1
    refine aK_v ?_
    refine aw_iload_n dX8_block_4 rfl ?_
    refine aw_ifeq (tgt := 16) dX8_block_5 (by decide) (fun h5 => ?_) (fun h5 => ?_)
    · exfalso; omega
    · refine aw_aload_n dX8_block_8 rfl ?_
      refine aw_aload_n dX8_block_9 rfl ?_
      refine c_X8_260a (kc1 := 2) (ks1 := 10) (kc2 := (3 * (cN X - t.2.2.2.2.2 - 1)).toNat) (ks2 := (130 * (cN X - t.2.2.2.2.2 - 1)).toNat) (by omega) (by omega) rfl dX8_block_10 ha (Nat.le_of_ble_eq_true rfl) (by omega) (C_x_when Z1 (fun k9 pl9 sz9 im9 ct9 e9 q9 => ?_) (fun q kk A B C E im9 ct9 e9 HR9 g9 o9 w9 k9 ar9 z0 z1 => ?_))
      · exact aK_x (ax_out rfl (hF _ _ _ _ _ (by rw [← eX]; unfold blP; rw [hwk, ordP_17]; exact bnd_l e9) (G4.gb oa (GB.pre f1 q9))))
      · have e9T := e9
        rw [← ordP_17] at e9
        rw [← hwk] at e9
        have b9 := tstP_p hE.2 hs0 e9T
        refine aK_i ?_
        refine aw_goto (tgt := 30) dX8_block_13 (by decide) ?_
        exact K30 q kk A B C E im9 ct9 e9 HR9 (GR.pre f1 g9) (Or.inr o9) (fun R => Or.inr ⟨o9, by rw [sR_hi (by omega), rowW_at.2.1]; exact w9.1, by rw [sR_hi (by omega), rowW_at.2.1, sR_lo (by decide)]; exact b9.2.1, by rw [sR_hi (by omega), rowW_at.2.2.2.2]; exact w9.2.1, by rw [sR_hi (by omega), rowW_at.2.2.1]; exact w9.2.2, by rw [sR_hi (by omega), rowW_at.1]; exact k9⟩) ar9 z0 z1
  · subst hw1
    refine aw_aload_n dX8_block_0 rfl ?_
    refine c_X8_19 rfl dX8_block_1 ha (Nat.le_of_ble_eq_true rfl) (by omega) (C_x_next HR.1 HR.goes.1 HR.goes.2 (fun ct1 HR1 f1 => ?_))
    have g1 := GR.rf.fa f1 (sz := sz) (im := im)
    have Z1 := Z.gr g1 HR1
    refine aK_v ?_
    refine aw_iload_n dX8_block_4 rfl ?_
    refine aw_ifeq (tgt := 16) dX8_block_5 (by decide) (fun h5 => ?_) (fun h5 => ?_)
    · refine AW.widen (kc' := (1 + (3 * (cN X - t.2.2.2.2.2 - 1)).toNat) + 1) (ks' := (4 + 3 + (130 * (cN X - t.2.2.2.2.2 - 1)).toNat) + 3) (by first | decide | omega) (by first | decide | omega) (aw_new (c9 := 10) (q := (RX12, TX12, 3)) (N9 := 3) dX8_block_16 rfl q954 q886 q140 rfl ?_)
      have g2 := g1.new (z := (10, 0, adf 10)) (g := adf 10) ha1
      have HR2 := HR1.new (z := (10, 0, adf 10)) (g := adf 10)
      refine aw_dup dX8_block_19 rfl ?_
      refine aw_aload_n dX8_block_20 rfl ?_
      refine aw_iconst dX8_block_21 (by decide) ?_
      refine aw_bipush dX8_block_22 (by decide) ?_
      refine c_X8_76 rfl dX8_block_24 HR2.1.1.1 (Nat.le_of_ble_eq_true rfl) (by omega) (C_x_rnum HR2 (fun k9 pl9 ct9 y3 f9 => ?_) (fun v3 q3 ct3 y3 HR3 f3 => ?_))
      · exact aK_x (ax_out rfl (hF _ _ _ _ _ (by rw [← eX]; unfold blP; rw [hwk, ordP_18]; exact bnd_l (bnd_l y3)) (G4.gb oa (g2.fb f9))))
      · have g3 := g2.fa f3
        have b3 := numP_p hE.2 y3
        refine aK_i ?_
        refine c_X8_265a (kc1 := 1) (ks1 := 4) (kc2 := (3 * (cN X - t.2.2.2.2.2 - 1)).toNat) (ks2 := (130 * (cN X - t.2.2.2.2.2 - 1)).toNat) (by omega) (by omega) rfl dX8_block_27 (by omega) (Nat.le_of_ble_eq_true rfl) (by omega) (C_x_loopinit (aob_at (by omega)) (fun im9 ct9 o9 ar9 w9 i9 c9 e9 => ?_))
        refine aK_v ?_
        have E2 : sz + 1 + 1 = sz + 2 := by omega
        rw [E2] at o9 ar9 ⊢
        have q0 := HR.1.2.1.1.2.1
        have q6 := HR.1.2.1.2.2.2.1.2.1
        have q7 := HR.1.2.1.2.2.2.2.2.1
        have eo : ordP tp n (tE tp n t.1) s N (tW tp n t.1) = .inr (q3, 18, v3, 0, 0, 0) := by rw [hwk, ordP_18]; exact bnd_r y3
        refine K30 q3 18 v3 0 0 0 im9 ct9 eo (HR3.mono2 (by omega) (fun x hx => i9 x (by omega) (by omega)) (funext fun j => c9 6 j (by omega) (by omega)) (fun j _ => c9 a j (by omega) (by omega))) ⟨by omega, fun x hx => ⟨by rw [i9 x (by omega) (by omega)]; exact (g3.2.1 x hx).1, fun hxa => by rw [show ct9 x = _ from funext fun j => c9 x j (by omega) (by omega)]; exact (g3.2.1 x hx).2 hxa⟩, by rw [c9 a 5 (by omega) (by omega)]; exact g3.2.2⟩ (Or.inl o9) (fun R => Or.inl ⟨o9, by rw [sR_hi (by omega), rowW_at.1], by rw [sR_hi (by omega), rowW_at.2.1]; exact w9, by rw [sR_hi (by omega), rowW_at.2.1]; exact b3.2.1, by rw [sR_hi (by omega), rowW_at.2.1]; exact b3.2.2⟩) ar9 e9 ?_
        rw [c9 sz 1 (by omega) (by omega), f3.1 sz (by omega), upA_s]
        rfl
    · exfalso; omega
