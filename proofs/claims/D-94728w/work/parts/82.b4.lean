set_option maxRecDepth 100000
/-! the Reader: what a block asks; a loop is born-/
theorem C_x_when {own : Int → Int} {sz : Int} {im : Int → aIm} {ct : Int → Int → Int} {a : Int} {s N tp : Int → Int} {n p : Int} {Q : aPost} (Z : ZR own sz im ct a s N tp n p) (hF : ∀ (k pl sz1 : Int) (im1 : Int → aIm) (ct1 : Int → Int → Int), tstP tp n p s N = .inl (k, pl) → GB a sz im ct sz1 im1 ct1 k pl → Q (.inr (0, 7)) (sz1, im1, ct1)) (hQ : ∀ (q kk A B C E : Int) (im1 : Int → aIm) (ct1 : Int → Int → Int), tstP tp n p s N = .inr (q, kk, A, B, C, E) → RDX (sz + 2) im1 ct1 a tp n q → GR a sz im ct (sz + 2) im1 ct1 → aob (sz + 2) im1 sz 11 → ((im1 sz).2.2 3 = A ∧ (im1 sz).2.2 4 = E ∧ (im1 sz).2.2 5 = B) → ((kk = 1721 ∧ (im1 sz).2.2 2 = 0) ∨ (kk = 1705 ∧ (im1 sz).2.2 2 = 1) ∨ (kk = 1706 ∧ (im1 sz).2.2 2 = 2) ∨ (kk = 1722 ∧ (im1 sz).2.2 2 = 3)) → aar (sz + 2) im1 (sz + 1) 8 4 → ct1 sz 0 = sz + 1 → ct1 sz 1 = 0 → Q (.inl (some (vR sz))) (sz + 2, im1, ct1)) : AMet md_X8_when 10 2 10 [vR a, vR 10] (sz, im, ct) Q := by
  refine AMet.go (L := [some (vR a), some (vR 10), none, none, none]) mok_X8_when (Nat.le_of_ble_eq_true rfl) rfl ?_
  have HR := Z.1
  have ha := HR.1.1.1
  have ha1 := ha.2.1
  have ha0 := ha.1
  have hBad := HR.1.2.1.2.2.2.2
  have hP0 := Z.2.2.2.2.1
  refine aw_aload_n dX8_when_0 rfl ?_
  refine c_X8_122 rfl dX8_when_1 ha (Nat.le_of_ble_eq_true rfl) (by omega) (C_x_tests HR (fun v hv => ?_))
  refine aK_i ?_
  refine aw_istore2 dX8_when_4 (by decide) rfl ?_
  refine aw_iload_n dX8_when_5 rfl ?_
  refine aw_ifge (tgt := 14) dX8_when_6 (by decide) (fun h6 => ?_) (fun h6 => ?_)
  · have hk : tW tp n p = 21 ∨ tW tp n p = 5 ∨ tW tp n p = 6 ∨ tW tp n p = 22 := by omega
    have eT : tstP tp n p s N = bnd (hvP tp n (tE tp n p) s N) fun h => if tW tp n p = 21 then .inr (h.2, 1721, h.1, 0, 0, 0) else if sgn tp n h.2 60 ∨ sgn tp n h.2 62 ∨ sgn tp n h.2 61 then bnd (numP tp n (tE tp n h.2) 0 9999) fun v => .inr (v.2, 1700 + tW tp n p, h.1, v.1, 0, tp (tF tp n h.2)) else .inl (wr tp n h.2, tF tp n h.2) := by unfold tstP; exact if_pos hk
    refine aw_aload_n dX8_when_14 rfl ?_
    refine c_X8_19 rfl dX8_when_15 ha (Nat.le_of_ble_eq_true rfl) (by omega) (C_x_next HR.1 HR.goes.1 HR.goes.2 (fun ct1 HR1 f1 => ?_))
    have g1 := GR.rf.fa f1 (sz := sz) (im := im)
    have Z1 := Z.gr g1 HR1
    refine aK_v ?_
    refine aw_aload_n dX8_when_18 rfl ?_
    refine aw_aload_n dX8_when_19 rfl ?_
    refine c_X8_255 rfl dX8_when_20 HR1.1.1.1 (Nat.le_of_ble_eq_true rfl) (by omega) (C_x_rhive (la := 0) Z1.1 Z1.2.1.choose_spec (fun k9 pl9 ct9 y2 f9 => ?_) (fun v2 q2 ct2 y2 HR2 f2 => ?_))
    · exact aK_x (ax_out rfl (hF _ _ _ _ _ (by rw [eT]; exact bnd_l (show hvP tp n _ s N = _ from y2)) (g1.fb f9)))
    · have g2 := g1.fa f2
      have Z2 := Z.gr g2 HR2
      have y2 : hvP tp n _ s N = .inr (v2, q2) := y2
      have yb2 := hvP_p Z1.1.2.1.2 hP0.1 y2
      rw [bnd_r y2] at eT
      dsimp only at eT
      refine aK_i ?_
      refine aw_istore3 dX8_when_23 (by decide) rfl ?_
      refine aw_iload_n dX8_when_24 rfl ?_
      refine aw_ifne (tgt := 40) dX8_when_25 (by decide) (fun h25 => ?_) (fun h25 => ?_)
      · rw [if_neg (show ¬ tW tp n p = 21 by omega)] at eT
        have K87 : ∀ c : Int, c = 60 ∨ c = 62 ∨ c = 61 → sgn tp n q2 c → AW (mq Q) md_X8_when 10 2 10 87 [some (vR a), some (vR 10), some (vI v), some (vI v2), some (vI c)] [] (sz, im, ct2) := fun c hc sg => by
          have sg3 : sgn tp n q2 60 ∨ sgn tp n q2 62 ∨ sgn tp n q2 61 := by
            rcases hc with z | z | z
            · subst z; exact Or.inl sg
            · subst z; exact Or.inr (Or.inl sg)
            · subst z; exact Or.inr (Or.inr sg)
          rw [if_pos sg3] at eT
          refine aw_aload_n dX8_when_87 rfl ?_
          refine c_X8_19 rfl dX8_when_88 ha (Nat.le_of_ble_eq_true rfl) (by omega) (C_x_next HR2.1 HR2.goes.1 HR2.goes.2 (fun ct3 HR3 f3 => ?_))
          have g3 := g2.fa f3
          refine aK_v ?_
          refine AW.widen (kc' := 1 + 1) (ks' := 4 + 6) (by first | decide | omega) (by first | decide | omega) (aw_new (c9 := 11) (q := (RX13, TX13, 6)) (N9 := 6) dX8_when_91 rfl q933 q934 q141 rfl ?_)
          have g4 := g3.new (z := (11, 0, adf 11)) (g := adf 11) ha1
          have HR4 := HR3.new (z := (11, 0, adf 11)) (g := adf 11)
          have Z4 := Z.gr g4 HR4
          refine aw_dup dX8_when_94 rfl ?_
          refine aw_iload_n dX8_when_95 rfl ?_
          refine aw_iload_n dX8_when_96 rfl ?_
          refine aw_iload dX8_when_97 rfl ?_
          refine aw_aload_n dX8_when_99 rfl ?_
          refine aw_iconst dX8_when_100 (by decide) ?_
          refine aw_sipush dX8_when_101 (by decide) ?_
          refine c_X8_76 rfl dX8_when_104 HR4.1.1.1 (Nat.le_of_ble_eq_true rfl) (by omega) (C_x_rnum HR4 (fun k9 pl9 ct9 y5 f9 => ?_) (fun v5 q5 ct5 y5 HR5 f5 => ?_))
          · exact aK_x (ax_out rfl (hF _ _ _ _ _ (by rw [eT]; exact bnd_l y5) (g4.fb f9)))
          · have g5 := g4.fa f5
            rw [bnd_r y5] at eT
            refine aK_i ?_
            refine c_X8_270a (kc1 := 1) (ks1 := 4) (kc2 := 0) (ks2 := 0) (by decide) (by decide) rfl dX8_when_107 (by omega) (Nat.le_of_ble_eq_true rfl) (by omega) (C_x_wheninit (aob_at (by omega)) (fun im9 ct9 o9 ar9 w9 i9 c9 e9 => ?_))
            refine aK_v ?_
            refine aw_areturn dX8_when_110 rfl (Or.inl ⟨_, rfl⟩) ?_
            have E2 : sz + 1 + 1 = sz + 2 := by omega
            rw [E2] at o9 ar9 ⊢
            have q0 := HR.1.2.1.1.2.1
            have q6 := HR.1.2.1.2.2.2.1.2.1
            have q7 := HR.1.2.1.2.2.2.2.2.1
            refine hQ _ _ _ _ _ _ im9 ct9 eT (HR5.mono2 (by omega) (fun x hx => i9 x (by omega) (by omega)) (funext fun j => c9 6 j (by omega) (by omega)) (fun j _ => c9 a j (by omega) (by omega))) ⟨by omega, fun x hx => ⟨by rw [i9 x (by omega) (by omega)]; exact (g5.2.1 x hx).1, fun hxa => by rw [show ct9 x = _ from funext fun j => c9 x j (by omega) (by omega)]; exact (g5.2.1 x hx).2 hxa⟩, by rw [c9 a 5 (by omega) (by omega)]; exact g5.2.2⟩ o9 ⟨w9.2.1, ?_, w9.2.2.2⟩ (by rw [w9.1]; omega) ar9 e9 (by rw [c9 sz 1 (by omega) (by omega), f5.1 sz (by omega), upA_s]; rfl)
            first
              | exact w9.2.2.1
              | exact w9.2.2.1.trans sg.2.symm
        refine aw_aload_n dX8_when_40 rfl ?_
        refine aw_bipush dX8_when_41 (by decide) ?_
        refine c_X8_64 rfl dX8_when_43 ha (Nat.le_of_ble_eq_true rfl) (by omega) (C_x_isSign HR2 (fun s1 => ?_) (fun s1 => ?_))
        · refine aK_i ?_
          refine aw_ifeq (tgt := 54) dX8_when_46 (by decide) (fun h => absurd h (by decide)) (fun _ => ?_)
          refine aw_bipush dX8_when_49 (by decide) ?_
          refine aw_goto (tgt := 70) dX8_when_51 (by decide) ?_
          refine aw_istore4 dX8_when_70 (by decide) rfl ?_
          refine aw_aload_n dX8_when_72 rfl ?_
          refine aw_iload dX8_when_73 rfl ?_
          refine aw_i2cr dX8_when_75 (by omega) ?_
          refine c_X8_64 rfl dX8_when_76 ha (Nat.le_of_ble_eq_true rfl) (by omega) (C_x_isSign HR2 (fun s3 => ?_) (fun s3 => ?_))
          · refine aK_i ?_
            refine aw_ifne (tgt := 87) dX8_when_79 (by decide) (fun _ => ?_) (fun h => absurd h (by decide))
            exact K87 _ (by decide) s3
          · refine aK_i ?_
            refine aw_ifne (tgt := 87) dX8_when_79 (by decide) (fun h => absurd h (by decide)) (fun _ => ?_)
            refine aw_aload_n dX8_when_82 rfl ?_
            refine c_X8_68 rfl dX8_when_83 ha (Nat.le_of_ble_eq_true rfl) (by omega) (C_x_wrong HR2 (fun ctw fw => ?_))
            refine aK_i ?_
            exact aw_athrow (E := 0) dX8_when_86 hBad ⟨_, rfl, rfl⟩ (ax_out rfl (hF _ _ _ _ _ (by rw [eT]; exact if_neg (by intro z; first | exact s3 s1 | exact s3 s2 | (rcases z with z | z | z; exact s1 z; exact s2 z; exact s3 z))) (g2.fb fw)))
        · refine aK_i ?_
          refine aw_ifeq (tgt := 54) dX8_when_46 (by decide) (fun _ => ?_) (fun h => absurd h (by decide))
          refine aw_aload_n dX8_when_54 rfl ?_
          refine aw_bipush dX8_when_55 (by decide) ?_
          refine c_X8_64 rfl dX8_when_57 ha (Nat.le_of_ble_eq_true rfl) (by omega) (C_x_isSign HR2 (fun s2 => ?_) (fun s2 => ?_))
          · refine aK_i ?_
            refine aw_ifeq (tgt := 68) dX8_when_60 (by decide) (fun h => absurd h (by decide)) (fun _ => ?_)
            refine aw_bipush dX8_when_63 (by decide) ?_
            refine aw_goto (tgt := 70) dX8_when_65 (by decide) ?_
            refine aw_istore4 dX8_when_70 (by decide) rfl ?_
            refine aw_aload_n dX8_when_72 rfl ?_
            refine aw_iload dX8_when_73 rfl ?_
            refine aw_i2cr dX8_when_75 (by omega) ?_
            refine c_X8_64 rfl dX8_when_76 ha (Nat.le_of_ble_eq_true rfl) (by omega) (C_x_isSign HR2 (fun s3 => ?_) (fun s3 => ?_))
            · refine aK_i ?_
              refine aw_ifne (tgt := 87) dX8_when_79 (by decide) (fun _ => ?_) (fun h => absurd h (by decide))
              exact K87 _ (by decide) s3
            · refine aK_i ?_
              refine aw_ifne (tgt := 87) dX8_when_79 (by decide) (fun h => absurd h (by decide)) (fun _ => ?_)
              refine aw_aload_n dX8_when_82 rfl ?_
              refine c_X8_68 rfl dX8_when_83 ha (Nat.le_of_ble_eq_true rfl) (by omega) (C_x_wrong HR2 (fun ctw fw => ?_))
              refine aK_i ?_
              exact aw_athrow (E := 0) dX8_when_86 hBad ⟨_, rfl, rfl⟩ (ax_out rfl (hF _ _ _ _ _ (by rw [eT]; exact if_neg (by intro z; first | exact s3 s1 | exact s3 s2 | (rcases z with z | z | z; exact s1 z; exact s2 z; exact s3 z))) (g2.fb fw)))
          · refine aK_i ?_
            refine aw_ifeq (tgt := 68) dX8_when_60 (by decide) (fun _ => ?_) (fun h => absurd h (by decide))
            refine aw_bipush dX8_when_68 (by decide) ?_
            refine aw_istore4 dX8_when_70 (by decide) rfl ?_
            refine aw_aload_n dX8_when_72 rfl ?_
            refine aw_iload dX8_when_73 rfl ?_
            refine aw_i2cr dX8_when_75 (by omega) ?_
            refine c_X8_64 rfl dX8_when_76 ha (Nat.le_of_ble_eq_true rfl) (by omega) (C_x_isSign HR2 (fun s3 => ?_) (fun s3 => ?_))
            · refine aK_i ?_
              refine aw_ifne (tgt := 87) dX8_when_79 (by decide) (fun _ => ?_) (fun h => absurd h (by decide))
              exact K87 _ (by decide) s3
            · refine aK_i ?_
              refine aw_ifne (tgt := 87) dX8_when_79 (by decide) (fun h => absurd h (by decide)) (fun _ => ?_)
              refine aw_aload_n dX8_when_82 rfl ?_
              refine c_X8_68 rfl dX8_when_83 ha (Nat.le_of_ble_eq_true rfl) (by omega) (C_x_wrong HR2 (fun ctw fw => ?_))
              refine aK_i ?_
              exact aw_athrow (E := 0) dX8_when_86 hBad ⟨_, rfl, rfl⟩ (ax_out rfl (hF _ _ _ _ _ (by rw [eT]; exact if_neg (by intro z; first | exact s3 s1 | exact s3 s2 | (rcases z with z | z | z; exact s1 z; exact s2 z; exact s3 z))) (g2.fb fw)))
      · rw [if_pos (show tW tp n p = 21 by omega)] at eT
        refine AW.widen (kc' := 1 + 1) (ks' := 4 + 6) (by first | decide | omega) (by first | decide | omega) (aw_new (c9 := 11) (q := (RX13, TX13, 6)) (N9 := 6) dX8_when_28 rfl q933 q934 q141 rfl ?_)
        have g3 := g2.new (z := (11, 0, adf 11)) (g := adf 11) ha1
        have HR3 := HR2.new (z := (11, 0, adf 11)) (g := adf 11)
        have Z3 := Z.gr g3 HR3
        refine aw_dup dX8_when_31 rfl ?_
        refine aw_iload_n dX8_when_32 rfl ?_
        refine aw_iload_n dX8_when_33 rfl ?_
        refine aw_iconst dX8_when_34 (by decide) ?_
        refine aw_iconst dX8_when_35 (by decide) ?_
        refine c_X8_270a (kc1 := 1) (ks1 := 4) (kc2 := 0) (ks2 := 0) (by decide) (by decide) rfl dX8_when_36 (by omega) (Nat.le_of_ble_eq_true rfl) (by omega) (C_x_wheninit (aob_at (by omega)) (fun im9 ct9 o9 ar9 w9 i9 c9 e9 => ?_))
        refine aK_v ?_
        refine aw_areturn dX8_when_39 rfl (Or.inl ⟨_, rfl⟩) ?_
        have E2 : sz + 1 + 1 = sz + 2 := by omega
        rw [E2] at o9 ar9 ⊢
        have q0 := HR.1.2.1.1.2.1
        have q6 := HR.1.2.1.2.2.2.1.2.1
        have q7 := HR.1.2.1.2.2.2.2.2.1
        refine hQ _ _ _ _ _ _ im9 ct9 eT (HR3.mono2 (by omega) (fun x hx => i9 x (by omega) (by omega)) (funext fun j => c9 6 j (by omega) (by omega)) (fun j _ => c9 a j (by omega) (by omega))) ⟨by omega, fun x hx => ⟨by rw [i9 x (by omega) (by omega)]; exact (g3.2.1 x hx).1, fun hxa => by rw [show ct9 x = _ from funext fun j => c9 x j (by omega) (by omega)]; exact (g3.2.1 x hx).2 hxa⟩, by rw [c9 a 5 (by omega) (by omega)]; exact g3.2.2⟩ o9 ⟨w9.2.1, ?_, w9.2.2.2⟩ (by rw [w9.1]; omega) ar9 e9 (by rw [c9 sz 1 (by omega) (by omega), upA_s]; rfl)
        first
          | exact w9.2.2.1
          | exact w9.2.2.1.trans sg.2.symm
  · refine aw_aload_n dX8_when_9 rfl ?_
    refine c_X8_68 rfl dX8_when_10 ha (Nat.le_of_ble_eq_true rfl) (by omega) (C_x_wrong HR (fun ctw fw => ?_))
    refine aK_i ?_
    exact aw_athrow (E := 0) dX8_when_13 hBad ⟨_, rfl, rfl⟩ (ax_out rfl (hF _ _ _ _ _ (by unfold tstP; exact if_neg (by omega)) (GR.rf.fb fw)))
