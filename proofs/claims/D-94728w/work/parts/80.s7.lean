set_option maxRecDepth 100000
/-! the Reader: hives come in -/
theorem RDX.mono2 {sz sz' : Int} {im im' : Int → aIm} {ct ct' : Int → Int → Int} {a : Int} {tp : Int → Int} {n p : Int} (h : RDX sz im ct a tp n p) (hz : sz ≤ sz') (hi : ∀ x, x = 0 ∨ x = 6 ∨ x = 7 ∨ x = a → im' x = im x) (f6 : ct' 6 = ct 6) (fa : ∀ j, j < 5 → ct' a j = ct a j) : RDX sz' im' ct' a tp n p := by
  obtain ⟨⟨⟨h1, h2, h3⟩, ⟨g1, g2, g3, g4, g5⟩, h4, h5⟩, h6⟩ := id h
  refine ⟨⟨⟨⟨h1.1, by have := h1.2.1; omega, by rw [hi a (by omega)]; exact h1.2.2⟩, by rw [hi a (by omega)]; exact h2, by rw [hi a (by omega)]; exact h3⟩, ⟨⟨g1.1, by have := g1.2.1; omega, by rw [hi 0 (by omega)]; exact g1.2.2⟩, by rw [hi 0 (by omega)]; exact g2, by rw [hi 0 (by omega)]; exact g3, ⟨g4.1, by have := g4.2.1; omega, by rw [hi 6 (by omega)]; exact g4.2.2⟩, ⟨g5.1, by have := g5.2.1; omega, by rw [hi 7 (by omega)]; exact g5.2.2⟩⟩, h4, by rw [f6]; exact h5⟩, h.2.1, by rw [fa 1 (by decide)]; exact h.2.2.1, by rw [fa 2 (by decide)]; exact h.2.2.2.1, by rw [fa 3 (by decide)]; exact h.2.2.2.2.1, by rw [fa 4 (by decide)]; exact h.2.2.2.2.2⟩
theorem L_x_nh111 {own0 own : Int → Int} {sz0 sz sz2 : Int} {im0 im im6 : Int → aIm} {ct0 ct : Int → Int → Int} {ya la a : Int} {s N tp : Int → Int} {n x m e h q b9 : Int} {ctX : Int → Int → Int} {c9 : Int → Int} {Q : aPost} {d kc ks : Nat} (HB : XB own0 sz0 im0 ct0 own sz im ct ya la a s N) (hal : a < sz) (ez : sz2 = sz + 1 + 1 + m + 1) (HR : RDX sz2 im6 ctX a tp n q) (h4 : s 0 < 4) (hm : 1 ≤ m ∧ m ≤ 12) (he : 0 ≤ e ∧ e ≤ 9999) (hh : 0 ≤ h ∧ h ≤ 16 * m) (hS : HvS sz2 im6 sz m) (hC : HvC sz2 im6 ctX sz m c9) (ec : eqF m c9 (stor m (nF m) (fun _ => 0) (100 * h)).1) (z0 : (im6 sz).2.2 0 = x) (z1 : (im6 sz).2.2 1 = sz + 1) (z2 : (im6 sz).2.2 2 = sz + 1 + 1 + m) (zf : ∀ f, ctX (sz + 1) f = sz + 1 + 1 + f)
    (zi : ∀ y, y < sz → im6 y = im y) (zc : ∀ y, y < sz → y ≠ a → ctX y = ct y) (f3 : ctX sz 3 = e) (f4 : ctX sz 4 = 0) (f5 : ctX sz 5 = -1) (f6 : ctX sz 6 = 0) (f7 : ctX sz 7 = 0)
    (hQ : ∀ (own1 : Int → Int) (ct1 : Int → Int → Int), RDX sz2 im6 ct1 a tp n q → XB own0 sz0 im0 ct0 own1 sz2 im6 ct1 ya la a (addH s m e h) (upA N (s 0) x) → ct1 a 5 = ctX a 5 → Q (.inl none) (sz2, im6, ct1)) : AW (mq Q) md_X8_newHive d kc ks 111 [some (vR a), some (vR ya), some (vL x), none, some (vI b9), some (vR sz)] [] (sz2, im6, ctX) := by
  obtain ⟨B1, B2, B3, B4, ⟨B5, B6, B7⟩, ⟨B8, B9, B10, B11, B12, B15⟩, B13, B14⟩ := id HB
  have P0 := B14.1.1
  have PQ0 := B14.1.2.2.2.1.1
  have y9 := B4.2.1
  have yH := B4.2.2.2.1
  have yz := B4.1.2.1
  have hz := B4.2.2.1.2.1
  have y0 := B4.1.1
  have lz := B6.1.2.1
  have az := HR.1.1.1
  have eu4 : upA s 4 0 0 = s 0 := upA_n (by omega)
  have nya : ya ≠ a := fun z => by rw [z] at y9; omega
  obtain ⟨ha, eha⟩ : ∃ z, (im ya).2.2 1 = z := ⟨_, rfl⟩
  rw [eha] at B10 yH hz B13
  have nha : ha ≠ a := fun z => by rw [z] at yH; omega
  have nhy : ha ≠ ya := fun z => by have q1 := B4.2.2.1; rw [eha] at q1; exact aob_ne B4.1 q1 (by decide) z.symm
  have eh6 : (im6 ya).2.2 1 = ha := by rw [zi ya yz]; exact eha
  have hA : aar sz2 im6 ha 5 4 := by
    have q1 := B4.2.2.1
    rw [eha] at q1
    exact ⟨q1.1, by omega, by rw [zi ha hz]; exact q1.2.2⟩
  have hY6 : aob sz2 im6 ya 5 := ⟨y0, by omega, by rw [zi ya yz]; exact B4.1.2.2⟩
  have e2X : ctX ya 2 = s 0 := by rw [zc ya yz nya]; exact B4.2.2.2.2.2.1.1.trans eu4
  have ao := B12
  refine aw_aload_n dX8_newHive_111 rfl ?_
  refine g_X8_184_5 rfl dX8_newHive_112 hY6 ?_
  rw [eh6]
  refine aw_aload_n dX8_newHive_115 rfl ?_
  refine g_X8_178_5 rfl dX8_newHive_116 hY6 ?_
  first
    | rw [e2X]
    | rw [aup_rn (Ne.symm nhy), e2X]
  refine aw_aload dX8_newHive_119 rfl ?_
  refine aw_aastore (t := 5) dX8_newHive_121 hA (by decide) (by omega) (by omega) (Or.inl ⟨9, _, hS.1, rfl, Or.inl rfl⟩) ?_
  refine aw_aload_n dX8_newHive_122 rfl ?_
  refine aw_dup dX8_newHive_123 rfl ?_
  refine g_X8_178_5 rfl dX8_newHive_124 hY6 ?_
  first
    | rw [e2X]
    | rw [aup_rn (Ne.symm nhy), e2X]
  refine aw_iconst dX8_newHive_127 (by decide) ?_
  refine aw_iaddr dX8_newHive_128 (by omega) ?_
  refine p_X8_178_5 rfl dX8_newHive_129 hY6 ?_
  refine aw_ret dX8_newHive_132 rfl ?_
  obtain ⟨own1, eo⟩ : ∃ z : Int → Int, z = (fun y => if y < sz then own y else 50 + s 0) := ⟨_, rfl⟩
  have o1 : ∀ y, y < sz → own1 y = own y := fun y hy => by rw [eo]; exact if_pos hy
  have o2 : ∀ y, sz ≤ y → own1 y = 50 + s 0 := fun y hy => by rw [eo]; exact if_neg (by omega)
  have r7 : ∀ i, i ≠ 0 → i ≠ 4 → (i < 64 + 198 * s 0 ∨ 262 + 198 * s 0 ≤ i) → addH s m e h i = s i := fun i a c d => addH_n a c d
  have s7 : ∀ i, i ≠ 4 → upA (addH s m e h) 4 0 i = addH s m e h i := fun i hi => upA_n hi
  have ek : addH s m e h (64 + 198 * s 0) = m := by unfold addH; rw [if_neg (by omega), if_neg (by omega), if_pos rfl]
  have Yh : YH own1 (10 * 5 + upA s 4 0 0) sz2 im6 ctX sz (upA (addH s m e h) 4 0) (64 + 198 * upA s 4 0 0) x := by
    rw [eu4]
    unfold YH
    rw [s7 _ (by omega), ek]
    refine ⟨hS, hC.cong (fun i i0 i1 => ?_), ⟨?_, ?_, ?_, ?_, ?_⟩, z0, o2 _ (Int.le_refl _), by rw [z1]; exact o2 _ (by omega), by rw [z2]; exact o2 _ (by omega), fun f f0 f1 => by rw [z1, zf]; exact o2 _ (by omega)⟩
    · rw [ec i i0 i1]
      unfold sh
      rw [s7 _ (by omega), show 64 + 198 * s 0 + 6 + i = 70 + 198 * s 0 + i by omega]
      exact (addH_f P0.1 i0 (by omega)).symm
    · rw [f3, s7 _ (by omega)]; unfold addH; rw [if_neg (by omega), if_neg (by omega), if_neg (by omega), if_pos (by omega)]
    · rw [f4, s7 _ (by omega)]; unfold addH; rw [if_neg (by omega), if_neg (by omega), if_neg (by omega), if_neg (by omega), if_neg (by omega), if_neg (by omega)]; exact (B14.2.2.2.2 _ (by omega) (by omega)).symm
    · rw [f5, s7 _ (by omega)]; unfold addH; rw [if_neg (by omega), if_neg (by omega), if_neg (by omega), if_neg (by omega), if_pos (by omega)]
    · rw [f6, s7 _ (by omega)]; unfold addH; rw [if_neg (by omega), if_neg (by omega), if_neg (by omega), if_neg (by omega), if_neg (by omega), if_neg (by omega)]; exact (B14.2.2.2.2 _ (by omega) (by omega)).symm
    · rw [f7, s7 _ (by omega)]; unfold addH; rw [if_neg (by omega), if_neg (by omega), if_neg (by omega), if_neg (by omega), if_neg (by omega), if_neg (by omega)]; exact (B14.2.2.2.2 _ (by omega) (by omega)).symm
  have HBA : XB own0 sz0 im0 ct0 own sz im (fun y => if y = a then ctX a else ct y) ya la a s N := HB.fa fun y hy => if_neg hy
  have Y2 : YR own1 5 sz2 im6 ctX ya (upA s 4 0) 0 N := HBA.2.2.2.1.mono (by omega) zi (fun y hy => by
    by_cases z : y = a
    · subst z; exact (if_pos rfl).symm
    · rw [zc y hy z]; exact (if_neg z).symm) o1
  have Y3 := Y2.more (dd := 0) (by decide) (by rw [eu4]; exact h4) eh6 Yh (fun i i0 hi => by
    rw [eu4] at hi
    by_cases z : i = 4
    · subst z; rw [upA_s, upA_s]
    · rw [s7 i z, upA_n z]; exact r7 i i0 z hi) (by rw [s7 0 (by decide), eu4]; exact if_pos rfl)
  rw [eu4] at Y3
  have nx : ∀ y j, y ≠ ha → y ≠ ya → aup (aup ctX ha (s 0) sz) ya 2 (s 0 + 1) y j = ctX y j := fun y j h1 h2 => by rw [aup_rn h2, aup_rn h1]
  have TL : TG own own1 sz sz2 im im6 ct (aup (aup ctX ha (s 0) sz) ya 2 (s 0 + 1)) (fun t => t = 59 ∨ t = -3) := ⟨by omega, zi, fun y hy hF => funext fun j => by
    rw [nx y j (fun z => hF (Or.inl (by rw [z]; exact yH))) (fun z => hF (Or.inl (by rw [z]; exact y9))), zc y hy (fun z => hF (Or.inr (by rw [z]; exact B12)))], fun y hy _ => o1 y hy⟩
  have L3 := LR.tg TL (by omega) B7
  have L4 := L3.row (s' := addH s m e h) (r7 1 (by decide) (by decide) (by omega)) (r7 2 (by decide) (by decide) (by omega)) (fun i i0 i1 => r7 i (by omega) (by omega) (by omega))
  have n6h : ha ≠ 6 := fun z => by rw [z, B3.2.2] at yH; omega
  have n6y : ya ≠ 6 := fun z => by rw [z, B3.2.2] at y9; omega
  refine hQ own1 _ (HR.fr (funext fun j => nx 6 j (Ne.symm n6h) (Ne.symm n6y)) (fun j _ => nx a j (Ne.symm nha) (Ne.symm nya))) ⟨⟨by have := B1.1; omega, fun y hy => ⟨(zi y (by have := B1.1; omega)).trans (B1.2 y hy).1, fun h7 => ?_⟩⟩, fun y hy => (o1 y (by have := B1.1; omega)).trans (B2 y hy), ⟨B3.1, (o1 7 (by have := B1.1; omega)).trans B3.2.1, (o1 6 (by have := B1.1; omega)).trans B3.2.2⟩, Y3, ⟨?_, B6.mono (by omega) zi, L4.nm (fun i hi => upA_n (by omega))⟩, ⟨B8, B9, by rw [eh6]; exact B10, B11, ?_, ?_⟩, fun k k0 k1 => ?_, YI_addH B14 h4 hm he hh⟩ (nx a 5 (Ne.symm nha) (Ne.symm nya))
  · rw [← (B1.2 y hy).2 h7, ← zc y (by have := B1.1; omega) (by omega)]
    exact funext fun j => nx y j (by omega) (by omega)
  · rw [aup_n (by omega), aup_rn (Ne.symm nhy), zc ya yz nya]; exact B5
  · rw [o1 a hal]; exact B12
  · rw [o1 (la + 6) (by have := B6.2.2.2.2.2.2.2.2.1; omega)]; exact B15
  · have e9 : addH s m e h 0 = s 0 + 1 := if_pos rfl
    rw [e9] at k1
    rw [eh6, aup_rn nhy]
    by_cases z : k = s 0
    · subst z; rw [aup_s]; exact B1.1
    · rw [aup_n (by omega), zc ha hz nha]; exact B13 k k0 (by omega)
theorem C_x_newHive {own0 own : Int → Int} {sz0 sz : Int} {im0 im : Int → aIm} {ct0 ct : Int → Int → Int} {ya la a : Int} {s N tp : Int → Int} {n p : Int} {Q : aPost} (HR : RDX sz im ct a tp n p) (HB : XB own0 sz0 im0 ct0 own sz im ct ya la a s N) (hF : ∀ (k pl sz1 : Int) (im1 : Int → aIm) (ct1 : Int → Int → Int), hiveP tp n p s N = .inl (k, pl) → OLD sz0 im0 ct0 sz1 im1 ct1 → ct1 7 6 = k → ct1 7 7 = pl → Q (.inr (0, 7)) (sz1, im1, ct1)) (hQ : ∀ (q : Int) (s1 N1 : Int → Int) (own1 : Int → Int) (sz1 : Int) (im1 : Int → aIm) (ct1 : Int → Int → Int), hiveP tp n p s N = .inr (q, s1, N1) → sz ≤ sz1 → RDX sz1 im1 ct1 a tp n q → XB own0 sz0 im0 ct0 own1 sz1 im1 ct1 ya la a s1 N1 → ct1 a 5 = ct a 5 → Q (.inl none) (sz1, im1, ct1)) : AMet md_X8_newHive 12 15 227 [vR a, vR ya] (sz, im, ct) Q := by
  refine AMet.go (L := [some (vR a), some (vR ya), none, none, none, none]) mok_X8_newHive (Nat.le_of_ble_eq_true rfl) rfl ?_
  have hX := HR.1
  obtain ⟨⟨ha, hsz, h60⟩, ⟨hB, hB1, hB5, hT, hBad⟩, hn, htp⟩ := id hX
  have hne := hX.ne
  have hp := HR.2.1
  have e1 := HR.2.2.1
  have e2 := HR.2.2.2.1
  have e3 := HR.2.2.2.2.1
  have hF9 := tF_bd (tp := tp) hp.2
  have hE := tE_bd (tp := tp) hp.2
  have hK := tK_bd (tp := tp) (n := n) (p := p)
  obtain ⟨B1, B2, B3, B4, ⟨B5, B6, B7⟩, ⟨B8, B9, B10, B11, B12, B15⟩, B13, B14⟩ := id HB
  have P0 := B14.1.1
  have PQ1 := B14.1.2.2.2.1
  have PQ0 := PQ1.1
  have y9 := B4.2.1
  have e20 : ct ya 2 = s 0 := B4.2.2.2.2.2.1.1.trans (upA_n (by omega))
  have eu4 : upA s 4 0 0 = s 0 := upA_n (by omega)
  have nya : ya ≠ a := fun z => by rw [z] at y9; omega
  refine aw_aload_n dX8_newHive_0 rfl ?_
  refine g_X8_178_5 rfl dX8_newHive_1 B4.1 ?_
  rw [e20]
  refine aw_iconst dX8_newHive_4 (by decide) ?_
  refine aw_icmpne (tgt := 25) dX8_newHive_5 (by decide) (fun h5 => ?_) (fun h5 => ?_)
  · refine aw_aload_n dX8_newHive_25 rfl ?_
    refine c_X8_19 rfl dX8_newHive_26 ha (Nat.le_of_ble_eq_true rfl) (by omega) (C_x_next HR.1 HR.goes.1 HR.goes.2 (fun ct1 HR1 f1 => ?_))
    have HB1 := HB.fa f1.1
    refine aK_v ?_
    refine aw_aload_n dX8_newHive_29 rfl ?_
    refine aw_aload_n dX8_newHive_30 rfl ?_
    refine c_X8_192 rfl dX8_newHive_31 ha (Nat.le_of_ble_eq_true rfl) (by omega) (C_x_fresh (s := s) HR1 HB1.2.2.2.1 eu4 HB1.2.2.2.2.1.1 HB1.2.2.2.2.1.2.2 (fun k2 pl ct2 e9 f2 => ?_) (fun x q ct2 e9 HR2 f2 => ?_))
    · exact aK_x (ax_out rfl (hF _ _ _ _ _ (by unfold hiveP; rw [if_neg h5]; exact bnd_l e9) (HB1.fault f2) f2.2.1 f2.2.2))
    · have HB2 := HB1.fa f2.1
      refine aK_i ?_
      refine aw_lstore2 dX8_newHive_34 (by decide) rfl ?_
      refine aw_aload_n dX8_newHive_35 rfl ?_
      refine aw_ldcS (k9 := 1) dX8_newHive_36 rfl rfl (by decide) ?_
      refine aw_iconst dX8_newHive_38 (by decide) ?_
      refine aw_iconst dX8_newHive_39 (by decide) ?_
      refine c_X8_196 rfl dX8_newHive_40 ha (Nat.le_of_ble_eq_true rfl) (by omega) (C_x_behind (k := 1) (w := 3) HR2 (by decide) rfl (fun k3 pl ct3 e8 f3 => ?_) (fun b q3 ct3 e8 HR3 f3 => ?_))
      · exact aK_x (ax_out rfl (hF _ _ _ _ _ (by unfold hiveP; rw [if_neg (by omega), bnd_r e9]; exact bnd_l e8) (HB2.fault f3) f3.2.1 f3.2.2))
      · have HB3 := HB2.fa f3.1
        have asz := ha.2.1
        have sz6 := hT.2.1
        have sz7 := hBad.2.1
        have hb9 := (wnumP_p (by have := HR2.2.1; omega) e8).2
        refine aK_i ?_
        refine aw_istore4 dX8_newHive_43 (by decide) rfl ?_
        refine AW.widen (kc' := 14 + 1) (ks' := 216 + 11) (by first | decide | omega) (by first | decide | omega) (aw_new (c9 := 9) (q := (RX9, TX9, 11)) (N9 := 11) dX8_newHive_45 rfl q736 q737 q136 rfl ?_)
        have HR4 : RDX (sz + 1) (upA im sz (9, 0, adf 9)) (upA ct3 sz (adf 9)) a tp n q3 := HR3.mono (by omega) (fun y hy => upA_n (by omega)) (upA_n (by omega)) (fun j _ => by rw [upA_n (by omega)])
        refine aw_dup dX8_newHive_48 rfl ?_
        refine aw_lload_n dX8_newHive_49 rfl ?_
        refine aw_iload dX8_newHive_50 rfl ?_
        refine aw_aload_n dX8_newHive_52 rfl ?_
        refine aw_ldcS (k9 := 2) dX8_newHive_53 rfl rfl (by decide) ?_
        refine aw_iconst dX8_newHive_55 (by decide) ?_
        refine aw_iconst dX8_newHive_56 (by decide) ?_
        refine c_X8_196 rfl dX8_newHive_57 HR4.1.1.1 (Nat.le_of_ble_eq_true rfl) (by omega) (C_x_behind (k := 2) (w := 4) HR4 (by decide) rfl (fun k5 pl ct5 e7 f5 => ?_) (fun f q5 ct5 e7 HR5 f5 => ?_))
        · exact aK_x (ax_out rfl (hF _ _ _ _ _ (by unfold hiveP; rw [if_neg (by omega), bnd_r e9, bnd_r e8]; exact bnd_l e7) ⟨by have := HB3.1.1; omega, fun y hy => ⟨(upA_n (by have := HB3.1.1; omega)).trans (HB3.1.2 y hy).1, fun h7 => by rw [f5.1 y (by omega) h7, upA_n (by have := HB3.1.1; omega)]; exact (HB3.1.2 y hy).2 h7⟩⟩ f5.2.1 f5.2.2))
        · have hf9 := (wnumP_p (by have := HR3.2.1; omega) e7).2
          have hm : 1 ≤ b * f ∧ b * f ≤ 12 := by
            rcases (by omega : b = 1 ∨ b = 2 ∨ b = 3) with z | z | z <;> subst z <;> omega
          refine aK_i ?_
          refine aw_imulr dX8_newHive_60 (by omega) ?_
          refine c_X8_199a (kc1 := 14) (ks1 := 216) (kc2 := 0) (ks2 := 0) (by decide) (by decide) rfl dX8_newHive_61 (by omega) (Nat.le_of_ble_eq_true rfl) (by omega) (C_x_hinit (aob_at (by omega)) hm.1 hm.2 (by omega) (fun im6 ct6 hS hC z0 z5 zj zx z1 z2 zf => ?_))
          refine aK_v ?_
          obtain ⟨m, em⟩ : ∃ z, b * f = z := ⟨_, rfl⟩
          rw [em] at hm hS hC z2 ⊢
          have zi : ∀ y, y < sz → im6 y = im y := fun y hy => (zx y (by omega) (by omega)).1.trans (upA_n (by omega))
          have zc : ∀ y, y < sz → y ≠ a → ct6 y = ct3 y := fun y hy hya => by rw [(zx y (by omega) (by omega)).2, f5.1 y hya, upA_n (by omega)]
          have HR6 : RDX (sz + 1 + 1 + m + 1) im6 ct6 a tp n q5 := HR5.mono2 (by omega) (fun y hy => (zx y (by omega) (by omega)).1) ((zx 6 (by omega) (by omega)).2) (fun j _ => by rw [(zx a (by omega) (by omega)).2])
          have c5 : ∀ j, ct5 sz j = adf 9 j := fun j => by rw [f5.1 sz (by omega), upA_s]
          have w4 : ct6 sz 4 = 0 := by rw [zj 4 (by decide), c5]; rfl
          have w6 : ct6 sz 6 = 0 := by rw [zj 6 (by decide), c5]; rfl
          have w7 : ct6 sz 7 = 0 := by rw [zj 7 (by decide), c5]; rfl
          have OL : ∀ ct9 : Int → Int → Int, (∀ y, y < sz → y ≠ a → y ≠ 7 → ct9 y = ct3 y) → OLD sz0 im0 ct0 (sz + 1 + 1 + m + 1) im6 ct9 := fun ct9 h9 => ⟨by have := HB3.1.1; omega, fun y hy => ⟨(zi y (by have := HB3.1.1; omega)).trans (HB3.1.2 y hy).1, fun h7 => (h9 y (by have := HB3.1.1; omega) (by omega) h7).trans ((HB3.1.2 y hy).2 h7)⟩⟩
          refine aw_astore5 dX8_newHive_64 (by decide) rfl ?_
          refine aw_aload dX8_newHive_66 rfl ?_
          refine aw_aload_n dX8_newHive_68 rfl ?_
          refine aw_ldcS (k9 := 17) dX8_newHive_69 rfl rfl (by decide) ?_
          refine aw_iconst dX8_newHive_71 (by decide) ?_
          refine aw_sipush dX8_newHive_72 (by decide) ?_
          refine c_X8_196 rfl dX8_newHive_75 HR6.1.1.1 (Nat.le_of_ble_eq_true rfl) (by omega) (C_x_behind (k := 17) (w := 5) HR6 (by decide) rfl (fun k8 pl ct8 e6 f8 => ?_) (fun e q8 ct8 e6 HR8 f8 => ?_))
          · exact aK_x (ax_out rfl (hF _ _ _ _ _ (by unfold hiveP; rw [if_neg (by omega), bnd_r e9, bnd_r e8, bnd_r e7]; exact bnd_l e6) (OL _ (fun y hy hya h7 => (f8.1 y hya h7).trans (zc y hy hya))) f8.2.1 f8.2.2))
          · have he9 := (wnumP_p (by have := HR5.2.1; omega) e6).2
            refine aK_i ?_
            refine p_X8_202_9 rfl dX8_newHive_78 hS.1 ?_
            have HR9 := HR8.fr (ct' := aup ct8 sz 3 e) (aup_rn (by omega)) (fun j _ => aup_rn_a (by omega))
            have hC8 : HvC (sz + 1 + 1 + m + 1) im6 ct8 sz m (fun _ => 0) := hC.ext (fun j => by rw [f8.1 _ (by omega)]) (fun j => by rw [f8.1 _ (by omega)]) (fun g i g0 g1 i0 i1 => by rw [z1, zf, f8.1 _ (by omega)]) (fun _ _ _ => rfl)
            have hC9 := (hC8.self hS (i := 3) (v := e)).1
            have eQ : hiveP tp n p s N = bnd (if tW tp n q8 = 6 then numP tp n (tE tp n q8) 0 (16 * m) else .inr (0, q8)) fun h => .inr (h.2, addH s m e h.1, upA N (s 0) x) := by
              rw [← em]; unfold hiveP; rw [if_neg (by omega), bnd_r e9, bnd_r e8, bnd_r e7, bnd_r e6]
            refine aw_aload_n dX8_newHive_81 rfl ?_
            refine aw_ldcS (k9 := 18) dX8_newHive_82 rfl rfl (by decide) ?_
            refine c_X8_72 rfl dX8_newHive_84 HR9.1.1.1 (Nat.le_of_ble_eq_true rfl) (by omega) (C_x_isWord (k := 18) (w := 6) HR9 (by decide) rfl (fun hw18 => ?_) (fun hw18 => ?_))
            · refine aK_i ?_
              refine aw_ifeq (tgt := 111) dX8_newHive_87 (by decide) (fun h => absurd h (by decide)) (fun _ => ?_)
              refine aw_aload dX8_newHive_90 rfl ?_
              refine aw_bipush dX8_newHive_92 (by decide) ?_
              refine aw_aload_n dX8_newHive_94 rfl ?_
              refine aw_ldcS (k9 := 18) dX8_newHive_95 rfl rfl (by decide) ?_
              refine aw_iconst dX8_newHive_97 (by decide) ?_
              refine aw_aload dX8_newHive_98 rfl ?_
              refine c_X8_204 rfl dX8_newHive_100 hS.1 (Nat.le_of_ble_eq_true rfl) (by omega) (C_x_fields hS ?_)
              refine aK_i ?_
              refine c_X8_196 rfl dX8_newHive_103 HR9.1.1.1 (Nat.le_of_ble_eq_true rfl) (by omega) (C_x_behind (k := 18) (w := 6) HR9 (by decide) rfl (fun k8 pl ct10 e5 f10 => ?_) (fun h q10 ct10 e5 HR10 f10 => ?_))
              · exact aK_x (ax_out rfl (hF _ _ _ _ _ (by rw [eQ, if_pos hw18]; unfold wnumP at e5; rw [if_neg (by omega)] at e5; rw [bnd_l e5]) (OL _ (fun y hy hya h7 => by rw [f10.1 y hya h7, aup_rn (by omega), f8.1 y hya]; exact zc y hy hya)) f10.2.1 f10.2.2))
              · have hh9 := (wnumP_p (by have := HR8.2.1; omega) e5).2
                have eQ2 := eQ
                unfold wnumP at e5
                rw [if_neg (by omega)] at e5
                rw [if_pos hw18, bnd_r e5] at eQ2
                have hC10 : HvC (sz + 1 + 1 + m + 1) im6 ct10 sz m (fun _ => 0) := hC9.ext (fun j => by rw [f10.1 _ (by omega)]) (fun j => by rw [f10.1 _ (by omega)]) (fun g i g0 g1 i0 i1 => by rw [z1, aup_rn (by omega), f8.1 _ (by omega), zf, f10.1 _ (by omega)]) (fun _ _ _ => rfl)
                refine aK_i ?_
                refine aw_imulr dX8_newHive_106 (by omega) ?_
                refine c_X8_207 rfl dX8_newHive_107 hS.1 (Nat.le_of_ble_eq_true rfl) (by omega) (C_x_stores hS hC10 (fun _ _ _ => ⟨by show (0 : Int) ≤ 0; decide, by show (0 : Int) ≤ 121; decide⟩) (by omega) (fun ct11 c11 hC11 ec11 hh11 hg11 => ?_))
                refine aK_i ?_
                refine aw_pop dX8_newHive_110 rfl ?_
                have z1' : (im6 sz).2.2 1 = sz + 1 := by omega
                have z2' : (im6 sz).2.2 2 = sz + 1 + 1 + m := by omega
                first
                  | (have eQ2 := eQ
                     rw [if_neg hw18] at eQ2
                     have hx9 : ∀ y, y ≠ a → aup ct8 sz 3 e y = aup ct8 sz 3 e y := fun _ _ => rfl
                     exact L_x_nh111 (h := 0) HB3 asz rfl HR9 (by omega) hm he9 (by omega) hS hC9 (fun i i0 i1 => by
                       have : (stor m (nF m) (fun _ => 0) (100 * 0)).1 i = 0 := by
                         have hz : ∀ k : Nat, stor m k (fun _ => (0 : Int)) (100 * 0) = (fun _ => 0, 0) := fun k => by
                           cases k with
                           | zero => rfl
                           | succ k => simp only [stor]; rw [if_pos (by omega)]; rfl
                         rw [hz]
                       exact this.symm) z0 z1' z2' (fun g => by rw [aup_rn (by omega), f8.1 _ (by omega)]; exact zf g) zi (fun y hy hya => by rw [aup_rn (by omega), f8.1 y hya]; exact zc y hy hya) (by rw [aup_s]) (by rw [aup_n (by omega), f8.1 _ (by omega)]; exact w4) (by rw [aup_n (by omega), f8.1 _ (by omega)]; exact z5) (by rw [aup_n (by omega), f8.1 _ (by omega)]; exact w6) (by rw [aup_n (by omega), f8.1 _ (by omega)]; exact w7) (fun own1 ct12 r1 r2 r3 => hQ _ _ _ own1 _ _ ct12 eQ2 (by omega) r1 r2 (by rw [r3, aup_n (by omega), f8.2, (zx a (by omega) (by omega)).2, f5.2, upA_n (by omega), f3.2, f2.2, f1.2])))
                  | (have hx : ∀ y, y < sz + 1 + 1 ∨ sz + 1 + 1 + m ≤ y → ∀ j, ct11 y j = ct10 y j := fun y hy j => hh11 y j (fun z => by
                       obtain ⟨g, g0, g1, eg⟩ := z
                       rw [z1', f10.1 _ (by omega), aup_rn (by omega), f8.1 _ (by omega), zf] at eg
                       omega)
                     have hx9 : ∀ y, y ≠ a → (y < sz + 1 + 1 ∨ sz + 1 + 1 + m ≤ y) → ct11 y = aup ct8 sz 3 e y := fun y hya hy => by rw [funext (hx y hy)]; exact f10.1 y hya
                     exact L_x_nh111 (h := h) HB3 asz rfl (HR10.fr (funext (hx 6 (by omega))) (fun j _ => hx a (by omega) j)) (by omega) hm he9 hh9 hS hC11 ec11 z0 z1' z2' (fun g => by rw [hx9 _ (by omega) (by omega), aup_rn (by omega), f8.1 _ (by omega)]; exact zf g) zi (fun y hy hya => by rw [hx9 y hya (by omega), aup_rn (by omega), f8.1 y hya]; exact zc y hy hya) (by rw [hx9 _ (by omega) (by omega), aup_s]) (by rw [hx9 _ (by omega) (by omega), aup_n (by omega), f8.1 _ (by omega)]; exact w4) (by rw [hx9 _ (by omega) (by omega), aup_n (by omega), f8.1 _ (by omega)]; exact z5) (by rw [hx9 _ (by omega) (by omega), aup_n (by omega), f8.1 _ (by omega)]; exact w6) (by rw [hx9 _ (by omega) (by omega), aup_n (by omega), f8.1 _ (by omega)]; exact w7) (fun own1 ct12 r1 r2 r3 => hQ _ _ _ own1 _ _ ct12 eQ2 (by omega) r1 r2 (by rw [r3, hx a (by omega) 5, f10.2, aup_n (by omega), f8.2, (zx a (by omega) (by omega)).2, f5.2, upA_n (by omega), f3.2, f2.2, f1.2])))
            · refine aK_i ?_
              refine aw_ifeq (tgt := 111) dX8_newHive_87 (by decide) (fun _ => ?_) (fun h => absurd h (by decide))
              have z1' : (im6 sz).2.2 1 = sz + 1 := by omega
              have z2' : (im6 sz).2.2 2 = sz + 1 + 1 + m := by omega
              first
                | (have eQ2 := eQ
                   rw [if_neg hw18] at eQ2
                   have hx9 : ∀ y, y ≠ a → aup ct8 sz 3 e y = aup ct8 sz 3 e y := fun _ _ => rfl
                   exact L_x_nh111 (h := 0) HB3 asz rfl HR9 (by omega) hm he9 (by omega) hS hC9 (fun i i0 i1 => by
                     have : (stor m (nF m) (fun _ => 0) (100 * 0)).1 i = 0 := by
                       have hz : ∀ k : Nat, stor m k (fun _ => (0 : Int)) (100 * 0) = (fun _ => 0, 0) := fun k => by
                         cases k with
                         | zero => rfl
                         | succ k => simp only [stor]; rw [if_pos (by omega)]; rfl
                       rw [hz]
                     exact this.symm) z0 z1' z2' (fun g => by rw [aup_rn (by omega), f8.1 _ (by omega)]; exact zf g) zi (fun y hy hya => by rw [aup_rn (by omega), f8.1 y hya]; exact zc y hy hya) (by rw [aup_s]) (by rw [aup_n (by omega), f8.1 _ (by omega)]; exact w4) (by rw [aup_n (by omega), f8.1 _ (by omega)]; exact z5) (by rw [aup_n (by omega), f8.1 _ (by omega)]; exact w6) (by rw [aup_n (by omega), f8.1 _ (by omega)]; exact w7) (fun own1 ct12 r1 r2 r3 => hQ _ _ _ own1 _ _ ct12 eQ2 (by omega) r1 r2 (by rw [r3, aup_n (by omega), f8.2, (zx a (by omega) (by omega)).2, f5.2, upA_n (by omega), f3.2, f2.2, f1.2])))
                | (have hx : ∀ y, y < sz + 1 + 1 ∨ sz + 1 + 1 + m ≤ y → ∀ j, ct11 y j = ct10 y j := fun y hy j => hh11 y j (fun z => by
                     obtain ⟨g, g0, g1, eg⟩ := z
                     rw [z1', f10.1 _ (by omega), aup_rn (by omega), f8.1 _ (by omega), zf] at eg
                     omega)
                   have hx9 : ∀ y, y ≠ a → (y < sz + 1 + 1 ∨ sz + 1 + 1 + m ≤ y) → ct11 y = aup ct8 sz 3 e y := fun y hya hy => by rw [funext (hx y hy)]; exact f10.1 y hya
                   exact L_x_nh111 (h := h) HB3 asz rfl (HR10.fr (funext (hx 6 (by omega))) (fun j _ => hx a (by omega) j)) (by omega) hm he9 hh9 hS hC11 ec11 z0 z1' z2' (fun g => by rw [hx9 _ (by omega) (by omega), aup_rn (by omega), f8.1 _ (by omega)]; exact zf g) zi (fun y hy hya => by rw [hx9 y hya (by omega), aup_rn (by omega), f8.1 y hya]; exact zc y hy hya) (by rw [hx9 _ (by omega) (by omega), aup_s]) (by rw [hx9 _ (by omega) (by omega), aup_n (by omega), f8.1 _ (by omega)]; exact w4) (by rw [hx9 _ (by omega) (by omega), aup_n (by omega), f8.1 _ (by omega)]; exact z5) (by rw [hx9 _ (by omega) (by omega), aup_n (by omega), f8.1 _ (by omega)]; exact w6) (by rw [hx9 _ (by omega) (by omega), aup_n (by omega), f8.1 _ (by omega)]; exact w7) (fun own1 ct12 r1 r2 r3 => hQ _ _ _ own1 _ _ ct12 eQ2 (by omega) r1 r2 (by rw [r3, hx a (by omega) 5, f10.2, aup_n (by omega), f8.2, (zx a (by omega) (by omega)).2, f5.2, upA_n (by omega), f3.2, f2.2, f1.2])))
  · refine aw_aload_n dX8_newHive_8 rfl ?_
    refine g_X8_3_8 rfl dX8_newHive_9 ha ?_
    rw [h60]
    refine g_X8_55_0 rfl dX8_newHive_12 (by assumption) ?_
    rw [hB5]
    refine aw_bipush dX8_newHive_15 (by decide) ?_
    refine aw_aload_n dX8_newHive_17 rfl ?_
    refine g_X8_29_8 rfl dX8_newHive_18 ha ?_
    rw [e1]
    refine c_X8_59 rfl dX8_newHive_21 (by assumption) (Nat.le_of_ble_eq_true rfl) (by omega) (C_x_badat hBad ?_)
    refine aK_i ?_
    have fb : FB a ct (aup (aup ct 7 6 6) 7 7 (tF tp n p)) 6 (tF tp n p) := FB.of
    exact aw_athrow (E := 0) dX8_newHive_24 hBad ⟨_, rfl, rfl⟩ (ax_out rfl (hF _ _ _ _ _ (by unfold hiveP; rw [if_pos h5]) (HB.fault fb) fb.2.1 fb.2.2))
