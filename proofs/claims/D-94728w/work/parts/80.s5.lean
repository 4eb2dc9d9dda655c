set_option maxRecDepth 100000
/-! the Reader: hives, drones, queens come in -/
def OLD (sz0 : Int) (im0 : Int → aIm) (ct0 : Int → Int → Int) (sz : Int) (im : Int → aIm) (ct : Int → Int → Int) : Prop := sz0 ≤ sz ∧ ∀ x, x < sz0 → im x = im0 x ∧ (x ≠ 7 → ct x = ct0 x)
def XB (own0 : Int → Int) (sz0 : Int) (im0 : Int → aIm) (ct0 : Int → Int → Int) (own : Int → Int) (sz : Int) (im : Int → aIm) (ct : Int → Int → Int) (ya la a : Int) (s N : Int → Int) : Prop :=
  OLD sz0 im0 ct0 sz im ct ∧ (∀ x, x < sz0 → own x = own0 x) ∧ (30 ≤ sz0 ∧ own 7 = -2 ∧ own 6 = -2) ∧ YR own 5 sz im ct ya (upA s 4 0) 0 N ∧ (ct ya 0 = la ∧ LNA sz im la (la + 1) ∧ LR own sz im ct la s N) ∧ (sz0 ≤ ya ∧ sz0 ≤ la ∧ sz0 ≤ (im ya).2.2 1 ∧ sz0 ≤ a ∧ own a = -3 ∧ own (la + 6) = -1) ∧ (∀ k, 0 ≤ k → k < s 0 → sz0 ≤ ct ((im ya).2.2 1) k) ∧ YI s
theorem OLD.fa {sz0 sz : Int} {im0 im : Int → aIm} {ct0 ct ct' : Int → Int → Int} (h : OLD sz0 im0 ct0 sz im ct) (f : ∀ x, x < sz0 → x ≠ 7 → ct' x = ct x) : OLD sz0 im0 ct0 sz im ct' := ⟨h.1, fun x hx => ⟨(h.2 x hx).1, fun h7 => (f x hx h7).trans ((h.2 x hx).2 h7)⟩⟩
theorem XB.fa {own0 own : Int → Int} {sz0 sz : Int} {im0 im : Int → aIm} {ct0 ct ct' : Int → Int → Int} {ya la a : Int} {s N : Int → Int} (h : XB own0 sz0 im0 ct0 own sz im ct ya la a s N) (f : ∀ x, x ≠ a → ct' x = ct x) : XB own0 sz0 im0 ct0 own sz im ct' ya la a s N := by
  obtain ⟨h1, h2, h3, h4, ⟨h5, h6, h7⟩, h8, h9, h10⟩ := h
  have o9 := h4.2.1
  have oH := h4.2.2.2.1
  refine ⟨h1.fa fun x hx _ => f x (by omega), h2, h3, h4.frame fun x j x0 x1 => ?_, ⟨?_, h6, h7.frame fun x j hx => ?_⟩, h8, fun k k0 k1 => ?_, h10⟩
  · rw [f x (fun z => by rw [z] at x0; omega)]
  · rw [f ya (fun z => by rw [z] at o9; omega)]; exact h5
  · rw [f x (fun z => by rw [z] at hx; omega)]
  · rw [f _ (fun z => by rw [z] at oH; omega)]; exact h9 k k0 k1
theorem XB.fault {own0 own : Int → Int} {sz0 sz k pl : Int} {im0 im : Int → aIm} {ct0 ct ct' : Int → Int → Int} {ya la a : Int} {s N : Int → Int} (h : XB own0 sz0 im0 ct0 own sz im ct ya la a s N) (f : FB a ct ct' k pl) : OLD sz0 im0 ct0 sz im ct' := h.1.fa fun x hx h7 => f.1 x (by have := h.2.2.2.2.2.1.2.2.2.1; omega) h7
theorem C_x_many {sz : Int} {im : Int → aIm} {ct : Int → Int → Int} {la u v : Int} {Q : aPost} (ho : aob sz im la 6) (e6 : ct la 6 = u) (e7 : ct la 7 = v) (hb : (0 ≤ u ∧ u ≤ 8) ∧ 0 ≤ v ∧ v ≤ 8) (hQ : Q (.inl (some (vI (u + v)))) (sz, im, ct)) : AMet md_X6_many 1 0 0 [vR la] (sz, im, ct) Q := by
  refine AMet.go (L := [some (vR la)]) mok_X6_many (Nat.le_of_ble_eq_true rfl) rfl ?_
  refine aw_aload_n dX6_many_0 rfl ?_
  refine g_X6_31_6 rfl dX6_many_1 ho ?_
  rw [e6]
  refine aw_aload_n dX6_many_4 rfl ?_
  refine g_X6_35_6 rfl dX6_many_5 ho ?_
  rw [e7]
  refine aw_iaddr dX6_many_8 (by omega) ?_
  refine aw_ireturn dX6_many_9 rfl ?_
  exact hQ
theorem C_x_addsQ {sz : Int} {im : Int → aIm} {ct : Int → Int → Int} {la u v k x of by9 : Int} {Q : aPost} (L : LNA sz im la (la + 1)) (e6 : ct la 6 = u) (e7 : ct la 7 = v) (hb : (0 ≤ u ∧ u ≤ 8) ∧ 0 ≤ v ∧ v ≤ 8) (hs : u + v < 16) (k0 : 0 ≤ k ∧ k < 16) (hk : k < 8) (hQ : Q (.inl none) (sz, im, aup (aup (aup (aup (aup (aup ct (la + 1) k x) (la + 2) k of) (la + 3) k by9) (la + 4) k (u + v)) (la + 6) (u + v) k) la 6 (u + 1))) : AMet md_X6_adds 2 0 0 [vR la, vI k, vL x, vI of, vI by9] (sz, im, ct) Q := by
  refine AMet.go (L := [some (vR la), some (vI k), some (vL x), none, some (vI of), some (vI by9)]) mok_X6_adds (Nat.le_of_ble_eq_true rfl) rfl ?_
  have i0 : (im la).2.2 0 = la + 1 := by rw [L.2.1 0 (by decide) (by decide)]; omega
  have i1 : (im la).2.2 1 = la + 2 := by rw [L.2.1 1 (by decide) (by decide)]; omega
  have i2 : (im la).2.2 2 = la + 3 := by rw [L.2.1 2 (by decide) (by decide)]; omega
  have i3 : (im la).2.2 3 = la + 4 := by rw [L.2.1 3 (by decide) (by decide)]; omega
  have i4 : (im la).2.2 4 = la + 5 := by rw [L.2.1 4 (by decide) (by decide)]; omega
  have i5 : (im la).2.2 5 = la + 6 := by rw [L.2.1 5 (by decide) (by decide)]; omega
  obtain ⟨-, -, a0, a1, a2, a3, a4, a5⟩ := id L
  rw [show la + 1 + 1 = la + 2 by omega] at a1
  rw [show la + 1 + 2 = la + 3 by omega] at a2
  rw [show la + 1 + 3 = la + 4 by omega] at a3
  rw [show la + 1 + 4 = la + 5 by omega] at a4
  rw [show la + 1 + 5 = la + 6 by omega] at a5
  refine aw_aload_n dX6_adds_0 rfl ?_
  refine g_X6_9_6 rfl dX6_adds_1 L.1 ?_
  rw [i0]
  refine aw_iload_n dX6_adds_4 rfl ?_
  refine aw_lload_n dX6_adds_5 rfl ?_
  refine aw_lastore dX6_adds_6 a0 (by omega) (by omega) ?_
  refine aw_aload_n dX6_adds_7 rfl ?_
  refine g_X6_15_6 rfl dX6_adds_8 L.1 ?_
  rw [i1]
  refine aw_iload_n dX6_adds_11 rfl ?_
  refine aw_iload dX6_adds_12 rfl ?_
  refine aw_iastore dX6_adds_14 a1 (by omega) (by omega) ?_
  refine aw_aload_n dX6_adds_15 rfl ?_
  refine g_X6_19_6 rfl dX6_adds_16 L.1 ?_
  rw [i2]
  refine aw_iload_n dX6_adds_19 rfl ?_
  refine aw_iload dX6_adds_20 rfl ?_
  refine aw_iastore dX6_adds_22 a2 (by omega) (by omega) ?_
  refine aw_aload_n dX6_adds_23 rfl ?_
  refine g_X6_22_6 rfl dX6_adds_24 L.1 ?_
  rw [i3]
  refine aw_iload_n dX6_adds_27 rfl ?_
  refine aw_aload_n dX6_adds_28 rfl ?_
  refine c_X6_38 rfl dX6_adds_29 L.1 (Nat.le_of_ble_eq_true rfl) (by omega) (C_x_many L.1 (by (repeat rw [aup_n (by omega)]); exact e6) (by (repeat rw [aup_n (by omega)]); exact e7) hb ?_)
  refine aK_i ?_
  refine aw_iastore dX6_adds_32 a3 (by omega) (by omega) ?_
  refine aw_aload_n dX6_adds_33 rfl ?_
  refine g_X6_28_6 rfl dX6_adds_34 L.1 ?_
  rw [i5]
  refine aw_aload_n dX6_adds_37 rfl ?_
  refine c_X6_38 rfl dX6_adds_38 L.1 (Nat.le_of_ble_eq_true rfl) (by omega) (C_x_many L.1 (by (repeat rw [aup_n (by omega)]); exact e6) (by (repeat rw [aup_n (by omega)]); exact e7) hb ?_)
  refine aK_i ?_
  refine aw_iload_n dX6_adds_41 rfl ?_
  refine aw_iastore dX6_adds_42 a5 (by omega) (by omega) ?_
  refine aw_iload_n dX6_adds_43 rfl ?_
  refine aw_bipush dX6_adds_44 (by decide) ?_
  refine aw_icmpge (tgt := 62) dX6_adds_46 (by decide) (fun h46 => (by exfalso; omega)) (fun h46 => ?_)
  refine aw_aload_n dX6_adds_49 rfl ?_
  refine aw_dup dX6_adds_50 rfl ?_
  refine g_X6_31_6 rfl dX6_adds_51 L.1 ?_
  (repeat rw [aup_n (by omega)])
  rw [e6]
  refine aw_iconst dX6_adds_54 (by decide) ?_
  refine aw_iaddr dX6_adds_55 (by omega) ?_
  refine p_X6_31_6 rfl dX6_adds_56 L.1 ?_
  refine aw_goto (tgt := 72) dX6_adds_59 (by decide) ?_
  refine aw_ret dX6_adds_72 rfl ?_
  exact hQ
theorem C_x_addsD {sz : Int} {im : Int → aIm} {ct : Int → Int → Int} {la u v k x of by9 : Int} {Q : aPost} (L : LNA sz im la (la + 1)) (e6 : ct la 6 = u) (e7 : ct la 7 = v) (hb : (0 ≤ u ∧ u ≤ 8) ∧ 0 ≤ v ∧ v ≤ 8) (hs : u + v < 16) (k0 : 0 ≤ k ∧ k < 16) (hk : 8 ≤ k) (hQ : Q (.inl none) (sz, im, aup (aup (aup (aup (aup (aup ct (la + 1) k x) (la + 2) k of) (la + 3) k by9) (la + 4) k (u + v)) (la + 6) (u + v) k) la 7 (v + 1))) : AMet md_X6_adds 2 0 0 [vR la, vI k, vL x, vI of, vI by9] (sz, im, ct) Q := by
  refine AMet.go (L := [some (vR la), some (vI k), some (vL x), none, some (vI of), some (vI by9)]) mok_X6_adds (Nat.le_of_ble_eq_true rfl) rfl ?_
  have i0 : (im la).2.2 0 = la + 1 := by rw [L.2.1 0 (by decide) (by decide)]; omega
  have i1 : (im la).2.2 1 = la + 2 := by rw [L.2.1 1 (by decide) (by decide)]; omega
  have i2 : (im la).2.2 2 = la + 3 := by rw [L.2.1 2 (by decide) (by decide)]; omega
  have i3 : (im la).2.2 3 = la + 4 := by rw [L.2.1 3 (by decide) (by decide)]; omega
  have i4 : (im la).2.2 4 = la + 5 := by rw [L.2.1 4 (by decide) (by decide)]; omega
  have i5 : (im la).2.2 5 = la + 6 := by rw [L.2.1 5 (by decide) (by decide)]; omega
  obtain ⟨-, -, a0, a1, a2, a3, a4, a5⟩ := id L
  rw [show la + 1 + 1 = la + 2 by omega] at a1
  rw [show la + 1 + 2 = la + 3 by omega] at a2
  rw [show la + 1 + 3 = la + 4 by omega] at a3
  rw [show la + 1 + 4 = la + 5 by omega] at a4
  rw [show la + 1 + 5 = la + 6 by omega] at a5
  refine aw_aload_n dX6_adds_0 rfl ?_
  refine g_X6_9_6 rfl dX6_adds_1 L.1 ?_
  rw [i0]
  refine aw_iload_n dX6_adds_4 rfl ?_
  refine aw_lload_n dX6_adds_5 rfl ?_
  refine aw_lastore dX6_adds_6 a0 (by omega) (by omega) ?_
  refine aw_aload_n dX6_adds_7 rfl ?_
  refine g_X6_15_6 rfl dX6_adds_8 L.1 ?_
  rw [i1]
  refine aw_iload_n dX6_adds_11 rfl ?_
  refine aw_iload dX6_adds_12 rfl ?_
  refine aw_iastore dX6_adds_14 a1 (by omega) (by omega) ?_
  refine aw_aload_n dX6_adds_15 rfl ?_
  refine g_X6_19_6 rfl dX6_adds_16 L.1 ?_
  rw [i2]
  refine aw_iload_n dX6_adds_19 rfl ?_
  refine aw_iload dX6_adds_20 rfl ?_
  refine aw_iastore dX6_adds_22 a2 (by omega) (by omega) ?_
  refine aw_aload_n dX6_adds_23 rfl ?_
  refine g_X6_22_6 rfl dX6_adds_24 L.1 ?_
  rw [i3]
  refine aw_iload_n dX6_adds_27 rfl ?_
  refine aw_aload_n dX6_adds_28 rfl ?_
  refine c_X6_38 rfl dX6_adds_29 L.1 (Nat.le_of_ble_eq_true rfl) (by omega) (C_x_many L.1 (by (repeat rw [aup_n (by omega)]); exact e6) (by (repeat rw [aup_n (by omega)]); exact e7) hb ?_)
  refine aK_i ?_
  refine aw_iastore dX6_adds_32 a3 (by omega) (by omega) ?_
  refine aw_aload_n dX6_adds_33 rfl ?_
  refine g_X6_28_6 rfl dX6_adds_34 L.1 ?_
  rw [i5]
  refine aw_aload_n dX6_adds_37 rfl ?_
  refine c_X6_38 rfl dX6_adds_38 L.1 (Nat.le_of_ble_eq_true rfl) (by omega) (C_x_many L.1 (by (repeat rw [aup_n (by omega)]); exact e6) (by (repeat rw [aup_n (by omega)]); exact e7) hb ?_)
  refine aK_i ?_
  refine aw_iload_n dX6_adds_41 rfl ?_
  refine aw_iastore dX6_adds_42 a5 (by omega) (by omega) ?_
  refine aw_iload_n dX6_adds_43 rfl ?_
  refine aw_bipush dX6_adds_44 (by decide) ?_
  refine aw_icmpge (tgt := 62) dX6_adds_46 (by decide) (fun h46 => ?_) (fun h46 => (by exfalso; omega))
  refine aw_aload_n dX6_adds_62 rfl ?_
  refine aw_dup dX6_adds_63 rfl ?_
  refine g_X6_35_6 rfl dX6_adds_64 L.1 ?_
  (repeat rw [aup_n (by omega)])
  rw [e7]
  refine aw_iconst dX6_adds_67 (by decide) ?_
  refine aw_iaddr dX6_adds_68 (by omega) ?_
  refine p_X6_35_6 rfl dX6_adds_69 L.1 ?_
  refine aw_ret dX6_adds_72 rfl ?_
  exact hQ
theorem C_x_newDrone {own0 own : Int → Int} {sz0 sz : Int} {im0 im : Int → aIm} {ct0 ct : Int → Int → Int} {ya la a : Int} {s N tp : Int → Int} {n p : Int} {Q : aPost} (HR : RDX sz im ct a tp n p) (HB : XB own0 sz0 im0 ct0 own sz im ct ya la a s N) (hF : ∀ (k pl sz1 : Int) (im1 : Int → aIm) (ct1 : Int → Int → Int), droneP tp n p s N = .inl (k, pl) → OLD sz0 im0 ct0 sz1 im1 ct1 → ct1 7 6 = k → ct1 7 7 = pl → Q (.inr (0, 7)) (sz1, im1, ct1)) (hQ : ∀ (q : Int) (s1 N1 : Int → Int) (ct1 : Int → Int → Int), droneP tp n p s N = .inr (q, s1, N1) → RDX sz im ct1 a tp n q → XB own0 sz0 im0 ct0 own sz im ct1 ya la a s1 N1 → ct1 a 5 = ct a 5 → Q (.inl none) (sz, im, ct1)) : AMet md_X8_newDrone 10 0 0 [vR a, vR ya] (sz, im, ct) Q := by
  refine AMet.go (L := [some (vR a), some (vR ya), none, none]) mok_X8_newDrone (Nat.le_of_ble_eq_true rfl) rfl ?_
  have hX := HR.1
  obtain ⟨⟨ha, hsz, h60⟩, ⟨hB, hB1, hB5, hT, hBad⟩, hn, htp⟩ := id hX
  have hne := hX.ne
  have hp := HR.2.1
  have e1 := HR.2.2.1
  have e2 := HR.2.2.2.1
  have e3 := HR.2.2.2.2.1
  have hF9 := tF_bd (tp := tp) hp.2
  have hE := tE_bd (tp := tp) hp.2
  have hK := tK_bd (tp := tp) (n := n) (p := p)
  obtain ⟨B1, B2, B3, B4, ⟨B5, B6, B7⟩, ⟨B8, B9, B10, B11, B12, B15⟩, B13, B14⟩ := id HB
  have P0 := B14.1.1
  have PQ1 := B14.1.2.2.2.1
  have PQ0 := PQ1.1
  have y9 := B4.2.1
  have e20 : ct ya 2 = s 0 := B4.2.2.2.2.2.1.1.trans (upA_n (by omega))
  have eu4 : upA s 4 0 0 = s 0 := upA_n (by omega)
  have nya : ya ≠ a := fun z => by rw [z] at y9; omega
  have e2d : ct la 7 = s 2 := B7.2.2.2.1.2
  have hla : la ≠ a := fun z => by have := B7.2.2.1.1; rw [z] at this; omega
  refine aw_aload_n dX8_newDrone_0 rfl ?_
  refine g_X8_149_5 rfl dX8_newDrone_1 B4.1 ?_
  first
    | rw [B5]
    | rw [HB2.2.2.2.2.1.1]
  refine g_X8_210_6 rfl dX8_newDrone_4 B6.1 ?_
  first
    | rw [e2d]
    | rw [HB2.2.2.2.2.1.2.2.2.2.2.1.2]
  refine aw_bipush dX8_newDrone_7 (by decide) ?_
  refine aw_icmpne (tgt := 29) dX8_newDrone_9 (by decide) (fun h9 => ?_) (fun h9 => ?_)
  · refine aw_aload_n dX8_newDrone_29 rfl ?_
    refine c_X8_19 rfl dX8_newDrone_30 ha (Nat.le_of_ble_eq_true rfl) (by omega) (C_x_next HR.1 HR.goes.1 HR.goes.2 (fun ct1 HR1 f1 => ?_))
    have HB1 := HB.fa f1.1
    refine aK_v ?_
    refine aw_aload_n dX8_newDrone_33 rfl ?_
    refine aw_aload_n dX8_newDrone_34 rfl ?_
    refine c_X8_192 rfl dX8_newDrone_35 ha (Nat.le_of_ble_eq_true rfl) (by omega) (C_x_fresh (s := s) HR1 HB1.2.2.2.1 eu4 HB1.2.2.2.2.1.1 HB1.2.2.2.2.1.2.2 (fun k2 pl ct2 e9 f2 => ?_) (fun x q ct2 e9 HR2 f2 => ?_))
    · exact aK_x (ax_out rfl (hF _ _ _ _ _ (by unfold droneP; rw [if_neg h9]; exact bnd_l e9) (HB1.fault f2) f2.2.1 f2.2.2))
    · have HB2 := HB1.fa f2.1
      refine aK_i ?_
      refine aw_lstore2 dX8_newDrone_38 (by decide) rfl ?_
      refine aw_aload_n dX8_newDrone_39 rfl ?_
      refine g_X8_149_5 rfl dX8_newDrone_40 B4.1 ?_
      first
        | rw [B5]
        | rw [HB2.2.2.2.2.1.1]
      refine aw_bipush dX8_newDrone_43 (by decide) ?_
      refine aw_aload_n dX8_newDrone_45 rfl ?_
      refine g_X8_149_5 rfl dX8_newDrone_46 B4.1 ?_
      first
        | rw [B5]
        | rw [HB2.2.2.2.2.1.1]
      refine g_X8_210_6 rfl dX8_newDrone_49 B6.1 ?_
      first
        | rw [e2d]
        | rw [HB2.2.2.2.2.1.2.2.2.2.2.1.2]
      refine aw_iaddr dX8_newDrone_52 (by omega) ?_
      refine aw_lload_n dX8_newDrone_53 rfl ?_
      refine aw_aload_n dX8_newDrone_54 rfl ?_
      refine aw_aload_n dX8_newDrone_55 rfl ?_
      refine c_X8_213 rfl dX8_newDrone_56 ha (Nat.le_of_ble_eq_true rfl) (by omega) (C_x_mother HR2 HB2.2.2.2.1 eu4 HB2.2.2.2.2.1.1 HB2.2.2.2.2.1.2.2 nya B12 (fun k3 pl ct3 e8 f3 => ?_) (fun m q3 ct3 e8 HR3 f3 => ?_))
      · exact aK_x (ax_out rfl (hF _ _ _ _ _ (by unfold droneP; rw [if_neg h9, bnd_r e9]; exact bnd_l e8) (HB2.fault f3) f3.2.1 f3.2.2))
      · have HB3 := HB2.fa f3.1
        refine aK_i ?_
        refine aw_iconst dX8_newDrone_59 (by decide) ?_
        refine c_X8_217 rfl dX8_newDrone_60 B6.1 (Nat.le_of_ble_eq_true rfl) (by omega) (C_x_addsD (u := s 1) (v := s 2) B6 (by exact HB3.2.2.2.2.1.2.2.2.2.2.1.1) (by exact HB3.2.2.2.2.1.2.2.2.2.2.1.2) PQ0 (by omega) (by omega) (by omega) ?_)
        refine aK_v ?_
        refine aw_ret dX8_newDrone_63 rfl ?_
        obtain ⟨D1, D2, D3, D4, ⟨D5, D6, D7⟩, D8, D9, D10⟩ := HB3
        have hm9 := momP_r (s := s) (N := N) (by have := HR2.2.1; omega) PQ0.1.1 e8
        have e13 : s 1 + s 2 = s 13 := PQ1.2.1.symm
        have LL := LR_addD (m := m) (x := x) (w := s 1 + s 2) D7 B6 (by omega)
        rw [← e13] at LL
        skip
        have oL := D7.2.2.1
        have i0 : (im la).2.2 0 = la + 1 := by rw [B6.2.1 0 (by decide) (by decide)]; omega
        have i1 : (im la).2.2 1 = la + 2 := by rw [B6.2.1 1 (by decide) (by decide)]; omega
        have i2 : (im la).2.2 2 = la + 3 := by rw [B6.2.1 2 (by decide) (by decide)]; omega
        have i3 : (im la).2.2 3 = la + 4 := by rw [B6.2.1 3 (by decide) (by decide)]; omega
        rw [i0, i1, i2, i3] at oL
        have hne2 : ∀ y : Int, own y ≠ -1 → y ≠ la ∧ y ≠ la + 1 ∧ y ≠ la + 2 ∧ y ≠ la + 3 ∧ y ≠ la + 4 ∧ y ≠ la + 6 := fun y hy => ⟨fun z => hy (by rw [z]; exact oL.1), fun z => hy (by rw [z]; exact oL.2.1), fun z => hy (by rw [z]; exact oL.2.2.1), fun z => hy (by rw [z]; exact oL.2.2.2.1), fun z => hy (by rw [z]; exact oL.2.2.2.2.1), fun z => hy (by rw [z]; exact B15)⟩
        have fx : ∀ y j : Int, own y ≠ -1 → aup (aup (aup (aup (aup (aup ct3 (la + 1) (8 + s 2) x) (la + 2) (8 + s 2) m) (la + 3) (8 + s 2) (-1)) (la + 4) (8 + s 2) (s 1 + s 2)) (la + 6) (s 1 + s 2) (8 + s 2)) la 7 (s 2 + 1) y j = ct3 y j := fun y j hy => by
          have := hne2 y hy
          (repeat rw [aup_rn (by omega)])
        refine hQ q3 _ _ _ (by unfold droneP; rw [if_neg (by omega), bnd_r e9]; exact bnd_r e8) ?_ ⟨D1.fa fun y hy _ => ?_, D2, D3, ?_, ⟨?_, D6, LL⟩, D8, fun k k0 k1 => ?_, YI_addD B14 (by omega) hm9.1⟩ ?_
        · exact HR3.fr (funext fun j => fx 6 j (by rw [D3.2.2]; decide)) (fun j _ => fx a j (by rw [B12]; decide))
        · (repeat rw [aup_rn (by omega)])
        · have Y1 : YR own 5 sz im (aup (aup (aup (aup (aup (aup ct3 (la + 1) (8 + s 2) x) (la + 2) (8 + s 2) m) (la + 3) (8 + s 2) (-1)) (la + 4) (8 + s 2) (s 1 + s 2)) (la + 6) (s 1 + s 2) (8 + s 2)) la 7 (s 2 + 1)) ya (upA s 4 0) 0 N := D4.frame fun y j y0 y1 => fx y j (by omega)
          refine Y1.lo (fun i hi => ?_) (fun k k0 k1 => upA_n (by omega))
          by_cases z : i = 4
          · subst z; rw [upA_s, upA_s]
          · rw [upA_n z, upA_n z]; exact addD_n (by omega) (by omega) (by omega) (by omega)
        · rw [fx ya 0 (by omega)]; exact D5
        · rw [addD_n (by omega) (by omega) (by omega) (by omega)] at k1
          rw [fx _ k (by have := D4.2.2.2.1; omega)]
          exact D9 k k0 k1
        · rw [fx a 5 (by omega), f3.2, f2.2, f1.2]
  · refine aw_aload_n dX8_newDrone_12 rfl ?_
    refine g_X8_3_8 rfl dX8_newDrone_13 ha ?_
    rw [h60]
    refine g_X8_55_0 rfl dX8_newDrone_16 (by assumption) ?_
    rw [hB5]
    refine aw_bipush dX8_newDrone_19 (by decide) ?_
    refine aw_aload_n dX8_newDrone_21 rfl ?_
    refine g_X8_29_8 rfl dX8_newDrone_22 ha ?_
    rw [e1]
    refine c_X8_59 rfl dX8_newDrone_25 (by assumption) (Nat.le_of_ble_eq_true rfl) (by omega) (C_x_badat hBad ?_)
    refine aK_i ?_
    have fb : FB a ct (aup (aup ct 7 6 6) 7 7 (tF tp n p)) 6 (tF tp n p) := FB.of
    exact aw_athrow (E := 0) dX8_newDrone_28 hBad ⟨_, rfl, rfl⟩ (ax_out rfl (hF _ _ _ _ _ (by unfold droneP; rw [if_pos h9]) (HB.fault fb) fb.2.1 fb.2.2))
