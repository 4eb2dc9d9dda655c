set_option maxRecDepth 100000
/-! operations, 19: move -/
theorem PI.swap {s : Int → Int} {k g f e : Int} (h : PI s) (k0 : 0 ≤ k) (k1 : k < s 0) (g0 : 0 ≤ g) (g1 : g < s 0) (f0 : 0 ≤ f ∧ f < s (64 + 198 * k)) (e0 : 0 ≤ e ∧ e < s (64 + 198 * g)) : PI (mvS (64 + 198 * k + 6 + 16 * f) (64 + 198 * g + 6 + 16 * e) 16 s) := by
  have n1 := (h.2.2.1 k k0 k1)
  have n2 := (h.2.2.1 g g0 g1)
  have b1 := n1.1
  have b2 := n2.1
  have sN : ∀ i, ¬ (64 + 198 * k + 6 + 16 * f ≤ i ∧ i < 64 + 198 * k + 6 + 16 * f + 16) → ¬ (64 + 198 * g + 6 + 16 * e ≤ i ∧ i < 64 + 198 * g + 6 + 16 * e + 16) → mvS (64 + 198 * k + 6 + 16 * f) (64 + 198 * g + 6 + 16 * e) 16 s i = s i := fun i q1 q2 => by
    unfold mvS
    rw [if_neg q1, if_neg q2]
  refine h.flds (fun i i0 i1 _ => sN i (by omega) (by omega)) (fun j i j0 j1 i0 i1 => sN _ (cell_h i0 i1 (by omega) (by omega)) (cell_h i0 i1 (by omega) (by omega))) (fun j j0 j1 i i0 i1 => ?_)
  have n3 := (h.2.2.1 j j0 j1).2.1 i i0 i1
  show 0 ≤ mvS _ _ 16 s (64 + 198 * j + 6 + i) ∧ mvS _ _ 16 s (64 + 198 * j + 6 + i) ≤ 121
  unfold mvS
  split
  · have q := n2.2.1 (16 * e + (64 + 198 * j + 6 + i - (64 + 198 * k + 6 + 16 * f))) (by omega) (by omega)
    unfold sh at q
    rw [show 64 + 198 * g + 6 + (16 * e + (64 + 198 * j + 6 + i - (64 + 198 * k + 6 + 16 * f))) = 64 + 198 * g + 6 + 16 * e + (64 + 198 * j + 6 + i - (64 + 198 * k + 6 + 16 * f)) by omega] at q
    exact q
  · split
    · have q := n1.2.1 (16 * f + (64 + 198 * j + 6 + i - (64 + 198 * g + 6 + 16 * e))) (by omega) (by omega)
      unfold sh at q
      rw [show 64 + 198 * k + 6 + (16 * f + (64 + 198 * j + 6 + i - (64 + 198 * g + 6 + 16 * e))) = 64 + 198 * k + 6 + 16 * f + (64 + 198 * j + 6 + i - (64 + 198 * g + 6 + 16 * e)) by omega] at q
      exact q
    · exact n3
theorem mvS_lo {s : Int → Int} {k g f e i : Int} (k0 : 0 ≤ k) (k1 : k < 4) (g0 : 0 ≤ g) (g1 : g < 4) (f0 : 0 ≤ f ∧ f < 12) (e0 : 0 ≤ e ∧ e < 12) (hi : i < 64 ∨ 860 ≤ i) : mvS (64 + 198 * k + 6 + 16 * f) (64 + 198 * g + 6 + 16 * e) 16 s i = s i := by
  unfold mvS
  rw [if_neg (by omega), if_neg (by omega)]
theorem mvS_hd {s : Int → Int} {k g f e j i : Int} (f0 : 0 ≤ f ∧ f < 12) (e0 : 0 ≤ e ∧ e < 12) (i0 : 0 ≤ i) (i1 : i < 6) : mvS (64 + 198 * k + 6 + 16 * f) (64 + 198 * g + 6 + 16 * e) 16 s (64 + 198 * j + i) = s (64 + 198 * j + i) := by
  unfold mvS
  rw [if_neg (cell_h i0 i1 f0.1 f0.2), if_neg (cell_h i0 i1 e0.1 e0.2)]
theorem Fok.eq {c c' : Int → Int → Int} (h : Fok c) (h0 : c' 0 24 = c 0 24) (h9 : c' 9 = c 9) : Fok c' := by
  unfold Fok FC at h ⊢
  rw [h0, h9]
  exact h
theorem OP_move {sz : Int} {im : Int → aIm} {ct cm : Int → Int → Int} (h : XR (sz, im, ct) cm) {a b c e : Int} (r0 : -2147483648 ≤ a ∧ a < 2147483648) (r1 : -2147483648 ≤ b ∧ b < 2147483648) (r2 : -2147483648 ≤ c ∧ c < 2147483648) (r3 : -2147483648 ≤ e ∧ e < 2147483648)  : AMet md_X0_move 4 0 0 [vR 0, vI a, vI b, vI c, vI e] (sz, im, ct) (XQ md_X7_move 4 [vR 0, vI a, vI b, vI c, vI e] cm) := by
  obtain ⟨own, N, hR, HY, HL, HN, HS, HP, HF, HX, hv2, hv3, hv4⟩ := id h
  dsimp only at hR HY HL HS HX hv2 hv3 hv4
  have hp0 := HP.1
  have hp3 := HP.2.1
  have hpq := HP.2.2.2.1.1
  have hps := HP.2.2.2.2.2
  refine AMet.go (L := [some (vR 0), some (vI a), some (vI b), some (vI c), some (vI e)]) mok_X0_move (Nat.le_of_ble_eq_true rfl) rfl ?_
  refine aw_aload_n dX0_move_0 rfl ?_
  refine aw_aload_n dX0_move_1 rfl ?_
  refine aw_iload_n dX0_move_2 rfl ?_
  refine aw_iload_n dX0_move_3 rfl ?_
  refine c_X0_301 rfl dX0_move_4 hR.o0 (Nat.le_of_ble_eq_true rfl) (by omega) (C_x_isFrame hR HY (fun xf => ?_) (fun xf => ?_))
  · refine aK_i ?_
    refine aw_ifeq (tgt := 35) dX0_move_7 (by decide) (fun h => absurd h (by decide)) (fun _ => ?_)
    refine aw_aload_n dX0_move_10 rfl ?_
    refine aw_iload_n dX0_move_11 rfl ?_
    refine aw_iload dX0_move_12 rfl ?_
    refine c_X0_301 rfl dX0_move_14 hR.o0 (Nat.le_of_ble_eq_true rfl) (by omega) (C_x_isFrame hR HY (fun xf => ?_) (fun xf => ?_))
    · refine aK_i ?_
      refine aw_ifeq (tgt := 35) dX0_move_17 (by decide) (fun h => absurd h (by decide)) (fun _ => ?_)
      refine aw_iload_n dX0_move_20 rfl ?_
      refine aw_iload_n dX0_move_21 rfl ?_
      refine aw_icmpne (tgt := 31) dX0_move_22 (by decide) (fun h22 => ?_) (fun h22 => ?_)
      · refine aw_iconst dX0_move_31 (by decide) ?_
        refine aw_goto (tgt := 36) dX0_move_32 (by decide) ?_
        refine p_X0_73_0 rfl dX0_move_36 hR.o0 ?_
        refine aw_aload_n dX0_move_39 rfl ?_
        refine g_X0_73_0 rfl dX0_move_40 hR.o0 ?_
        repeat (first | rw [aup_s] | rw [aup_n (by omega)])
        refine aw_ifne (tgt := 62) dX0_move_43 (by decide) (fun h => absurd h (by decide)) (fun _ => ?_)
        obtain ⟨hv, ehv, ⟨g1, g2, ⟨g3, g4, g5, g6, g7⟩, g8, g9, -⟩, nhv0, nhv10, nhv9, nv0, nvhv, nv10, ohv⟩ := (HY.up0 (j := 7) (v := 0) hR.1.2 (by decide)).hv (hR.up0 (j := 7) (v := 0)) (k := a) (by omega) (by omega)
        have gn := g1.2.2.2
        have gh := HP.2.2.1 a (by omega) (by omega)
        have gq := gh.2.2.2.2.1
        have gp := HP.pd.2.1 a (by omega) (by omega)
        obtain ⟨hw, ehw, ⟨u1, u2, ⟨u3, u4, u5, u6, u7⟩, u8, u9, -⟩, nhw0, nhw10, nhw9, nv0, nvhw, nv10, ohw⟩ := (HY.up0 (j := 7) (v := 0) hR.1.2 (by decide)).hv (hR.up0 (j := 7) (v := 0)) (k := c) (by omega) (by omega)
        have un := u1.2.2.2
        have uh := HP.2.2.1 c (by omega) (by omega)
        have uq := uh.2.2.2.2.1
        have up := HP.pd.2.1 c (by omega) (by omega)
        have hA9 := g2.2.1 b (by omega) (by omega)
        have hB9 := u2.2.1 e (by omega) (by omega)
        refine aw_aload_n dX0_move_46 rfl ?_
        refine aw_iload_n dX0_move_47 rfl ?_
        refine c_X0_172 rfl dX0_move_48 hR.o0 (Nat.le_of_ble_eq_true rfl) (by omega) (C_x_xat2 (a := hv) hR HY (by omega) ehv ?_)
        refine aK_i ?_
        refine aw_iload_n dX0_move_51 rfl ?_
        refine aw_aload_n dX0_move_52 rfl ?_
        refine aw_iload_n dX0_move_53 rfl ?_
        refine c_X0_172 rfl dX0_move_54 hR.o0 (Nat.le_of_ble_eq_true rfl) (by omega) (C_x_xat2 (a := hw) hR HY (by omega) ehw ?_)
        refine aK_i ?_
        refine aw_iload dX0_move_57 rfl ?_
        refine c_X0_337 rfl dX0_move_59  (Nat.le_of_ble_eq_true rfl) (by omega) (C_x_swaps g1 u1 (by omega) (by omega) (by omega) (by omega) hA9 hB9 ?_)
        refine aK_v ?_
        refine aw_aload_n dX0_move_62 rfl ?_
        refine g_X0_73_0 rfl dX0_move_63 hR.o0 ?_
        repeat (first | rw [aup_s] | rw [aup_n (by omega)])
        try rw [aup_rn (fun z => aob_ne hR.o0 u1.2.1 (by decide) z), aup_rn (fun z => aob_ne hR.o0 g1.2.1 (by decide) z), aup_s]
        refine aw_ifne (tgt := 73) dX0_move_66 (by decide) (fun h => absurd h (by decide)) (fun _ => ?_)
        refine aw_iconst dX0_move_69 (by decide) ?_
        refine aw_goto (tgt := 74) dX0_move_70 (by decide) ?_
        refine aw_zreturn dX0_move_74 rfl (Or.inr rfl) ?_
        refine ⟨_, rfl, ?_⟩
        refine AMet.go (L := [some (vR 0), some (vI a), some (vI b), some (vI c), some (vI e)]) mok_X7_move (Nat.le_of_ble_eq_true rfl) rfl ?_
        refine aw_aload_n dX7_move_0 rfl ?_
        refine aw_iload_n dX7_move_1 rfl ?_
        refine aw_iload_n dX7_move_2 rfl ?_
        refine aw_iload_n dX7_move_3 rfl ?_
        refine aw_iload dX7_move_4 rfl ?_
        refine c_X7_323 rfl dX7_move_6 m_ob (Nat.le_of_ble_eq_true rfl) (by omega) (C_m_mayMove (by omega) (fun mv => ?_) (fun mv => ?_))
        · first
            | (exfalso; omega)
            | skip
              refine aK_i ?_
              refine aw_ifne (tgt := 18) dX7_move_9 (by decide) (fun _ => ?_) (fun h => absurd h (by decide))
              refine aw_aload_n dX7_move_18 rfl ?_
              refine aw_aload_n dX7_move_19 rfl ?_
              refine aw_iload_n dX7_move_20 rfl ?_
              refine aw_iload_n dX7_move_21 rfl ?_
              refine c_X7_301 rfl dX7_move_22 m_ob (Nat.le_of_ble_eq_true rfl) (by omega) (C_m_frameRow (by omega) (by omega) ?_)
              refine aK_i ?_
              refine aw_aload_n dX7_move_25 rfl ?_
              refine aw_iload_n dX7_move_26 rfl ?_
              refine aw_iload dX7_move_27 rfl ?_
              refine c_X7_301 rfl dX7_move_29 m_ob (Nat.le_of_ble_eq_true rfl) (by omega) (C_m_frameRow (by omega) (by omega) ?_)
              refine aK_i ?_
              refine c_X7_327 rfl dX7_move_32 m_ob (Nat.le_of_ble_eq_true rfl) (by omega) (C_m_moves (by omega) (by omega) ?_ (fun ct2 t1 t2 => ?_))
              · rcases (by omega : a < c ∨ a = c ∨ c < a) with z | z | z <;> omega
              · first
                  | (exfalso; omega)
                  | skip
                    refine aK_v ?_
                    refine aw_aload_n dX7_move_35 rfl ?_
                    refine aw_iconst dX7_move_36 (by decide) ?_
                    refine c_X7_79 rfl dX7_move_37 m_ob (Nat.le_of_ble_eq_true rfl) (by omega) (C_m_is (fun hz => ?_) (fun hz => ?_))
                    · first
                        | (exfalso; omega)
                        | skip
                          refine aK_i ?_
                          refine aw_zreturn dX7_move_40 rfl (by omega) ?_
                          first
                            | (exfalso; omega)
                            | (refine XR.sameE h ?_ ?_ ?_ ?_ ?_ ?_
                               · first
                                   | rfl
                                   | omega
                               · repeat (first | exact xs.rf | refine xs.up ?_ (by decide))
                               · repeat (first | exact mss.rf | refine mss.up0 ?_ (by decide))
                               · first
                                   | (simp [aup, hv2, hv3, hv4]; done)
                                   | (simp [aup, hv2, hv3, hv4]; omega)
                               · simp [aup, hv2, hv3, hv4]
                               · simp [aup, hv2, hv3, hv4])
                            | (obtain ⟨own', w1, w2, w3, w4, w5⟩ := (HY.up0 (j := 7) (v := 0) hR.1.2 (by decide)).swap (k := a) (g := c) (f := b) (e := e) (fun j j0 j1 => (HP.2.2.1 j j0 j1).1) (by omega) (by omega) (by omega) (by omega) (by omega) (by omega) (by omega) ehv ehw
                               have T : TRn own own' sz sz im im ct ct := ⟨Int.le_refl _, fun _ _ => rfl, fun _ _ => rfl, fun x _ hx => w1 x hx⟩
                               have oA := w2 _ w3
                               have oB := w2 _ w4
                               have h10 : ¬ (10 = (im hv).2.2 1) := aob_ne HY.1 g1.2.1 (by decide)
                               have h10b : ¬ (10 = (im hw).2.2 1) := aob_ne HY.1 u1.2.1 (by decide)
                               have h00 : ¬ (0 = (im hv).2.2 1) := aob_ne hR.o0 g1.2.1 (by decide)
                               have h00b : ¬ (0 = (im hw).2.2 1) := aob_ne hR.o0 u1.2.1 (by decide)
                               refine ⟨vI_eq (by first | rfl | omega), _, rfl, XR.yd (mvS (64 + 198 * a + 6 + 16 * b) (64 + 198 * c + 6 + 16 * e) 16 (cm 1)) (RT.tr T hR) (XO.tr T hR HX) (LR.tr T HL) HN (SE.tr T HS) HP ?_ ?_ ?_ ?_ ?_ ?_ ?_ ?_ ?_ ?_ ?_ ?_ ?_⟩
                               · rw [aup_rn (by decide)]; exact t1
                               · rw [mvS_lo (by omega) (by omega) (by omega) (by omega) (by omega) (by omega) (by omega)]; exact w5
                               · intro i hi
                                 exact mvS_lo (by omega) (by omega) (by omega) (by omega) (by omega) (by omega) (by omega)
                               · intro k k0 k1
                                 have q := mvS_hd (s := cm 1) (k := a) (g := c) (f := b) (e := e) (j := k) (i := 0) (by omega) (by omega) (by omega) (by omega)
                                 rw [Int.add_zero] at q
                                 exact q
                               · exact HP.swap (by omega) (by omega) (by omega) (by omega) (by omega) (by omega)
                               · exact HF.eq (by rw [aup_n (by omega), t2 0 (by decide)]) (by rw [aup_rn (by decide), t2 9 (by decide)])
                               · intro x j hx hz
                                 rw [aup_rn (fun q => hx (by rw [q]; exact oB)), aup_rn (fun q => hx (by rw [q]; exact oA)), aup_n (fun z => hz ⟨z.1, Or.inl z.2⟩)]
                               · rw [aup_rn h10b, aup_rn h10, aup_n (by omega)]
                               · intro b b0 b1 b9
                                 rw [aup_rn b0]; exact t2 b b1
                               · intro i hi
                                 rw [aup_n (by omega), t2 0 (by decide)]
                               · rw [aup_rn h00b, aup_rn h00, aup_s, aup_s]
                               · rw [aup_rn h00b, aup_rn h00, aup_n (by omega), aup_n (by omega), t2 0 (by decide)]; exact hv3
                               · rw [aup_rn h00b, aup_rn h00, aup_n (by omega), aup_n (by omega), t2 0 (by decide)]; exact hv4)
                    · first
                        | (exfalso; omega)
                        | skip
                          refine aK_i ?_
                          refine aw_zreturn dX7_move_40 rfl (by omega) ?_
                          first
                            | (exfalso; omega)
                            | (refine XR.sameE h ?_ ?_ ?_ ?_ ?_ ?_
                               · first
                                   | rfl
                                   | omega
                               · repeat (first | exact xs.rf | refine xs.up ?_ (by decide))
                               · repeat (first | exact mss.rf | refine mss.up0 ?_ (by decide))
                               · first
                                   | (simp [aup, hv2, hv3, hv4]; done)
                                   | (simp [aup, hv2, hv3, hv4]; omega)
                               · simp [aup, hv2, hv3, hv4]
                               · simp [aup, hv2, hv3, hv4])
                            | (obtain ⟨own', w1, w2, w3, w4, w5⟩ := (HY.up0 (j := 7) (v := 0) hR.1.2 (by decide)).swap (k := a) (g := c) (f := b) (e := e) (fun j j0 j1 => (HP.2.2.1 j j0 j1).1) (by omega) (by omega) (by omega) (by omega) (by omega) (by omega) (by omega) ehv ehw
                               have T : TRn own own' sz sz im im ct ct := ⟨Int.le_refl _, fun _ _ => rfl, fun _ _ => rfl, fun x _ hx => w1 x hx⟩
                               have oA := w2 _ w3
                               have oB := w2 _ w4
                               have h10 : ¬ (10 = (im hv).2.2 1) := aob_ne HY.1 g1.2.1 (by decide)
                               have h10b : ¬ (10 = (im hw).2.2 1) := aob_ne HY.1 u1.2.1 (by decide)
                               have h00 : ¬ (0 = (im hv).2.2 1) := aob_ne hR.o0 g1.2.1 (by decide)
                               have h00b : ¬ (0 = (im hw).2.2 1) := aob_ne hR.o0 u1.2.1 (by decide)
                               refine ⟨vI_eq (by first | rfl | omega), _, rfl, XR.yd (mvS (64 + 198 * a + 6 + 16 * b) (64 + 198 * c + 6 + 16 * e) 16 (cm 1)) (RT.tr T hR) (XO.tr T hR HX) (LR.tr T HL) HN (SE.tr T HS) HP ?_ ?_ ?_ ?_ ?_ ?_ ?_ ?_ ?_ ?_ ?_ ?_ ?_⟩
                               · rw [aup_rn (by decide)]; exact t1
                               · rw [mvS_lo (by omega) (by omega) (by omega) (by omega) (by omega) (by omega) (by omega)]; exact w5
                               · intro i hi
                                 exact mvS_lo (by omega) (by omega) (by omega) (by omega) (by omega) (by omega) (by omega)
                               · intro k k0 k1
                                 have q := mvS_hd (s := cm 1) (k := a) (g := c) (f := b) (e := e) (j := k) (i := 0) (by omega) (by omega) (by omega) (by omega)
                                 rw [Int.add_zero] at q
                                 exact q
                               · exact HP.swap (by omega) (by omega) (by omega) (by omega) (by omega) (by omega)
                               · exact HF.eq (by rw [aup_n (by omega), t2 0 (by decide)]) (by rw [aup_rn (by decide), t2 9 (by decide)])
                               · intro x j hx hz
                                 rw [aup_rn (fun q => hx (by rw [q]; exact oB)), aup_rn (fun q => hx (by rw [q]; exact oA)), aup_n (fun z => hz ⟨z.1, Or.inl z.2⟩)]
                               · rw [aup_rn h10b, aup_rn h10, aup_n (by omega)]
                               · intro b b0 b1 b9
                                 rw [aup_rn b0]; exact t2 b b1
                               · intro i hi
                                 rw [aup_n (by omega), t2 0 (by decide)]
                               · rw [aup_rn h00b, aup_rn h00, aup_s, aup_s]
                               · rw [aup_rn h00b, aup_rn h00, aup_n (by omega), aup_n (by omega), t2 0 (by decide)]; exact hv3
                               · rw [aup_rn h00b, aup_rn h00, aup_n (by omega), aup_n (by omega), t2 0 (by decide)]; exact hv4)
        · first
            | (exfalso; omega)
            | skip
              refine aK_i ?_
              refine aw_ifne (tgt := 18) dX7_move_9 (by decide) (fun h => absurd h (by decide)) (fun _ => ?_)
              refine aw_aload_n dX7_move_12 rfl ?_
              refine aw_iconst dX7_move_13 (by decide) ?_
              refine c_X7_79 rfl dX7_move_14 m_ob (Nat.le_of_ble_eq_true rfl) (by omega) (C_m_is (fun hz => ?_) (fun hz => ?_))
              · first
                  | (exfalso; omega)
                  | skip
                    refine aK_i ?_
                    refine aw_zreturn dX7_move_17 rfl (by omega) ?_
                    first
                      | (exfalso; omega)
                      | (refine XR.sameE h ?_ ?_ ?_ ?_ ?_ ?_
                         · first
                             | rfl
                             | omega
                         · repeat (first | exact xs.rf | refine xs.up ?_ (by decide))
                         · repeat (first | exact mss.rf | refine mss.up0 ?_ (by decide))
                         · first
                             | (simp [aup, hv2, hv3, hv4]; done)
                             | (simp [aup, hv2, hv3, hv4]; omega)
                         · simp [aup, hv2, hv3, hv4]
                         · simp [aup, hv2, hv3, hv4])
                      | (obtain ⟨own', w1, w2, w3, w4, w5⟩ := (HY.up0 (j := 7) (v := 0) hR.1.2 (by decide)).swap (k := a) (g := c) (f := b) (e := e) (fun j j0 j1 => (HP.2.2.1 j j0 j1).1) (by omega) (by omega) (by omega) (by omega) (by omega) (by omega) (by omega) ehv ehw
                         have T : TRn own own' sz sz im im ct ct := ⟨Int.le_refl _, fun _ _ => rfl, fun _ _ => rfl, fun x _ hx => w1 x hx⟩
                         have oA := w2 _ w3
                         have oB := w2 _ w4
                         have h10 : ¬ (10 = (im hv).2.2 1) := aob_ne HY.1 g1.2.1 (by decide)
                         have h10b : ¬ (10 = (im hw).2.2 1) := aob_ne HY.1 u1.2.1 (by decide)
                         have h00 : ¬ (0 = (im hv).2.2 1) := aob_ne hR.o0 g1.2.1 (by decide)
                         have h00b : ¬ (0 = (im hw).2.2 1) := aob_ne hR.o0 u1.2.1 (by decide)
                         refine ⟨vI_eq (by first | rfl | omega), _, rfl, XR.yd (mvS (64 + 198 * a + 6 + 16 * b) (64 + 198 * c + 6 + 16 * e) 16 (cm 1)) (RT.tr T hR) (XO.tr T hR HX) (LR.tr T HL) HN (SE.tr T HS) HP ?_ ?_ ?_ ?_ ?_ ?_ ?_ ?_ ?_ ?_ ?_ ?_ ?_⟩
                         · rw [aup_rn (by decide)]; exact t1
                         · rw [mvS_lo (by omega) (by omega) (by omega) (by omega) (by omega) (by omega) (by omega)]; exact w5
                         · intro i hi
                           exact mvS_lo (by omega) (by omega) (by omega) (by omega) (by omega) (by omega) (by omega)
                         · intro k k0 k1
                           have q := mvS_hd (s := cm 1) (k := a) (g := c) (f := b) (e := e) (j := k) (i := 0) (by omega) (by omega) (by omega) (by omega)
                           rw [Int.add_zero] at q
                           exact q
                         · exact HP.swap (by omega) (by omega) (by omega) (by omega) (by omega) (by omega)
                         · exact HF.eq (by rw [aup_n (by omega), t2 0 (by decide)]) (by rw [aup_rn (by decide), t2 9 (by decide)])
                         · intro x j hx hz
                           rw [aup_rn (fun q => hx (by rw [q]; exact oB)), aup_rn (fun q => hx (by rw [q]; exact oA)), aup_n (fun z => hz ⟨z.1, Or.inl z.2⟩)]
                         · rw [aup_rn h10b, aup_rn h10, aup_n (by omega)]
                         · intro b b0 b1 b9
                           rw [aup_rn b0]; exact t2 b b1
                         · intro i hi
                           rw [aup_n (by omega), t2 0 (by decide)]
                         · rw [aup_rn h00b, aup_rn h00, aup_s, aup_s]
                         · rw [aup_rn h00b, aup_rn h00, aup_n (by omega), aup_n (by omega), t2 0 (by decide)]; exact hv3
                         · rw [aup_rn h00b, aup_rn h00, aup_n (by omega), aup_n (by omega), t2 0 (by decide)]; exact hv4)
              · first
                  | (exfalso; omega)
                  | skip
                    refine aK_i ?_
                    refine aw_zreturn dX7_move_17 rfl (by omega) ?_
                    first
                      | (exfalso; omega)
                      | (refine XR.sameE h ?_ ?_ ?_ ?_ ?_ ?_
                         · first
                             | rfl
                             | omega
                         · repeat (first | exact xs.rf | refine xs.up ?_ (by decide))
                         · repeat (first | exact mss.rf | refine mss.up0 ?_ (by decide))
                         · first
                             | (simp [aup, hv2, hv3, hv4]; done)
                             | (simp [aup, hv2, hv3, hv4]; omega)
                         · simp [aup, hv2, hv3, hv4]
                         · simp [aup, hv2, hv3, hv4])
                      | (obtain ⟨own', w1, w2, w3, w4, w5⟩ := (HY.up0 (j := 7) (v := 0) hR.1.2 (by decide)).swap (k := a) (g := c) (f := b) (e := e) (fun j j0 j1 => (HP.2.2.1 j j0 j1).1) (by omega) (by omega) (by omega) (by omega) (by omega) (by omega) (by omega) ehv ehw
                         have T : TRn own own' sz sz im im ct ct := ⟨Int.le_refl _, fun _ _ => rfl, fun _ _ => rfl, fun x _ hx => w1 x hx⟩
                         have oA := w2 _ w3
                         have oB := w2 _ w4
                         have h10 : ¬ (10 = (im hv).2.2 1) := aob_ne HY.1 g1.2.1 (by decide)
                         have h10b : ¬ (10 = (im hw).2.2 1) := aob_ne HY.1 u1.2.1 (by decide)
                         have h00 : ¬ (0 = (im hv).2.2 1) := aob_ne hR.o0 g1.2.1 (by decide)
                         have h00b : ¬ (0 = (im hw).2.2 1) := aob_ne hR.o0 u1.2.1 (by decide)
                         refine ⟨vI_eq (by first | rfl | omega), _, rfl, XR.yd (mvS (64 + 198 * a + 6 + 16 * b) (64 + 198 * c + 6 + 16 * e) 16 (cm 1)) (RT.tr T hR) (XO.tr T hR HX) (LR.tr T HL) HN (SE.tr T HS) HP ?_ ?_ ?_ ?_ ?_ ?_ ?_ ?_ ?_ ?_ ?_ ?_ ?_⟩
                         · rw [aup_rn (by decide)]; exact t1
                         · rw [mvS_lo (by omega) (by omega) (by omega) (by omega) (by omega) (by omega) (by omega)]; exact w5
                         · intro i hi
                           exact mvS_lo (by omega) (by omega) (by omega) (by omega) (by omega) (by omega) (by omega)
                         · intro k k0 k1
                           have q := mvS_hd (s := cm 1) (k := a) (g := c) (f := b) (e := e) (j := k) (i := 0) (by omega) (by omega) (by omega) (by omega)
                           rw [Int.add_zero] at q
                           exact q
                         · exact HP.swap (by omega) (by omega) (by omega) (by omega) (by omega) (by omega)
                         · exact HF.eq (by rw [aup_n (by omega), t2 0 (by decide)]) (by rw [aup_rn (by decide), t2 9 (by decide)])
                         · intro x j hx hz
                           rw [aup_rn (fun q => hx (by rw [q]; exact oB)), aup_rn (fun q => hx (by rw [q]; exact oA)), aup_n (fun z => hz ⟨z.1, Or.inl z.2⟩)]
                         · rw [aup_rn h10b, aup_rn h10, aup_n (by omega)]
                         · intro b b0 b1 b9
                           rw [aup_rn b0]; exact t2 b b1
                         · intro i hi
                           rw [aup_n (by omega), t2 0 (by decide)]
                         · rw [aup_rn h00b, aup_rn h00, aup_s, aup_s]
                         · rw [aup_rn h00b, aup_rn h00, aup_n (by omega), aup_n (by omega), t2 0 (by decide)]; exact hv3
                         · rw [aup_rn h00b, aup_rn h00, aup_n (by omega), aup_n (by omega), t2 0 (by decide)]; exact hv4)
      · refine aw_iload_n dX0_move_25 rfl ?_
        refine aw_iload dX0_move_26 rfl ?_
        refine aw_icmpeq (tgt := 35) dX0_move_28 (by decide) (fun h28 => ?_) (fun h28 => ?_)
        · refine aw_iconst dX0_move_35 (by decide) ?_
          refine p_X0_73_0 rfl dX0_move_36 hR.o0 ?_
          refine aw_aload_n dX0_move_39 rfl ?_
          refine g_X0_73_0 rfl dX0_move_40 hR.o0 ?_
          repeat (first | rw [aup_s] | rw [aup_n (by omega)])
          refine aw_ifne (tgt := 62) dX0_move_43 (by decide) (fun _ => ?_) (fun h => absurd h (by decide))
          refine aw_aload_n dX0_move_62 rfl ?_
          refine g_X0_73_0 rfl dX0_move_63 hR.o0 ?_
          repeat (first | rw [aup_s] | rw [aup_n (by omega)])
          try rw [aup_rn (fun z => aob_ne hR.o0 u1.2.1 (by decide) z), aup_rn (fun z => aob_ne hR.o0 g1.2.1 (by decide) z), aup_s]
          refine aw_ifne (tgt := 73) dX0_move_66 (by decide) (fun _ => ?_) (fun h => absurd h (by decide))
          refine aw_iconst dX0_move_73 (by decide) ?_
          refine aw_zreturn dX0_move_74 rfl (Or.inl rfl) ?_
          refine ⟨_, rfl, ?_⟩
          refine AMet.go (L := [some (vR 0), some (vI a), some (vI b), some (vI c), some (vI e)]) mok_X7_move (Nat.le_of_ble_eq_true rfl) rfl ?_
          refine aw_aload_n dX7_move_0 rfl ?_
          refine aw_iload_n dX7_move_1 rfl ?_
          refine aw_iload_n dX7_move_2 rfl ?_
          refine aw_iload_n dX7_move_3 rfl ?_
          refine aw_iload dX7_move_4 rfl ?_
          refine c_X7_323 rfl dX7_move_6 m_ob (Nat.le_of_ble_eq_true rfl) (by omega) (C_m_mayMove (by omega) (fun mv => ?_) (fun mv => ?_))
          · first
              | (exfalso; omega)
              | skip
                refine aK_i ?_
                refine aw_ifne (tgt := 18) dX7_move_9 (by decide) (fun _ => ?_) (fun h => absurd h (by decide))
                refine aw_aload_n dX7_move_18 rfl ?_
                refine aw_aload_n dX7_move_19 rfl ?_
                refine aw_iload_n dX7_move_20 rfl ?_
                refine aw_iload_n dX7_move_21 rfl ?_
                refine c_X7_301 rfl dX7_move_22 m_ob (Nat.le_of_ble_eq_true rfl) (by omega) (C_m_frameRow (by omega) (by omega) ?_)
                refine aK_i ?_
                refine aw_aload_n dX7_move_25 rfl ?_
                refine aw_iload_n dX7_move_26 rfl ?_
                refine aw_iload dX7_move_27 rfl ?_
                refine c_X7_301 rfl dX7_move_29 m_ob (Nat.le_of_ble_eq_true rfl) (by omega) (C_m_frameRow (by omega) (by omega) ?_)
                refine aK_i ?_
                refine c_X7_327 rfl dX7_move_32 m_ob (Nat.le_of_ble_eq_true rfl) (by omega) (C_m_moves (by omega) (by omega) ?_ (fun ct2 t1 t2 => ?_))
                · rcases (by omega : a < c ∨ a = c ∨ c < a) with z | z | z <;> omega
                · first
                    | (exfalso; omega)
                    | skip
                      refine aK_v ?_
                      refine aw_aload_n dX7_move_35 rfl ?_
                      refine aw_iconst dX7_move_36 (by decide) ?_
                      refine c_X7_79 rfl dX7_move_37 m_ob (Nat.le_of_ble_eq_true rfl) (by omega) (C_m_is (fun hz => ?_) (fun hz => ?_))
                      · first
                          | (exfalso; omega)
                          | skip
                            refine aK_i ?_
                            refine aw_zreturn dX7_move_40 rfl (by omega) ?_
                            first
                              | (exfalso; omega)
                              | (refine XR.sameE h ?_ ?_ ?_ ?_ ?_ ?_
                                 · first
                                     | rfl
                                     | omega
                                 · repeat (first | exact xs.rf | refine xs.up ?_ (by decide))
                                 · repeat (first | exact mss.rf | refine mss.up0 ?_ (by decide))
                                 · first
                                     | (simp [aup, hv2, hv3, hv4]; done)
                                     | (simp [aup, hv2, hv3, hv4]; omega)
                                 · simp [aup, hv2, hv3, hv4]
                                 · simp [aup, hv2, hv3, hv4])
                              | (obtain ⟨own', w1, w2, w3, w4, w5⟩ := (HY.up0 (j := 7) (v := 0) hR.1.2 (by decide)).swap (k := a) (g := c) (f := b) (e := e) (fun j j0 j1 => (HP.2.2.1 j j0 j1).1) (by omega) (by omega) (by omega) (by omega) (by omega) (by omega) (by omega) ehv ehw
                                 have T : TRn own own' sz sz im im ct ct := ⟨Int.le_refl _, fun _ _ => rfl, fun _ _ => rfl, fun x _ hx => w1 x hx⟩
                                 have oA := w2 _ w3
                                 have oB := w2 _ w4
                                 have h10 : ¬ (10 = (im hv).2.2 1) := aob_ne HY.1 g1.2.1 (by decide)
                                 have h10b : ¬ (10 = (im hw).2.2 1) := aob_ne HY.1 u1.2.1 (by decide)
                                 have h00 : ¬ (0 = (im hv).2.2 1) := aob_ne hR.o0 g1.2.1 (by decide)
                                 have h00b : ¬ (0 = (im hw).2.2 1) := aob_ne hR.o0 u1.2.1 (by decide)
                                 refine ⟨vI_eq (by first | rfl | omega), _, rfl, XR.yd (mvS (64 + 198 * a + 6 + 16 * b) (64 + 198 * c + 6 + 16 * e) 16 (cm 1)) (RT.tr T hR) (XO.tr T hR HX) (LR.tr T HL) HN (SE.tr T HS) HP ?_ ?_ ?_ ?_ ?_ ?_ ?_ ?_ ?_ ?_ ?_ ?_ ?_⟩
                                 · rw [aup_rn (by decide)]; exact t1
                                 · rw [mvS_lo (by omega) (by omega) (by omega) (by omega) (by omega) (by omega) (by omega)]; exact w5
                                 · intro i hi
                                   exact mvS_lo (by omega) (by omega) (by omega) (by omega) (by omega) (by omega) (by omega)
                                 · intro k k0 k1
                                   have q := mvS_hd (s := cm 1) (k := a) (g := c) (f := b) (e := e) (j := k) (i := 0) (by omega) (by omega) (by omega) (by omega)
                                   rw [Int.add_zero] at q
                                   exact q
                                 · exact HP.swap (by omega) (by omega) (by omega) (by omega) (by omega) (by omega)
                                 · exact HF.eq (by rw [aup_n (by omega), t2 0 (by decide)]) (by rw [aup_rn (by decide), t2 9 (by decide)])
                                 · intro x j hx hz
                                   rw [aup_rn (fun q => hx (by rw [q]; exact oB)), aup_rn (fun q => hx (by rw [q]; exact oA)), aup_n (fun z => hz ⟨z.1, Or.inl z.2⟩)]
                                 · rw [aup_rn h10b, aup_rn h10, aup_n (by omega)]
                                 · intro b b0 b1 b9
                                   rw [aup_rn b0]; exact t2 b b1
                                 · intro i hi
                                   rw [aup_n (by omega), t2 0 (by decide)]
                                 · rw [aup_rn h00b, aup_rn h00, aup_s, aup_s]
                                 · rw [aup_rn h00b, aup_rn h00, aup_n (by omega), aup_n (by omega), t2 0 (by decide)]; exact hv3
                                 · rw [aup_rn h00b, aup_rn h00, aup_n (by omega), aup_n (by omega), t2 0 (by decide)]; exact hv4)
                      · first
                          | (exfalso; omega)
                          | skip
                            refine aK_i ?_
                            refine aw_zreturn dX7_move_40 rfl (by omega) ?_
                            first
                              | (exfalso; omega)
                              | (refine XR.sameE h ?_ ?_ ?_ ?_ ?_ ?_
                                 · first
                                     | rfl
                                     | omega
                                 · repeat (first | exact xs.rf | refine xs.up ?_ (by decide))
                                 · repeat (first | exact mss.rf | refine mss.up0 ?_ (by decide))
                                 · first
                                     | (simp [aup, hv2, hv3, hv4]; done)
                                     | (simp [aup, hv2, hv3, hv4]; omega)
                                 · simp [aup, hv2, hv3, hv4]
                                 · simp [aup, hv2, hv3, hv4])
                              | (obtain ⟨own', w1, w2, w3, w4, w5⟩ := (HY.up0 (j := 7) (v := 0) hR.1.2 (by decide)).swap (k := a) (g := c) (f := b) (e := e) (fun j j0 j1 => (HP.2.2.1 j j0 j1).1) (by omega) (by omega) (by omega) (by omega) (by omega) (by omega) (by omega) ehv ehw
                                 have T : TRn own own' sz sz im im ct ct := ⟨Int.le_refl _, fun _ _ => rfl, fun _ _ => rfl, fun x _ hx => w1 x hx⟩
                                 have oA := w2 _ w3
                                 have oB := w2 _ w4
                                 have h10 : ¬ (10 = (im hv).2.2 1) := aob_ne HY.1 g1.2.1 (by decide)
                                 have h10b : ¬ (10 = (im hw).2.2 1) := aob_ne HY.1 u1.2.1 (by decide)
                                 have h00 : ¬ (0 = (im hv).2.2 1) := aob_ne hR.o0 g1.2.1 (by decide)
                                 have h00b : ¬ (0 = (im hw).2.2 1) := aob_ne hR.o0 u1.2.1 (by decide)
                                 refine ⟨vI_eq (by first | rfl | omega), _, rfl, XR.yd (mvS (64 + 198 * a + 6 + 16 * b) (64 + 198 * c + 6 + 16 * e) 16 (cm 1)) (RT.tr T hR) (XO.tr T hR HX) (LR.tr T HL) HN (SE.tr T HS) HP ?_ ?_ ?_ ?_ ?_ ?_ ?_ ?_ ?_ ?_ ?_ ?_ ?_⟩
                                 · rw [aup_rn (by decide)]; exact t1
                                 · rw [mvS_lo (by omega) (by omega) (by omega) (by omega) (by omega) (by omega) (by omega)]; exact w5
                                 · intro i hi
                                   exact mvS_lo (by omega) (by omega) (by omega) (by omega) (by omega) (by omega) (by omega)
                                 · intro k k0 k1
                                   have q := mvS_hd (s := cm 1) (k := a) (g := c) (f := b) (e := e) (j := k) (i := 0) (by omega) (by omega) (by omega) (by omega)
                                   rw [Int.add_zero] at q
                                   exact q
                                 · exact HP.swap (by omega) (by omega) (by omega) (by omega) (by omega) (by omega)
                                 · exact HF.eq (by rw [aup_n (by omega), t2 0 (by decide)]) (by rw [aup_rn (by decide), t2 9 (by decide)])
                                 · intro x j hx hz
                                   rw [aup_rn (fun q => hx (by rw [q]; exact oB)), aup_rn (fun q => hx (by rw [q]; exact oA)), aup_n (fun z => hz ⟨z.1, Or.inl z.2⟩)]
                                 · rw [aup_rn h10b, aup_rn h10, aup_n (by omega)]
                                 · intro b b0 b1 b9
                                   rw [aup_rn b0]; exact t2 b b1
                                 · intro i hi
                                   rw [aup_n (by omega), t2 0 (by decide)]
                                 · rw [aup_rn h00b, aup_rn h00, aup_s, aup_s]
                                 · rw [aup_rn h00b, aup_rn h00, aup_n (by omega), aup_n (by omega), t2 0 (by decide)]; exact hv3
                                 · rw [aup_rn h00b, aup_rn h00, aup_n (by omega), aup_n (by omega), t2 0 (by decide)]; exact hv4)
          · first
              | (exfalso; omega)
              | skip
                refine aK_i ?_
                refine aw_ifne (tgt := 18) dX7_move_9 (by decide) (fun h => absurd h (by decide)) (fun _ => ?_)
                refine aw_aload_n dX7_move_12 rfl ?_
                refine aw_iconst dX7_move_13 (by decide) ?_
                refine c_X7_79 rfl dX7_move_14 m_ob (Nat.le_of_ble_eq_true rfl) (by omega) (C_m_is (fun hz => ?_) (fun hz => ?_))
                · first
                    | (exfalso; omega)
                    | skip
                      refine aK_i ?_
                      refine aw_zreturn dX7_move_17 rfl (by omega) ?_
                      first
                        | (exfalso; omega)
                        | (refine XR.sameE h ?_ ?_ ?_ ?_ ?_ ?_
                           · first
                               | rfl
                               | omega
                           · repeat (first | exact xs.rf | refine xs.up ?_ (by decide))
                           · repeat (first | exact mss.rf | refine mss.up0 ?_ (by decide))
                           · first
                               | (simp [aup, hv2, hv3, hv4]; done)
                               | (simp [aup, hv2, hv3, hv4]; omega)
                           · simp [aup, hv2, hv3, hv4]
                           · simp [aup, hv2, hv3, hv4])
                        | (obtain ⟨own', w1, w2, w3, w4, w5⟩ := (HY.up0 (j := 7) (v := 0) hR.1.2 (by decide)).swap (k := a) (g := c) (f := b) (e := e) (fun j j0 j1 => (HP.2.2.1 j j0 j1).1) (by omega) (by omega) (by omega) (by omega) (by omega) (by omega) (by omega) ehv ehw
                           have T : TRn own own' sz sz im im ct ct := ⟨Int.le_refl _, fun _ _ => rfl, fun _ _ => rfl, fun x _ hx => w1 x hx⟩
                           have oA := w2 _ w3
                           have oB := w2 _ w4
                           have h10 : ¬ (10 = (im hv).2.2 1) := aob_ne HY.1 g1.2.1 (by decide)
                           have h10b : ¬ (10 = (im hw).2.2 1) := aob_ne HY.1 u1.2.1 (by decide)
                           have h00 : ¬ (0 = (im hv).2.2 1) := aob_ne hR.o0 g1.2.1 (by decide)
                           have h00b : ¬ (0 = (im hw).2.2 1) := aob_ne hR.o0 u1.2.1 (by decide)
                           refine ⟨vI_eq (by first | rfl | omega), _, rfl, XR.yd (mvS (64 + 198 * a + 6 + 16 * b) (64 + 198 * c + 6 + 16 * e) 16 (cm 1)) (RT.tr T hR) (XO.tr T hR HX) (LR.tr T HL) HN (SE.tr T HS) HP ?_ ?_ ?_ ?_ ?_ ?_ ?_ ?_ ?_ ?_ ?_ ?_ ?_⟩
                           · rw [aup_rn (by decide)]; exact t1
                           · rw [mvS_lo (by omega) (by omega) (by omega) (by omega) (by omega) (by omega) (by omega)]; exact w5
                           · intro i hi
                             exact mvS_lo (by omega) (by omega) (by omega) (by omega) (by omega) (by omega) (by omega)
                           · intro k k0 k1
                             have q := mvS_hd (s := cm 1) (k := a) (g := c) (f := b) (e := e) (j := k) (i := 0) (by omega) (by omega) (by omega) (by omega)
                             rw [Int.add_zero] at q
                             exact q
                           · exact HP.swap (by omega) (by omega) (by omega) (by omega) (by omega) (by omega)
                           · exact HF.eq (by rw [aup_n (by omega), t2 0 (by decide)]) (by rw [aup_rn (by decide), t2 9 (by decide)])
                           · intro x j hx hz
                             rw [aup_rn (fun q => hx (by rw [q]; exact oB)), aup_rn (fun q => hx (by rw [q]; exact oA)), aup_n (fun z => hz ⟨z.1, Or.inl z.2⟩)]
                           · rw [aup_rn h10b, aup_rn h10, aup_n (by omega)]
                           · intro b b0 b1 b9
                             rw [aup_rn b0]; exact t2 b b1
                           · intro i hi
                             rw [aup_n (by omega), t2 0 (by decide)]
                           · rw [aup_rn h00b, aup_rn h00, aup_s, aup_s]
                           · rw [aup_rn h00b, aup_rn h00, aup_n (by omega), aup_n (by omega), t2 0 (by decide)]; exact hv3
                           · rw [aup_rn h00b, aup_rn h00, aup_n (by omega), aup_n (by omega), t2 0 (by decide)]; exact hv4)
                · first
                    | (exfalso; omega)
                    | skip
                      refine aK_i ?_
                      refine aw_zreturn dX7_move_17 rfl (by omega) ?_
                      first
                        | (exfalso; omega)
                        | (refine XR.sameE h ?_ ?_ ?_ ?_ ?_ ?_
                           · first
                               | rfl
                               | omega
                           · repeat (first | exact xs.rf | refine xs.up ?_ (by decide))
                           · repeat (first | exact mss.rf | refine mss.up0 ?_ (by decide))
                           · first
                               | (simp [aup, hv2, hv3, hv4]; done)
                               | (simp [aup, hv2, hv3, hv4]; omega)
                           · simp [aup, hv2, hv3, hv4]
                           · simp [aup, hv2, hv3, hv4])
                        | (obtain ⟨own', w1, w2, w3, w4, w5⟩ := (HY.up0 (j := 7) (v := 0) hR.1.2 (by decide)).swap (k := a) (g := c) (f := b) (e := e) (fun j j0 j1 => (HP.2.2.1 j j0 j1).1) (by omega) (by omega) (by omega) (by omega) (by omega) (by omega) (by omega) ehv ehw
                           have T : TRn own own' sz sz im im ct ct := ⟨Int.le_refl _, fun _ _ => rfl, fun _ _ => rfl, fun x _ hx => w1 x hx⟩
                           have oA := w2 _ w3
                           have oB := w2 _ w4
                           have h10 : ¬ (10 = (im hv).2.2 1) := aob_ne HY.1 g1.2.1 (by decide)
                           have h10b : ¬ (10 = (im hw).2.2 1) := aob_ne HY.1 u1.2.1 (by decide)
                           have h00 : ¬ (0 = (im hv).2.2 1) := aob_ne hR.o0 g1.2.1 (by decide)
                           have h00b : ¬ (0 = (im hw).2.2 1) := aob_ne hR.o0 u1.2.1 (by decide)
                           refine ⟨vI_eq (by first | rfl | omega), _, rfl, XR.yd (mvS (64 + 198 * a + 6 + 16 * b) (64 + 198 * c + 6 + 16 * e) 16 (cm 1)) (RT.tr T hR) (XO.tr T hR HX) (LR.tr T HL) HN (SE.tr T HS) HP ?_ ?_ ?_ ?_ ?_ ?_ ?_ ?_ ?_ ?_ ?_ ?_ ?_⟩
                           · rw [aup_rn (by decide)]; exact t1
                           · rw [mvS_lo (by omega) (by omega) (by omega) (by omega) (by omega) (by omega) (by omega)]; exact w5
                           · intro i hi
                             exact mvS_lo (by omega) (by omega) (by omega) (by omega) (by omega) (by omega) (by omega)
                           · intro k k0 k1
                             have q := mvS_hd (s := cm 1) (k := a) (g := c) (f := b) (e := e) (j := k) (i := 0) (by omega) (by omega) (by omega) (by omega)
                             rw [Int.add_zero] at q
                             exact q
                           · exact HP.swap (by omega) (by omega) (by omega) (by omega) (by omega) (by omega)
                           · exact HF.eq (by rw [aup_n (by omega), t2 0 (by decide)]) (by rw [aup_rn (by decide), t2 9 (by decide)])
                           · intro x j hx hz
                             rw [aup_rn (fun q => hx (by rw [q]; exact oB)), aup_rn (fun q => hx (by rw [q]; exact oA)), aup_n (fun z => hz ⟨z.1, Or.inl z.2⟩)]
                           · rw [aup_rn h10b, aup_rn h10, aup_n (by omega)]
                           · intro b b0 b1 b9
                             rw [aup_rn b0]; exact t2 b b1
                           · intro i hi
                             rw [aup_n (by omega), t2 0 (by decide)]
                           · rw [aup_rn h00b, aup_rn h00, aup_s, aup_s]
                           · rw [aup_rn h00b, aup_rn h00, aup_n (by omega), aup_n (by omega), t2 0 (by decide)]; exact hv3
                           · rw [aup_rn h00b, aup_rn h00, aup_n (by omega), aup_n (by omega), t2 0 (by decide)]; exact hv4)
        · refine aw_iconst dX0_move_31 (by decide) ?_
          refine aw_goto (tgt := 36) dX0_move_32 (by decide) ?_
          refine p_X0_73_0 rfl dX0_move_36 hR.o0 ?_
          refine aw_aload_n dX0_move_39 rfl ?_
          refine g_X0_73_0 rfl dX0_move_40 hR.o0 ?_
          repeat (first | rw [aup_s] | rw [aup_n (by omega)])
          refine aw_ifne (tgt := 62) dX0_move_43 (by decide) (fun h => absurd h (by decide)) (fun _ => ?_)
          obtain ⟨hv, ehv, ⟨g1, g2, ⟨g3, g4, g5, g6, g7⟩, g8, g9, -⟩, nhv0, nhv10, nhv9, nv0, nvhv, nv10, ohv⟩ := (HY.up0 (j := 7) (v := 0) hR.1.2 (by decide)).hv (hR.up0 (j := 7) (v := 0)) (k := a) (by omega) (by omega)
          have gn := g1.2.2.2
          have gh := HP.2.2.1 a (by omega) (by omega)
          have gq := gh.2.2.2.2.1
          have gp := HP.pd.2.1 a (by omega) (by omega)
          obtain ⟨hw, ehw, ⟨u1, u2, ⟨u3, u4, u5, u6, u7⟩, u8, u9, -⟩, nhw0, nhw10, nhw9, nv0, nvhw, nv10, ohw⟩ := (HY.up0 (j := 7) (v := 0) hR.1.2 (by decide)).hv (hR.up0 (j := 7) (v := 0)) (k := c) (by omega) (by omega)
          have un := u1.2.2.2
          have uh := HP.2.2.1 c (by omega) (by omega)
          have uq := uh.2.2.2.2.1
          have up := HP.pd.2.1 c (by omega) (by omega)
          have hA9 := g2.2.1 b (by omega) (by omega)
          have hB9 := u2.2.1 e (by omega) (by omega)
          refine aw_aload_n dX0_move_46 rfl ?_
          refine aw_iload_n dX0_move_47 rfl ?_
          refine c_X0_172 rfl dX0_move_48 hR.o0 (Nat.le_of_ble_eq_true rfl) (by omega) (C_x_xat2 (a := hv) hR HY (by omega) ehv ?_)
          refine aK_i ?_
          refine aw_iload_n dX0_move_51 rfl ?_
          refine aw_aload_n dX0_move_52 rfl ?_
          refine aw_iload_n dX0_move_53 rfl ?_
          refine c_X0_172 rfl dX0_move_54 hR.o0 (Nat.le_of_ble_eq_true rfl) (by omega) (C_x_xat2 (a := hw) hR HY (by omega) ehw ?_)
          refine aK_i ?_
          refine aw_iload dX0_move_57 rfl ?_
          refine c_X0_337 rfl dX0_move_59  (Nat.le_of_ble_eq_true rfl) (by omega) (C_x_swaps g1 u1 (by omega) (by omega) (by omega) (by omega) hA9 hB9 ?_)
          refine aK_v ?_
          refine aw_aload_n dX0_move_62 rfl ?_
          refine g_X0_73_0 rfl dX0_move_63 hR.o0 ?_
          repeat (first | rw [aup_s] | rw [aup_n (by omega)])
          try rw [aup_rn (fun z => aob_ne hR.o0 u1.2.1 (by decide) z), aup_rn (fun z => aob_ne hR.o0 g1.2.1 (by decide) z), aup_s]
          refine aw_ifne (tgt := 73) dX0_move_66 (by decide) (fun h => absurd h (by decide)) (fun _ => ?_)
          refine aw_iconst dX0_move_69 (by decide) ?_
          refine aw_goto (tgt := 74) dX0_move_70 (by decide) ?_
          refine aw_zreturn dX0_move_74 rfl (Or.inr rfl) ?_
          refine ⟨_, rfl, ?_⟩
          refine AMet.go (L := [some (vR 0), some (vI a), some (vI b), some (vI c), some (vI e)]) mok_X7_move (Nat.le_of_ble_eq_true rfl) rfl ?_
          refine aw_aload_n dX7_move_0 rfl ?_
          refine aw_iload_n dX7_move_1 rfl ?_
          refine aw_iload_n dX7_move_2 rfl ?_
          refine aw_iload_n dX7_move_3 rfl ?_
          refine aw_iload dX7_move_4 rfl ?_
          refine c_X7_323 rfl dX7_move_6 m_ob (Nat.le_of_ble_eq_true rfl) (by omega) (C_m_mayMove (by omega) (fun mv => ?_) (fun mv => ?_))
          · first
              | (exfalso; omega)
              | skip
                refine aK_i ?_
                refine aw_ifne (tgt := 18) dX7_move_9 (by decide) (fun _ => ?_) (fun h => absurd h (by decide))
                refine aw_aload_n dX7_move_18 rfl ?_
                refine aw_aload_n dX7_move_19 rfl ?_
                refine aw_iload_n dX7_move_20 rfl ?_
                refine aw_iload_n dX7_move_21 rfl ?_
                refine c_X7_301 rfl dX7_move_22 m_ob (Nat.le_of_ble_eq_true rfl) (by omega) (C_m_frameRow (by omega) (by omega) ?_)
                refine aK_i ?_
                refine aw_aload_n dX7_move_25 rfl ?_
                refine aw_iload_n dX7_move_26 rfl ?_
                refine aw_iload dX7_move_27 rfl ?_
                refine c_X7_301 rfl dX7_move_29 m_ob (Nat.le_of_ble_eq_true rfl) (by omega) (C_m_frameRow (by omega) (by omega) ?_)
                refine aK_i ?_
                refine c_X7_327 rfl dX7_move_32 m_ob (Nat.le_of_ble_eq_true rfl) (by omega) (C_m_moves (by omega) (by omega) ?_ (fun ct2 t1 t2 => ?_))
                · rcases (by omega : a < c ∨ a = c ∨ c < a) with z | z | z <;> omega
                · first
                    | (exfalso; omega)
                    | skip
                      refine aK_v ?_
                      refine aw_aload_n dX7_move_35 rfl ?_
                      refine aw_iconst dX7_move_36 (by decide) ?_
                      refine c_X7_79 rfl dX7_move_37 m_ob (Nat.le_of_ble_eq_true rfl) (by omega) (C_m_is (fun hz => ?_) (fun hz => ?_))
                      · first
                          | (exfalso; omega)
                          | skip
                            refine aK_i ?_
                            refine aw_zreturn dX7_move_40 rfl (by omega) ?_
                            first
                              | (exfalso; omega)
                              | (refine XR.sameE h ?_ ?_ ?_ ?_ ?_ ?_
                                 · first
                                     | rfl
                                     | omega
                                 · repeat (first | exact xs.rf | refine xs.up ?_ (by decide))
                                 · repeat (first | exact mss.rf | refine mss.up0 ?_ (by decide))
                                 · first
                                     | (simp [aup, hv2, hv3, hv4]; done)
                                     | (simp [aup, hv2, hv3, hv4]; omega)
                                 · simp [aup, hv2, hv3, hv4]
                                 · simp [aup, hv2, hv3, hv4])
                              | (obtain ⟨own', w1, w2, w3, w4, w5⟩ := (HY.up0 (j := 7) (v := 0) hR.1.2 (by decide)).swap (k := a) (g := c) (f := b) (e := e) (fun j j0 j1 => (HP.2.2.1 j j0 j1).1) (by omega) (by omega) (by omega) (by omega) (by omega) (by omega) (by omega) ehv ehw
                                 have T : TRn own own' sz sz im im ct ct := ⟨Int.le_refl _, fun _ _ => rfl, fun _ _ => rfl, fun x _ hx => w1 x hx⟩
                                 have oA := w2 _ w3
                                 have oB := w2 _ w4
                                 have h10 : ¬ (10 = (im hv).2.2 1) := aob_ne HY.1 g1.2.1 (by decide)
                                 have h10b : ¬ (10 = (im hw).2.2 1) := aob_ne HY.1 u1.2.1 (by decide)
                                 have h00 : ¬ (0 = (im hv).2.2 1) := aob_ne hR.o0 g1.2.1 (by decide)
                                 have h00b : ¬ (0 = (im hw).2.2 1) := aob_ne hR.o0 u1.2.1 (by decide)
                                 refine ⟨vI_eq (by first | rfl | omega), _, rfl, XR.yd (mvS (64 + 198 * a + 6 + 16 * b) (64 + 198 * c + 6 + 16 * e) 16 (cm 1)) (RT.tr T hR) (XO.tr T hR HX) (LR.tr T HL) HN (SE.tr T HS) HP ?_ ?_ ?_ ?_ ?_ ?_ ?_ ?_ ?_ ?_ ?_ ?_ ?_⟩
                                 · rw [aup_rn (by decide)]; exact t1
                                 · rw [mvS_lo (by omega) (by omega) (by omega) (by omega) (by omega) (by omega) (by omega)]; exact w5
                                 · intro i hi
                                   exact mvS_lo (by omega) (by omega) (by omega) (by omega) (by omega) (by omega) (by omega)
                                 · intro k k0 k1
                                   have q := mvS_hd (s := cm 1) (k := a) (g := c) (f := b) (e := e) (j := k) (i := 0) (by omega) (by omega) (by omega) (by omega)
                                   rw [Int.add_zero] at q
                                   exact q
                                 · exact HP.swap (by omega) (by omega) (by omega) (by omega) (by omega) (by omega)
                                 · exact HF.eq (by rw [aup_n (by omega), t2 0 (by decide)]) (by rw [aup_rn (by decide), t2 9 (by decide)])
                                 · intro x j hx hz
                                   rw [aup_rn (fun q => hx (by rw [q]; exact oB)), aup_rn (fun q => hx (by rw [q]; exact oA)), aup_n (fun z => hz ⟨z.1, Or.inl z.2⟩)]
                                 · rw [aup_rn h10b, aup_rn h10, aup_n (by omega)]
                                 · intro b b0 b1 b9
                                   rw [aup_rn b0]; exact t2 b b1
                                 · intro i hi
                                   rw [aup_n (by omega), t2 0 (by decide)]
                                 · rw [aup_rn h00b, aup_rn h00, aup_s, aup_s]
                                 · rw [aup_rn h00b, aup_rn h00, aup_n (by omega), aup_n (by omega), t2 0 (by decide)]; exact hv3
                                 · rw [aup_rn h00b, aup_rn h00, aup_n (by omega), aup_n (by omega), t2 0 (by decide)]; exact hv4)
                      · first
                          | (exfalso; omega)
                          | skip
                            refine aK_i ?_
                            refine aw_zreturn dX7_move_40 rfl (by omega) ?_
                            first
                              | (exfalso; omega)
                              | (refine XR.sameE h ?_ ?_ ?_ ?_ ?_ ?_
                                 · first
                                     | rfl
                                     | omega
                                 · repeat (first | exact xs.rf | refine xs.up ?_ (by decide))
                                 · repeat (first | exact mss.rf | refine mss.up0 ?_ (by decide))
                                 · first
                                     | (simp [aup, hv2, hv3, hv4]; done)
                                     | (simp [aup, hv2, hv3, hv4]; omega)
                                 · simp [aup, hv2, hv3, hv4]
                                 · simp [aup, hv2, hv3, hv4])
                              | (obtain ⟨own', w1, w2, w3, w4, w5⟩ := (HY.up0 (j := 7) (v := 0) hR.1.2 (by decide)).swap (k := a) (g := c) (f := b) (e := e) (fun j j0 j1 => (HP.2.2.1 j j0 j1).1) (by omega) (by omega) (by omega) (by omega) (by omega) (by omega) (by omega) ehv ehw
                                 have T : TRn own own' sz sz im im ct ct := ⟨Int.le_refl _, fun _ _ => rfl, fun _ _ => rfl, fun x _ hx => w1 x hx⟩
                                 have oA := w2 _ w3
                                 have oB := w2 _ w4
                                 have h10 : ¬ (10 = (im hv).2.2 1) := aob_ne HY.1 g1.2.1 (by decide)
                                 have h10b : ¬ (10 = (im hw).2.2 1) := aob_ne HY.1 u1.2.1 (by decide)
                                 have h00 : ¬ (0 = (im hv).2.2 1) := aob_ne hR.o0 g1.2.1 (by decide)
                                 have h00b : ¬ (0 = (im hw).2.2 1) := aob_ne hR.o0 u1.2.1 (by decide)
                                 refine ⟨vI_eq (by first | rfl | omega), _, rfl, XR.yd (mvS (64 + 198 * a + 6 + 16 * b) (64 + 198 * c + 6 + 16 * e) 16 (cm 1)) (RT.tr T hR) (XO.tr T hR HX) (LR.tr T HL) HN (SE.tr T HS) HP ?_ ?_ ?_ ?_ ?_ ?_ ?_ ?_ ?_ ?_ ?_ ?_ ?_⟩
                                 · rw [aup_rn (by decide)]; exact t1
                                 · rw [mvS_lo (by omega) (by omega) (by omega) (by omega) (by omega) (by omega) (by omega)]; exact w5
                                 · intro i hi
                                   exact mvS_lo (by omega) (by omega) (by omega) (by omega) (by omega) (by omega) (by omega)
                                 · intro k k0 k1
                                   have q := mvS_hd (s := cm 1) (k := a) (g := c) (f := b) (e := e) (j := k) (i := 0) (by omega) (by omega) (by omega) (by omega)
                                   rw [Int.add_zero] at q
                                   exact q
                                 · exact HP.swap (by omega) (by omega) (by omega) (by omega) (by omega) (by omega)
                                 · exact HF.eq (by rw [aup_n (by omega), t2 0 (by decide)]) (by rw [aup_rn (by decide), t2 9 (by decide)])
                                 · intro x j hx hz
                                   rw [aup_rn (fun q => hx (by rw [q]; exact oB)), aup_rn (fun q => hx (by rw [q]; exact oA)), aup_n (fun z => hz ⟨z.1, Or.inl z.2⟩)]
                                 · rw [aup_rn h10b, aup_rn h10, aup_n (by omega)]
                                 · intro b b0 b1 b9
                                   rw [aup_rn b0]; exact t2 b b1
                                 · intro i hi
                                   rw [aup_n (by omega), t2 0 (by decide)]
                                 · rw [aup_rn h00b, aup_rn h00, aup_s, aup_s]
                                 · rw [aup_rn h00b, aup_rn h00, aup_n (by omega), aup_n (by omega), t2 0 (by decide)]; exact hv3
                                 · rw [aup_rn h00b, aup_rn h00, aup_n (by omega), aup_n (by omega), t2 0 (by decide)]; exact hv4)
          · first
              | (exfalso; omega)
              | skip
                refine aK_i ?_
                refine aw_ifne (tgt := 18) dX7_move_9 (by decide) (fun h => absurd h (by decide)) (fun _ => ?_)
                refine aw_aload_n dX7_move_12 rfl ?_
                refine aw_iconst dX7_move_13 (by decide) ?_
                refine c_X7_79 rfl dX7_move_14 m_ob (Nat.le_of_ble_eq_true rfl) (by omega) (C_m_is (fun hz => ?_) (fun hz => ?_))
                · first
                    | (exfalso; omega)
                    | skip
                      refine aK_i ?_
                      refine aw_zreturn dX7_move_17 rfl (by omega) ?_
                      first
                        | (exfalso; omega)
                        | (refine XR.sameE h ?_ ?_ ?_ ?_ ?_ ?_
                           · first
                               | rfl
                               | omega
                           · repeat (first | exact xs.rf | refine xs.up ?_ (by decide))
                           · repeat (first | exact mss.rf | refine mss.up0 ?_ (by decide))
                           · first
                               | (simp [aup, hv2, hv3, hv4]; done)
                               | (simp [aup, hv2, hv3, hv4]; omega)
                           · simp [aup, hv2, hv3, hv4]
                           · simp [aup, hv2, hv3, hv4])
                        | (obtain ⟨own', w1, w2, w3, w4, w5⟩ := (HY.up0 (j := 7) (v := 0) hR.1.2 (by decide)).swap (k := a) (g := c) (f := b) (e := e) (fun j j0 j1 => (HP.2.2.1 j j0 j1).1) (by omega) (by omega) (by omega) (by omega) (by omega) (by omega) (by omega) ehv ehw
                           have T : TRn own own' sz sz im im ct ct := ⟨Int.le_refl _, fun _ _ => rfl, fun _ _ => rfl, fun x _ hx => w1 x hx⟩
                           have oA := w2 _ w3
                           have oB := w2 _ w4
                           have h10 : ¬ (10 = (im hv).2.2 1) := aob_ne HY.1 g1.2.1 (by decide)
                           have h10b : ¬ (10 = (im hw).2.2 1) := aob_ne HY.1 u1.2.1 (by decide)
                           have h00 : ¬ (0 = (im hv).2.2 1) := aob_ne hR.o0 g1.2.1 (by decide)
                           have h00b : ¬ (0 = (im hw).2.2 1) := aob_ne hR.o0 u1.2.1 (by decide)
                           refine ⟨vI_eq (by first | rfl | omega), _, rfl, XR.yd (mvS (64 + 198 * a + 6 + 16 * b) (64 + 198 * c + 6 + 16 * e) 16 (cm 1)) (RT.tr T hR) (XO.tr T hR HX) (LR.tr T HL) HN (SE.tr T HS) HP ?_ ?_ ?_ ?_ ?_ ?_ ?_ ?_ ?_ ?_ ?_ ?_ ?_⟩
                           · rw [aup_rn (by decide)]; exact t1
                           · rw [mvS_lo (by omega) (by omega) (by omega) (by omega) (by omega) (by omega) (by omega)]; exact w5
                           · intro i hi
                             exact mvS_lo (by omega) (by omega) (by omega) (by omega) (by omega) (by omega) (by omega)
                           · intro k k0 k1
                             have q := mvS_hd (s := cm 1) (k := a) (g := c) (f := b) (e := e) (j := k) (i := 0) (by omega) (by omega) (by omega) (by omega)
                             rw [Int.add_zero] at q
                             exact q
                           · exact HP.swap (by omega) (by omega) (by omega) (by omega) (by omega) (by omega)
                           · exact HF.eq (by rw [aup_n (by omega), t2 0 (by decide)]) (by rw [aup_rn (by decide), t2 9 (by decide)])
                           · intro x j hx hz
                             rw [aup_rn (fun q => hx (by rw [q]; exact oB)), aup_rn (fun q => hx (by rw [q]; exact oA)), aup_n (fun z => hz ⟨z.1, Or.inl z.2⟩)]
                           · rw [aup_rn h10b, aup_rn h10, aup_n (by omega)]
                           · intro b b0 b1 b9
                             rw [aup_rn b0]; exact t2 b b1
                           · intro i hi
                             rw [aup_n (by omega), t2 0 (by decide)]
                           · rw [aup_rn h00b, aup_rn h00, aup_s, aup_s]
                           · rw [aup_rn h00b, aup_rn h00, aup_n (by omega), aup_n (by omega), t2 0 (by decide)]; exact hv3
                           · rw [aup_rn h00b, aup_rn h00, aup_n (by omega), aup_n (by omega), t2 0 (by decide)]; exact hv4)
                · first
                    | (exfalso; omega)
                    | skip
                      refine aK_i ?_
                      refine aw_zreturn dX7_move_17 rfl (by omega) ?_
                      first
                        | (exfalso; omega)
                        | (refine XR.sameE h ?_ ?_ ?_ ?_ ?_ ?_
                           · first
                               | rfl
                               | omega
                           · repeat (first | exact xs.rf | refine xs.up ?_ (by decide))
                           · repeat (first | exact mss.rf | refine mss.up0 ?_ (by decide))
                           · first
                               | (simp [aup, hv2, hv3, hv4]; done)
                               | (simp [aup, hv2, hv3, hv4]; omega)
                           · simp [aup, hv2, hv3, hv4]
                           · simp [aup, hv2, hv3, hv4])
                        | (obtain ⟨own', w1, w2, w3, w4, w5⟩ := (HY.up0 (j := 7) (v := 0) hR.1.2 (by decide)).swap (k := a) (g := c) (f := b) (e := e) (fun j j0 j1 => (HP.2.2.1 j j0 j1).1) (by omega) (by omega) (by omega) (by omega) (by omega) (by omega) (by omega) ehv ehw
                           have T : TRn own own' sz sz im im ct ct := ⟨Int.le_refl _, fun _ _ => rfl, fun _ _ => rfl, fun x _ hx => w1 x hx⟩
                           have oA := w2 _ w3
                           have oB := w2 _ w4
                           have h10 : ¬ (10 = (im hv).2.2 1) := aob_ne HY.1 g1.2.1 (by decide)
                           have h10b : ¬ (10 = (im hw).2.2 1) := aob_ne HY.1 u1.2.1 (by decide)
                           have h00 : ¬ (0 = (im hv).2.2 1) := aob_ne hR.o0 g1.2.1 (by decide)
                           have h00b : ¬ (0 = (im hw).2.2 1) := aob_ne hR.o0 u1.2.1 (by decide)
                           refine ⟨vI_eq (by first | rfl | omega), _, rfl, XR.yd (mvS (64 + 198 * a + 6 + 16 * b) (64 + 198 * c + 6 + 16 * e) 16 (cm 1)) (RT.tr T hR) (XO.tr T hR HX) (LR.tr T HL) HN (SE.tr T HS) HP ?_ ?_ ?_ ?_ ?_ ?_ ?_ ?_ ?_ ?_ ?_ ?_ ?_⟩
                           · rw [aup_rn (by decide)]; exact t1
                           · rw [mvS_lo (by omega) (by omega) (by omega) (by omega) (by omega) (by omega) (by omega)]; exact w5
                           · intro i hi
                             exact mvS_lo (by omega) (by omega) (by omega) (by omega) (by omega) (by omega) (by omega)
                           · intro k k0 k1
                             have q := mvS_hd (s := cm 1) (k := a) (g := c) (f := b) (e := e) (j := k) (i := 0) (by omega) (by omega) (by omega) (by omega)
                             rw [Int.add_zero] at q
                             exact q
                           · exact HP.swap (by omega) (by omega) (by omega) (by omega) (by omega) (by omega)
                           · exact HF.eq (by rw [aup_n (by omega), t2 0 (by decide)]) (by rw [aup_rn (by decide), t2 9 (by decide)])
                           · intro x j hx hz
                             rw [aup_rn (fun q => hx (by rw [q]; exact oB)), aup_rn (fun q => hx (by rw [q]; exact oA)), aup_n (fun z => hz ⟨z.1, Or.inl z.2⟩)]
                           · rw [aup_rn h10b, aup_rn h10, aup_n (by omega)]
                           · intro b b0 b1 b9
                             rw [aup_rn b0]; exact t2 b b1
                           · intro i hi
                             rw [aup_n (by omega), t2 0 (by decide)]
                           · rw [aup_rn h00b, aup_rn h00, aup_s, aup_s]
                           · rw [aup_rn h00b, aup_rn h00, aup_n (by omega), aup_n (by omega), t2 0 (by decide)]; exact hv3
                           · rw [aup_rn h00b, aup_rn h00, aup_n (by omega), aup_n (by omega), t2 0 (by decide)]; exact hv4)
    · refine aK_i ?_
      refine aw_ifeq (tgt := 35) dX0_move_17 (by decide) (fun _ => ?_) (fun h => absurd h (by decide))
      refine aw_iconst dX0_move_35 (by decide) ?_
      refine p_X0_73_0 rfl dX0_move_36 hR.o0 ?_
      refine aw_aload_n dX0_move_39 rfl ?_
      refine g_X0_73_0 rfl dX0_move_40 hR.o0 ?_
      repeat (first | rw [aup_s] | rw [aup_n (by omega)])
      refine aw_ifne (tgt := 62) dX0_move_43 (by decide) (fun _ => ?_) (fun h => absurd h (by decide))
      refine aw_aload_n dX0_move_62 rfl ?_
      refine g_X0_73_0 rfl dX0_move_63 hR.o0 ?_
      repeat (first | rw [aup_s] | rw [aup_n (by omega)])
      try rw [aup_rn (fun z => aob_ne hR.o0 u1.2.1 (by decide) z), aup_rn (fun z => aob_ne hR.o0 g1.2.1 (by decide) z), aup_s]
      refine aw_ifne (tgt := 73) dX0_move_66 (by decide) (fun _ => ?_) (fun h => absurd h (by decide))
      refine aw_iconst dX0_move_73 (by decide) ?_
      refine aw_zreturn dX0_move_74 rfl (Or.inl rfl) ?_
      refine ⟨_, rfl, ?_⟩
      refine AMet.go (L := [some (vR 0), some (vI a), some (vI b), some (vI c), some (vI e)]) mok_X7_move (Nat.le_of_ble_eq_true rfl) rfl ?_
      refine aw_aload_n dX7_move_0 rfl ?_
      refine aw_iload_n dX7_move_1 rfl ?_
      refine aw_iload_n dX7_move_2 rfl ?_
      refine aw_iload_n dX7_move_3 rfl ?_
      refine aw_iload dX7_move_4 rfl ?_
      refine c_X7_323 rfl dX7_move_6 m_ob (Nat.le_of_ble_eq_true rfl) (by omega) (C_m_mayMove (by omega) (fun mv => ?_) (fun mv => ?_))
      · first
          | (exfalso; omega)
          | skip
            refine aK_i ?_
            refine aw_ifne (tgt := 18) dX7_move_9 (by decide) (fun _ => ?_) (fun h => absurd h (by decide))
            refine aw_aload_n dX7_move_18 rfl ?_
            refine aw_aload_n dX7_move_19 rfl ?_
            refine aw_iload_n dX7_move_20 rfl ?_
            refine aw_iload_n dX7_move_21 rfl ?_
            refine c_X7_301 rfl dX7_move_22 m_ob (Nat.le_of_ble_eq_true rfl) (by omega) (C_m_frameRow (by omega) (by omega) ?_)
            refine aK_i ?_
            refine aw_aload_n dX7_move_25 rfl ?_
            refine aw_iload_n dX7_move_26 rfl ?_
            refine aw_iload dX7_move_27 rfl ?_
            refine c_X7_301 rfl dX7_move_29 m_ob (Nat.le_of_ble_eq_true rfl) (by omega) (C_m_frameRow (by omega) (by omega) ?_)
            refine aK_i ?_
            refine c_X7_327 rfl dX7_move_32 m_ob (Nat.le_of_ble_eq_true rfl) (by omega) (C_m_moves (by omega) (by omega) ?_ (fun ct2 t1 t2 => ?_))
            · rcases (by omega : a < c ∨ a = c ∨ c < a) with z | z | z <;> omega
            · first
                | (exfalso; omega)
                | skip
                  refine aK_v ?_
                  refine aw_aload_n dX7_move_35 rfl ?_
                  refine aw_iconst dX7_move_36 (by decide) ?_
                  refine c_X7_79 rfl dX7_move_37 m_ob (Nat.le_of_ble_eq_true rfl) (by omega) (C_m_is (fun hz => ?_) (fun hz => ?_))
                  · first
                      | (exfalso; omega)
                      | skip
                        refine aK_i ?_
                        refine aw_zreturn dX7_move_40 rfl (by omega) ?_
                        first
                          | (exfalso; omega)
                          | (refine XR.sameE h ?_ ?_ ?_ ?_ ?_ ?_
                             · first
                                 | rfl
                                 | omega
                             · repeat (first | exact xs.rf | refine xs.up ?_ (by decide))
                             · repeat (first | exact mss.rf | refine mss.up0 ?_ (by decide))
                             · first
                                 | (simp [aup, hv2, hv3, hv4]; done)
                                 | (simp [aup, hv2, hv3, hv4]; omega)
                             · simp [aup, hv2, hv3, hv4]
                             · simp [aup, hv2, hv3, hv4])
                          | (obtain ⟨own', w1, w2, w3, w4, w5⟩ := (HY.up0 (j := 7) (v := 0) hR.1.2 (by decide)).swap (k := a) (g := c) (f := b) (e := e) (fun j j0 j1 => (HP.2.2.1 j j0 j1).1) (by omega) (by omega) (by omega) (by omega) (by omega) (by omega) (by omega) ehv ehw
                             have T : TRn own own' sz sz im im ct ct := ⟨Int.le_refl _, fun _ _ => rfl, fun _ _ => rfl, fun x _ hx => w1 x hx⟩
                             have oA := w2 _ w3
                             have oB := w2 _ w4
                             have h10 : ¬ (10 = (im hv).2.2 1) := aob_ne HY.1 g1.2.1 (by decide)
                             have h10b : ¬ (10 = (im hw).2.2 1) := aob_ne HY.1 u1.2.1 (by decide)
                             have h00 : ¬ (0 = (im hv).2.2 1) := aob_ne hR.o0 g1.2.1 (by decide)
                             have h00b : ¬ (0 = (im hw).2.2 1) := aob_ne hR.o0 u1.2.1 (by decide)
                             refine ⟨vI_eq (by first | rfl | omega), _, rfl, XR.yd (mvS (64 + 198 * a + 6 + 16 * b) (64 + 198 * c + 6 + 16 * e) 16 (cm 1)) (RT.tr T hR) (XO.tr T hR HX) (LR.tr T HL) HN (SE.tr T HS) HP ?_ ?_ ?_ ?_ ?_ ?_ ?_ ?_ ?_ ?_ ?_ ?_ ?_⟩
                             · rw [aup_rn (by decide)]; exact t1
                             · rw [mvS_lo (by omega) (by omega) (by omega) (by omega) (by omega) (by omega) (by omega)]; exact w5
                             · intro i hi
                               exact mvS_lo (by omega) (by omega) (by omega) (by omega) (by omega) (by omega) (by omega)
                             · intro k k0 k1
                               have q := mvS_hd (s := cm 1) (k := a) (g := c) (f := b) (e := e) (j := k) (i := 0) (by omega) (by omega) (by omega) (by omega)
                               rw [Int.add_zero] at q
                               exact q
                             · exact HP.swap (by omega) (by omega) (by omega) (by omega) (by omega) (by omega)
                             · exact HF.eq (by rw [aup_n (by omega), t2 0 (by decide)]) (by rw [aup_rn (by decide), t2 9 (by decide)])
                             · intro x j hx hz
                               rw [aup_rn (fun q => hx (by rw [q]; exact oB)), aup_rn (fun q => hx (by rw [q]; exact oA)), aup_n (fun z => hz ⟨z.1, Or.inl z.2⟩)]
                             · rw [aup_rn h10b, aup_rn h10, aup_n (by omega)]
                             · intro b b0 b1 b9
                               rw [aup_rn b0]; exact t2 b b1
                             · intro i hi
                               rw [aup_n (by omega), t2 0 (by decide)]
                             · rw [aup_rn h00b, aup_rn h00, aup_s, aup_s]
                             · rw [aup_rn h00b, aup_rn h00, aup_n (by omega), aup_n (by omega), t2 0 (by decide)]; exact hv3
                             · rw [aup_rn h00b, aup_rn h00, aup_n (by omega), aup_n (by omega), t2 0 (by decide)]; exact hv4)
                  · first
                      | (exfalso; omega)
                      | skip
                        refine aK_i ?_
                        refine aw_zreturn dX7_move_40 rfl (by omega) ?_
                        first
                          | (exfalso; omega)
                          | (refine XR.sameE h ?_ ?_ ?_ ?_ ?_ ?_
                             · first
                                 | rfl
                                 | omega
                             · repeat (first | exact xs.rf | refine xs.up ?_ (by decide))
                             · repeat (first | exact mss.rf | refine mss.up0 ?_ (by decide))
                             · first
                                 | (simp [aup, hv2, hv3, hv4]; done)
                                 | (simp [aup, hv2, hv3, hv4]; omega)
                             · simp [aup, hv2, hv3, hv4]
                             · simp [aup, hv2, hv3, hv4])
                          | (obtain ⟨own', w1, w2, w3, w4, w5⟩ := (HY.up0 (j := 7) (v := 0) hR.1.2 (by decide)).swap (k := a) (g := c) (f := b) (e := e) (fun j j0 j1 => (HP.2.2.1 j j0 j1).1) (by omega) (by omega) (by omega) (by omega) (by omega) (by omega) (by omega) ehv ehw
                             have T : TRn own own' sz sz im im ct ct := ⟨Int.le_refl _, fun _ _ => rfl, fun _ _ => rfl, fun x _ hx => w1 x hx⟩
                             have oA := w2 _ w3
                             have oB := w2 _ w4
                             have h10 : ¬ (10 = (im hv).2.2 1) := aob_ne HY.1 g1.2.1 (by decide)
                             have h10b : ¬ (10 = (im hw).2.2 1) := aob_ne HY.1 u1.2.1 (by decide)
                             have h00 : ¬ (0 = (im hv).2.2 1) := aob_ne hR.o0 g1.2.1 (by decide)
                             have h00b : ¬ (0 = (im hw).2.2 1) := aob_ne hR.o0 u1.2.1 (by decide)
                             refine ⟨vI_eq (by first | rfl | omega), _, rfl, XR.yd (mvS (64 + 198 * a + 6 + 16 * b) (64 + 198 * c + 6 + 16 * e) 16 (cm 1)) (RT.tr T hR) (XO.tr T hR HX) (LR.tr T HL) HN (SE.tr T HS) HP ?_ ?_ ?_ ?_ ?_ ?_ ?_ ?_ ?_ ?_ ?_ ?_ ?_⟩
                             · rw [aup_rn (by decide)]; exact t1
                             · rw [mvS_lo (by omega) (by omega) (by omega) (by omega) (by omega) (by omega) (by omega)]; exact w5
                             · intro i hi
                               exact mvS_lo (by omega) (by omega) (by omega) (by omega) (by omega) (by omega) (by omega)
                             · intro k k0 k1
                               have q := mvS_hd (s := cm 1) (k := a) (g := c) (f := b) (e := e) (j := k) (i := 0) (by omega) (by omega) (by omega) (by omega)
                               rw [Int.add_zero] at q
                               exact q
                             · exact HP.swap (by omega) (by omega) (by omega) (by omega) (by omega) (by omega)
                             · exact HF.eq (by rw [aup_n (by omega), t2 0 (by decide)]) (by rw [aup_rn (by decide), t2 9 (by decide)])
                             · intro x j hx hz
                               rw [aup_rn (fun q => hx (by rw [q]; exact oB)), aup_rn (fun q => hx (by rw [q]; exact oA)), aup_n (fun z => hz ⟨z.1, Or.inl z.2⟩)]
                             · rw [aup_rn h10b, aup_rn h10, aup_n (by omega)]
                             · intro b b0 b1 b9
                               rw [aup_rn b0]; exact t2 b b1
                             · intro i hi
                               rw [aup_n (by omega), t2 0 (by decide)]
                             · rw [aup_rn h00b, aup_rn h00, aup_s, aup_s]
                             · rw [aup_rn h00b, aup_rn h00, aup_n (by omega), aup_n (by omega), t2 0 (by decide)]; exact hv3
                             · rw [aup_rn h00b, aup_rn h00, aup_n (by omega), aup_n (by omega), t2 0 (by decide)]; exact hv4)
      · first
          | (exfalso; omega)
          | skip
            refine aK_i ?_
            refine aw_ifne (tgt := 18) dX7_move_9 (by decide) (fun h => absurd h (by decide)) (fun _ => ?_)
            refine aw_aload_n dX7_move_12 rfl ?_
            refine aw_iconst dX7_move_13 (by decide) ?_
            refine c_X7_79 rfl dX7_move_14 m_ob (Nat.le_of_ble_eq_true rfl) (by omega) (C_m_is (fun hz => ?_) (fun hz => ?_))
            · first
                | (exfalso; omega)
                | skip
                  refine aK_i ?_
                  refine aw_zreturn dX7_move_17 rfl (by omega) ?_
                  first
                    | (exfalso; omega)
                    | (refine XR.sameE h ?_ ?_ ?_ ?_ ?_ ?_
                       · first
                           | rfl
                           | omega
                       · repeat (first | exact xs.rf | refine xs.up ?_ (by decide))
                       · repeat (first | exact mss.rf | refine mss.up0 ?_ (by decide))
                       · first
                           | (simp [aup, hv2, hv3, hv4]; done)
                           | (simp [aup, hv2, hv3, hv4]; omega)
                       · simp [aup, hv2, hv3, hv4]
                       · simp [aup, hv2, hv3, hv4])
                    | (obtain ⟨own', w1, w2, w3, w4, w5⟩ := (HY.up0 (j := 7) (v := 0) hR.1.2 (by decide)).swap (k := a) (g := c) (f := b) (e := e) (fun j j0 j1 => (HP.2.2.1 j j0 j1).1) (by omega) (by omega) (by omega) (by omega) (by omega) (by omega) (by omega) ehv ehw
                       have T : TRn own own' sz sz im im ct ct := ⟨Int.le_refl _, fun _ _ => rfl, fun _ _ => rfl, fun x _ hx => w1 x hx⟩
                       have oA := w2 _ w3
                       have oB := w2 _ w4
                       have h10 : ¬ (10 = (im hv).2.2 1) := aob_ne HY.1 g1.2.1 (by decide)
                       have h10b : ¬ (10 = (im hw).2.2 1) := aob_ne HY.1 u1.2.1 (by decide)
                       have h00 : ¬ (0 = (im hv).2.2 1) := aob_ne hR.o0 g1.2.1 (by decide)
                       have h00b : ¬ (0 = (im hw).2.2 1) := aob_ne hR.o0 u1.2.1 (by decide)
                       refine ⟨vI_eq (by first | rfl | omega), _, rfl, XR.yd (mvS (64 + 198 * a + 6 + 16 * b) (64 + 198 * c + 6 + 16 * e) 16 (cm 1)) (RT.tr T hR) (XO.tr T hR HX) (LR.tr T HL) HN (SE.tr T HS) HP ?_ ?_ ?_ ?_ ?_ ?_ ?_ ?_ ?_ ?_ ?_ ?_ ?_⟩
                       · rw [aup_rn (by decide)]; exact t1
                       · rw [mvS_lo (by omega) (by omega) (by omega) (by omega) (by omega) (by omega) (by omega)]; exact w5
                       · intro i hi
                         exact mvS_lo (by omega) (by omega) (by omega) (by omega) (by omega) (by omega) (by omega)
                       · intro k k0 k1
                         have q := mvS_hd (s := cm 1) (k := a) (g := c) (f := b) (e := e) (j := k) (i := 0) (by omega) (by omega) (by omega) (by omega)
                         rw [Int.add_zero] at q
                         exact q
                       · exact HP.swap (by omega) (by omega) (by omega) (by omega) (by omega) (by omega)
                       · exact HF.eq (by rw [aup_n (by omega), t2 0 (by decide)]) (by rw [aup_rn (by decide), t2 9 (by decide)])
                       · intro x j hx hz
                         rw [aup_rn (fun q => hx (by rw [q]; exact oB)), aup_rn (fun q => hx (by rw [q]; exact oA)), aup_n (fun z => hz ⟨z.1, Or.inl z.2⟩)]
                       · rw [aup_rn h10b, aup_rn h10, aup_n (by omega)]
                       · intro b b0 b1 b9
                         rw [aup_rn b0]; exact t2 b b1
                       · intro i hi
                         rw [aup_n (by omega), t2 0 (by decide)]
                       · rw [aup_rn h00b, aup_rn h00, aup_s, aup_s]
                       · rw [aup_rn h00b, aup_rn h00, aup_n (by omega), aup_n (by omega), t2 0 (by decide)]; exact hv3
                       · rw [aup_rn h00b, aup_rn h00, aup_n (by omega), aup_n (by omega), t2 0 (by decide)]; exact hv4)
            · first
                | (exfalso; omega)
                | skip
                  refine aK_i ?_
                  refine aw_zreturn dX7_move_17 rfl (by omega) ?_
                  first
                    | (exfalso; omega)
                    | (refine XR.sameE h ?_ ?_ ?_ ?_ ?_ ?_
                       · first
                           | rfl
                           | omega
                       · repeat (first | exact xs.rf | refine xs.up ?_ (by decide))
                       · repeat (first | exact mss.rf | refine mss.up0 ?_ (by decide))
                       · first
                           | (simp [aup, hv2, hv3, hv4]; done)
                           | (simp [aup, hv2, hv3, hv4]; omega)
                       · simp [aup, hv2, hv3, hv4]
                       · simp [aup, hv2, hv3, hv4])
                    | (obtain ⟨own', w1, w2, w3, w4, w5⟩ := (HY.up0 (j := 7) (v := 0) hR.1.2 (by decide)).swap (k := a) (g := c) (f := b) (e := e) (fun j j0 j1 => (HP.2.2.1 j j0 j1).1) (by omega) (by omega) (by omega) (by omega) (by omega) (by omega) (by omega) ehv ehw
                       have T : TRn own own' sz sz im im ct ct := ⟨Int.le_refl _, fun _ _ => rfl, fun _ _ => rfl, fun x _ hx => w1 x hx⟩
                       have oA := w2 _ w3
                       have oB := w2 _ w4
                       have h10 : ¬ (10 = (im hv).2.2 1) := aob_ne HY.1 g1.2.1 (by decide)
                       have h10b : ¬ (10 = (im hw).2.2 1) := aob_ne HY.1 u1.2.1 (by decide)
                       have h00 : ¬ (0 = (im hv).2.2 1) := aob_ne hR.o0 g1.2.1 (by decide)
                       have h00b : ¬ (0 = (im hw).2.2 1) := aob_ne hR.o0 u1.2.1 (by decide)
                       refine ⟨vI_eq (by first | rfl | omega), _, rfl, XR.yd (mvS (64 + 198 * a + 6 + 16 * b) (64 + 198 * c + 6 + 16 * e) 16 (cm 1)) (RT.tr T hR) (XO.tr T hR HX) (LR.tr T HL) HN (SE.tr T HS) HP ?_ ?_ ?_ ?_ ?_ ?_ ?_ ?_ ?_ ?_ ?_ ?_ ?_⟩
                       · rw [aup_rn (by decide)]; exact t1
                       · rw [mvS_lo (by omega) (by omega) (by omega) (by omega) (by omega) (by omega) (by omega)]; exact w5
                       · intro i hi
                         exact mvS_lo (by omega) (by omega) (by omega) (by omega) (by omega) (by omega) (by omega)
                       · intro k k0 k1
                         have q := mvS_hd (s := cm 1) (k := a) (g := c) (f := b) (e := e) (j := k) (i := 0) (by omega) (by omega) (by omega) (by omega)
                         rw [Int.add_zero] at q
                         exact q
                       · exact HP.swap (by omega) (by omega) (by omega) (by omega) (by omega) (by omega)
                       · exact HF.eq (by rw [aup_n (by omega), t2 0 (by decide)]) (by rw [aup_rn (by decide), t2 9 (by decide)])
                       · intro x j hx hz
                         rw [aup_rn (fun q => hx (by rw [q]; exact oB)), aup_rn (fun q => hx (by rw [q]; exact oA)), aup_n (fun z => hz ⟨z.1, Or.inl z.2⟩)]
                       · rw [aup_rn h10b, aup_rn h10, aup_n (by omega)]
                       · intro b b0 b1 b9
                         rw [aup_rn b0]; exact t2 b b1
                       · intro i hi
                         rw [aup_n (by omega), t2 0 (by decide)]
                       · rw [aup_rn h00b, aup_rn h00, aup_s, aup_s]
                       · rw [aup_rn h00b, aup_rn h00, aup_n (by omega), aup_n (by omega), t2 0 (by decide)]; exact hv3
                       · rw [aup_rn h00b, aup_rn h00, aup_n (by omega), aup_n (by omega), t2 0 (by decide)]; exact hv4)
  · refine aK_i ?_
    refine aw_ifeq (tgt := 35) dX0_move_7 (by decide) (fun _ => ?_) (fun h => absurd h (by decide))
    refine aw_iconst dX0_move_35 (by decide) ?_
    refine p_X0_73_0 rfl dX0_move_36 hR.o0 ?_
    refine aw_aload_n dX0_move_39 rfl ?_
    refine g_X0_73_0 rfl dX0_move_40 hR.o0 ?_
    repeat (first | rw [aup_s] | rw [aup_n (by omega)])
    refine aw_ifne (tgt := 62) dX0_move_43 (by decide) (fun _ => ?_) (fun h => absurd h (by decide))
    refine aw_aload_n dX0_move_62 rfl ?_
    refine g_X0_73_0 rfl dX0_move_63 hR.o0 ?_
    repeat (first | rw [aup_s] | rw [aup_n (by omega)])
    try rw [aup_rn (fun z => aob_ne hR.o0 u1.2.1 (by decide) z), aup_rn (fun z => aob_ne hR.o0 g1.2.1 (by decide) z), aup_s]
    refine aw_ifne (tgt := 73) dX0_move_66 (by decide) (fun _ => ?_) (fun h => absurd h (by decide))
    refine aw_iconst dX0_move_73 (by decide) ?_
    refine aw_zreturn dX0_move_74 rfl (Or.inl rfl) ?_
    refine ⟨_, rfl, ?_⟩
    refine AMet.go (L := [some (vR 0), some (vI a), some (vI b), some (vI c), some (vI e)]) mok_X7_move (Nat.le_of_ble_eq_true rfl) rfl ?_
    refine aw_aload_n dX7_move_0 rfl ?_
    refine aw_iload_n dX7_move_1 rfl ?_
    refine aw_iload_n dX7_move_2 rfl ?_
    refine aw_iload_n dX7_move_3 rfl ?_
    refine aw_iload dX7_move_4 rfl ?_
    refine c_X7_323 rfl dX7_move_6 m_ob (Nat.le_of_ble_eq_true rfl) (by omega) (C_m_mayMove (by omega) (fun mv => ?_) (fun mv => ?_))
    · first
        | (exfalso; omega)
        | skip
          refine aK_i ?_
          refine aw_ifne (tgt := 18) dX7_move_9 (by decide) (fun _ => ?_) (fun h => absurd h (by decide))
          refine aw_aload_n dX7_move_18 rfl ?_
          refine aw_aload_n dX7_move_19 rfl ?_
          refine aw_iload_n dX7_move_20 rfl ?_
          refine aw_iload_n dX7_move_21 rfl ?_
          refine c_X7_301 rfl dX7_move_22 m_ob (Nat.le_of_ble_eq_true rfl) (by omega) (C_m_frameRow (by omega) (by omega) ?_)
          refine aK_i ?_
          refine aw_aload_n dX7_move_25 rfl ?_
          refine aw_iload_n dX7_move_26 rfl ?_
          refine aw_iload dX7_move_27 rfl ?_
          refine c_X7_301 rfl dX7_move_29 m_ob (Nat.le_of_ble_eq_true rfl) (by omega) (C_m_frameRow (by omega) (by omega) ?_)
          refine aK_i ?_
          refine c_X7_327 rfl dX7_move_32 m_ob (Nat.le_of_ble_eq_true rfl) (by omega) (C_m_moves (by omega) (by omega) ?_ (fun ct2 t1 t2 => ?_))
          · rcases (by omega : a < c ∨ a = c ∨ c < a) with z | z | z <;> omega
          · first
              | (exfalso; omega)
              | skip
                refine aK_v ?_
                refine aw_aload_n dX7_move_35 rfl ?_
                refine aw_iconst dX7_move_36 (by decide) ?_
                refine c_X7_79 rfl dX7_move_37 m_ob (Nat.le_of_ble_eq_true rfl) (by omega) (C_m_is (fun hz => ?_) (fun hz => ?_))
                · first
                    | (exfalso; omega)
                    | skip
                      refine aK_i ?_
                      refine aw_zreturn dX7_move_40 rfl (by omega) ?_
                      first
                        | (exfalso; omega)
                        | (refine XR.sameE h ?_ ?_ ?_ ?_ ?_ ?_
                           · first
                               | rfl
                               | omega
                           · repeat (first | exact xs.rf | refine xs.up ?_ (by decide))
                           · repeat (first | exact mss.rf | refine mss.up0 ?_ (by decide))
                           · first
                               | (simp [aup, hv2, hv3, hv4]; done)
                               | (simp [aup, hv2, hv3, hv4]; omega)
                           · simp [aup, hv2, hv3, hv4]
                           · simp [aup, hv2, hv3, hv4])
                        | (obtain ⟨own', w1, w2, w3, w4, w5⟩ := (HY.up0 (j := 7) (v := 0) hR.1.2 (by decide)).swap (k := a) (g := c) (f := b) (e := e) (fun j j0 j1 => (HP.2.2.1 j j0 j1).1) (by omega) (by omega) (by omega) (by omega) (by omega) (by omega) (by omega) ehv ehw
                           have T : TRn own own' sz sz im im ct ct := ⟨Int.le_refl _, fun _ _ => rfl, fun _ _ => rfl, fun x _ hx => w1 x hx⟩
                           have oA := w2 _ w3
                           have oB := w2 _ w4
                           have h10 : ¬ (10 = (im hv).2.2 1) := aob_ne HY.1 g1.2.1 (by decide)
                           have h10b : ¬ (10 = (im hw).2.2 1) := aob_ne HY.1 u1.2.1 (by decide)
                           have h00 : ¬ (0 = (im hv).2.2 1) := aob_ne hR.o0 g1.2.1 (by decide)
                           have h00b : ¬ (0 = (im hw).2.2 1) := aob_ne hR.o0 u1.2.1 (by decide)
                           refine ⟨vI_eq (by first | rfl | omega), _, rfl, XR.yd (mvS (64 + 198 * a + 6 + 16 * b) (64 + 198 * c + 6 + 16 * e) 16 (cm 1)) (RT.tr T hR) (XO.tr T hR HX) (LR.tr T HL) HN (SE.tr T HS) HP ?_ ?_ ?_ ?_ ?_ ?_ ?_ ?_ ?_ ?_ ?_ ?_ ?_⟩
                           · rw [aup_rn (by decide)]; exact t1
                           · rw [mvS_lo (by omega) (by omega) (by omega) (by omega) (by omega) (by omega) (by omega)]; exact w5
                           · intro i hi
                             exact mvS_lo (by omega) (by omega) (by omega) (by omega) (by omega) (by omega) (by omega)
                           · intro k k0 k1
                             have q := mvS_hd (s := cm 1) (k := a) (g := c) (f := b) (e := e) (j := k) (i := 0) (by omega) (by omega) (by omega) (by omega)
                             rw [Int.add_zero] at q
                             exact q
                           · exact HP.swap (by omega) (by omega) (by omega) (by omega) (by omega) (by omega)
                           · exact HF.eq (by rw [aup_n (by omega), t2 0 (by decide)]) (by rw [aup_rn (by decide), t2 9 (by decide)])
                           · intro x j hx hz
                             rw [aup_rn (fun q => hx (by rw [q]; exact oB)), aup_rn (fun q => hx (by rw [q]; exact oA)), aup_n (fun z => hz ⟨z.1, Or.inl z.2⟩)]
                           · rw [aup_rn h10b, aup_rn h10, aup_n (by omega)]
                           · intro b b0 b1 b9
                             rw [aup_rn b0]; exact t2 b b1
                           · intro i hi
                             rw [aup_n (by omega), t2 0 (by decide)]
                           · rw [aup_rn h00b, aup_rn h00, aup_s, aup_s]
                           · rw [aup_rn h00b, aup_rn h00, aup_n (by omega), aup_n (by omega), t2 0 (by decide)]; exact hv3
                           · rw [aup_rn h00b, aup_rn h00, aup_n (by omega), aup_n (by omega), t2 0 (by decide)]; exact hv4)
                · first
                    | (exfalso; omega)
                    | skip
                      refine aK_i ?_
                      refine aw_zreturn dX7_move_40 rfl (by omega) ?_
                      first
                        | (exfalso; omega)
                        | (refine XR.sameE h ?_ ?_ ?_ ?_ ?_ ?_
                           · first
                               | rfl
                               | omega
                           · repeat (first | exact xs.rf | refine xs.up ?_ (by decide))
                           · repeat (first | exact mss.rf | refine mss.up0 ?_ (by decide))
                           · first
                               | (simp [aup, hv2, hv3, hv4]; done)
                               | (simp [aup, hv2, hv3, hv4]; omega)
                           · simp [aup, hv2, hv3, hv4]
                           · simp [aup, hv2, hv3, hv4])
                        | (obtain ⟨own', w1, w2, w3, w4, w5⟩ := (HY.up0 (j := 7) (v := 0) hR.1.2 (by decide)).swap (k := a) (g := c) (f := b) (e := e) (fun j j0 j1 => (HP.2.2.1 j j0 j1).1) (by omega) (by omega) (by omega) (by omega) (by omega) (by omega) (by omega) ehv ehw
                           have T : TRn own own' sz sz im im ct ct := ⟨Int.le_refl _, fun _ _ => rfl, fun _ _ => rfl, fun x _ hx => w1 x hx⟩
                           have oA := w2 _ w3
                           have oB := w2 _ w4
                           have h10 : ¬ (10 = (im hv).2.2 1) := aob_ne HY.1 g1.2.1 (by decide)
                           have h10b : ¬ (10 = (im hw).2.2 1) := aob_ne HY.1 u1.2.1 (by decide)
                           have h00 : ¬ (0 = (im hv).2.2 1) := aob_ne hR.o0 g1.2.1 (by decide)
                           have h00b : ¬ (0 = (im hw).2.2 1) := aob_ne hR.o0 u1.2.1 (by decide)
                           refine ⟨vI_eq (by first | rfl | omega), _, rfl, XR.yd (mvS (64 + 198 * a + 6 + 16 * b) (64 + 198 * c + 6 + 16 * e) 16 (cm 1)) (RT.tr T hR) (XO.tr T hR HX) (LR.tr T HL) HN (SE.tr T HS) HP ?_ ?_ ?_ ?_ ?_ ?_ ?_ ?_ ?_ ?_ ?_ ?_ ?_⟩
                           · rw [aup_rn (by decide)]; exact t1
                           · rw [mvS_lo (by omega) (by omega) (by omega) (by omega) (by omega) (by omega) (by omega)]; exact w5
                           · intro i hi
                             exact mvS_lo (by omega) (by omega) (by omega) (by omega) (by omega) (by omega) (by omega)
                           · intro k k0 k1
                             have q := mvS_hd (s := cm 1) (k := a) (g := c) (f := b) (e := e) (j := k) (i := 0) (by omega) (by omega) (by omega) (by omega)
                             rw [Int.add_zero] at q
                             exact q
                           · exact HP.swap (by omega) (by omega) (by omega) (by omega) (by omega) (by omega)
                           · exact HF.eq (by rw [aup_n (by omega), t2 0 (by decide)]) (by rw [aup_rn (by decide), t2 9 (by decide)])
                           · intro x j hx hz
                             rw [aup_rn (fun q => hx (by rw [q]; exact oB)), aup_rn (fun q => hx (by rw [q]; exact oA)), aup_n (fun z => hz ⟨z.1, Or.inl z.2⟩)]
                           · rw [aup_rn h10b, aup_rn h10, aup_n (by omega)]
                           · intro b b0 b1 b9
                             rw [aup_rn b0]; exact t2 b b1
                           · intro i hi
                             rw [aup_n (by omega), t2 0 (by decide)]
                           · rw [aup_rn h00b, aup_rn h00, aup_s, aup_s]
                           · rw [aup_rn h00b, aup_rn h00, aup_n (by omega), aup_n (by omega), t2 0 (by decide)]; exact hv3
                           · rw [aup_rn h00b, aup_rn h00, aup_n (by omega), aup_n (by omega), t2 0 (by decide)]; exact hv4)
    · first
        | (exfalso; omega)
        | skip
          refine aK_i ?_
          refine aw_ifne (tgt := 18) dX7_move_9 (by decide) (fun h => absurd h (by decide)) (fun _ => ?_)
          refine aw_aload_n dX7_move_12 rfl ?_
          refine aw_iconst dX7_move_13 (by decide) ?_
          refine c_X7_79 rfl dX7_move_14 m_ob (Nat.le_of_ble_eq_true rfl) (by omega) (C_m_is (fun hz => ?_) (fun hz => ?_))
          · first
              | (exfalso; omega)
              | skip
                refine aK_i ?_
                refine aw_zreturn dX7_move_17 rfl (by omega) ?_
                first
                  | (exfalso; omega)
                  | (refine XR.sameE h ?_ ?_ ?_ ?_ ?_ ?_
                     · first
                         | rfl
                         | omega
                     · repeat (first | exact xs.rf | refine xs.up ?_ (by decide))
                     · repeat (first | exact mss.rf | refine mss.up0 ?_ (by decide))
                     · first
                         | (simp [aup, hv2, hv3, hv4]; done)
                         | (simp [aup, hv2, hv3, hv4]; omega)
                     · simp [aup, hv2, hv3, hv4]
                     · simp [aup, hv2, hv3, hv4])
                  | (obtain ⟨own', w1, w2, w3, w4, w5⟩ := (HY.up0 (j := 7) (v := 0) hR.1.2 (by decide)).swap (k := a) (g := c) (f := b) (e := e) (fun j j0 j1 => (HP.2.2.1 j j0 j1).1) (by omega) (by omega) (by omega) (by omega) (by omega) (by omega) (by omega) ehv ehw
                     have T : TRn own own' sz sz im im ct ct := ⟨Int.le_refl _, fun _ _ => rfl, fun _ _ => rfl, fun x _ hx => w1 x hx⟩
                     have oA := w2 _ w3
                     have oB := w2 _ w4
                     have h10 : ¬ (10 = (im hv).2.2 1) := aob_ne HY.1 g1.2.1 (by decide)
                     have h10b : ¬ (10 = (im hw).2.2 1) := aob_ne HY.1 u1.2.1 (by decide)
                     have h00 : ¬ (0 = (im hv).2.2 1) := aob_ne hR.o0 g1.2.1 (by decide)
                     have h00b : ¬ (0 = (im hw).2.2 1) := aob_ne hR.o0 u1.2.1 (by decide)
                     refine ⟨vI_eq (by first | rfl | omega), _, rfl, XR.yd (mvS (64 + 198 * a + 6 + 16 * b) (64 + 198 * c + 6 + 16 * e) 16 (cm 1)) (RT.tr T hR) (XO.tr T hR HX) (LR.tr T HL) HN (SE.tr T HS) HP ?_ ?_ ?_ ?_ ?_ ?_ ?_ ?_ ?_ ?_ ?_ ?_ ?_⟩
                     · rw [aup_rn (by decide)]; exact t1
                     · rw [mvS_lo (by omega) (by omega) (by omega) (by omega) (by omega) (by omega) (by omega)]; exact w5
                     · intro i hi
                       exact mvS_lo (by omega) (by omega) (by omega) (by omega) (by omega) (by omega) (by omega)
                     · intro k k0 k1
                       have q := mvS_hd (s := cm 1) (k := a) (g := c) (f := b) (e := e) (j := k) (i := 0) (by omega) (by omega) (by omega) (by omega)
                       rw [Int.add_zero] at q
                       exact q
                     · exact HP.swap (by omega) (by omega) (by omega) (by omega) (by omega) (by omega)
                     · exact HF.eq (by rw [aup_n (by omega), t2 0 (by decide)]) (by rw [aup_rn (by decide), t2 9 (by decide)])
                     · intro x j hx hz
                       rw [aup_rn (fun q => hx (by rw [q]; exact oB)), aup_rn (fun q => hx (by rw [q]; exact oA)), aup_n (fun z => hz ⟨z.1, Or.inl z.2⟩)]
                     · rw [aup_rn h10b, aup_rn h10, aup_n (by omega)]
                     · intro b b0 b1 b9
                       rw [aup_rn b0]; exact t2 b b1
                     · intro i hi
                       rw [aup_n (by omega), t2 0 (by decide)]
                     · rw [aup_rn h00b, aup_rn h00, aup_s, aup_s]
                     · rw [aup_rn h00b, aup_rn h00, aup_n (by omega), aup_n (by omega), t2 0 (by decide)]; exact hv3
                     · rw [aup_rn h00b, aup_rn h00, aup_n (by omega), aup_n (by omega), t2 0 (by decide)]; exact hv4)
          · first
              | (exfalso; omega)
              | skip
                refine aK_i ?_
                refine aw_zreturn dX7_move_17 rfl (by omega) ?_
                first
                  | (exfalso; omega)
                  | (refine XR.sameE h ?_ ?_ ?_ ?_ ?_ ?_
                     · first
                         | rfl
                         | omega
                     · repeat (first | exact xs.rf | refine xs.up ?_ (by decide))
                     · repeat (first | exact mss.rf | refine mss.up0 ?_ (by decide))
                     · first
                         | (simp [aup, hv2, hv3, hv4]; done)
                         | (simp [aup, hv2, hv3, hv4]; omega)
                     · simp [aup, hv2, hv3, hv4]
                     · simp [aup, hv2, hv3, hv4])
                  | (obtain ⟨own', w1, w2, w3, w4, w5⟩ := (HY.up0 (j := 7) (v := 0) hR.1.2 (by decide)).swap (k := a) (g := c) (f := b) (e := e) (fun j j0 j1 => (HP.2.2.1 j j0 j1).1) (by omega) (by omega) (by omega) (by omega) (by omega) (by omega) (by omega) ehv ehw
                     have T : TRn own own' sz sz im im ct ct := ⟨Int.le_refl _, fun _ _ => rfl, fun _ _ => rfl, fun x _ hx => w1 x hx⟩
                     have oA := w2 _ w3
                     have oB := w2 _ w4
                     have h10 : ¬ (10 = (im hv).2.2 1) := aob_ne HY.1 g1.2.1 (by decide)
                     have h10b : ¬ (10 = (im hw).2.2 1) := aob_ne HY.1 u1.2.1 (by decide)
                     have h00 : ¬ (0 = (im hv).2.2 1) := aob_ne hR.o0 g1.2.1 (by decide)
                     have h00b : ¬ (0 = (im hw).2.2 1) := aob_ne hR.o0 u1.2.1 (by decide)
                     refine ⟨vI_eq (by first | rfl | omega), _, rfl, XR.yd (mvS (64 + 198 * a + 6 + 16 * b) (64 + 198 * c + 6 + 16 * e) 16 (cm 1)) (RT.tr T hR) (XO.tr T hR HX) (LR.tr T HL) HN (SE.tr T HS) HP ?_ ?_ ?_ ?_ ?_ ?_ ?_ ?_ ?_ ?_ ?_ ?_ ?_⟩
                     · rw [aup_rn (by decide)]; exact t1
                     · rw [mvS_lo (by omega) (by omega) (by omega) (by omega) (by omega) (by omega) (by omega)]; exact w5
                     · intro i hi
                       exact mvS_lo (by omega) (by omega) (by omega) (by omega) (by omega) (by omega) (by omega)
                     · intro k k0 k1
                       have q := mvS_hd (s := cm 1) (k := a) (g := c) (f := b) (e := e) (j := k) (i := 0) (by omega) (by omega) (by omega) (by omega)
                       rw [Int.add_zero] at q
                       exact q
                     · exact HP.swap (by omega) (by omega) (by omega) (by omega) (by omega) (by omega)
                     · exact HF.eq (by rw [aup_n (by omega), t2 0 (by decide)]) (by rw [aup_rn (by decide), t2 9 (by decide)])
                     · intro x j hx hz
                       rw [aup_rn (fun q => hx (by rw [q]; exact oB)), aup_rn (fun q => hx (by rw [q]; exact oA)), aup_n (fun z => hz ⟨z.1, Or.inl z.2⟩)]
                     · rw [aup_rn h10b, aup_rn h10, aup_n (by omega)]
                     · intro b b0 b1 b9
                       rw [aup_rn b0]; exact t2 b b1
                     · intro i hi
                       rw [aup_n (by omega), t2 0 (by decide)]
                     · rw [aup_rn h00b, aup_rn h00, aup_s, aup_s]
                     · rw [aup_rn h00b, aup_rn h00, aup_n (by omega), aup_n (by omega), t2 0 (by decide)]; exact hv3
                     · rw [aup_rn h00b, aup_rn h00, aup_n (by omega), aup_n (by omega), t2 0 (by decide)]; exact hv4)
