set_option maxRecDepth 100000
/-! the Reader: words, signs, numbers, names -/
theorem C_x_badat {sz : Int} {im : Int → aIm} {ct : Int → Int → Int} {b k w : Int} {Q : aPost} (ho : aob sz im b 2) (hQ : Q (.inl (some (vR b))) (sz, im, aup (aup ct b 6 k) b 7 w)) : AMet md_X2_at 1 0 0 [vR b, vI k, vI w] (sz, im, ct) Q := by
  refine AMet.go (L := [some (vR b), some (vI k), some (vI w)]) mok_X2_at (Nat.le_of_ble_eq_true rfl) rfl ?_
  refine aw_aload_n dX2_at_0 rfl ?_
  refine aw_iload_n dX2_at_1 rfl ?_
  refine p_X2_7_2 rfl dX2_at_2 ho ?_
  refine aw_aload_n dX2_at_5 rfl ?_
  refine aw_iload_n dX2_at_6 rfl ?_
  refine p_X2_13_2 rfl dX2_at_7 ho ?_
  refine aw_aload_n dX2_at_10 rfl ?_
  refine aw_areturn dX2_at_11 rfl (Or.inl ⟨_, rfl⟩) ?_
  exact hQ
theorem FB.of {a k w : Int} {ct : Int → Int → Int} : FB a ct (aup (aup ct 7 6 k) 7 7 w) k w := ⟨fun x _ h7 => by rw [aup_rn h7, aup_rn h7], by rw [aup_n (by omega), aup_s], by rw [aup_s]⟩
theorem C_x_wrong {sz : Int} {im : Int → aIm} {ct : Int → Int → Int} {a : Int} {tp : Int → Int} {n p : Int} {Q : aPost} (HR : RDX sz im ct a tp n p) (hQ : ∀ ct1 : Int → Int → Int, FB a ct ct1 (wr tp n p) (tF tp n p) → Q (.inl (some (vR 7))) (sz, im, ct1)) : AMet md_X8_wrong 2 0 0 [vR a] (sz, im, ct) Q := by
  refine AMet.go (L := [some (vR a)]) mok_X8_wrong (Nat.le_of_ble_eq_true rfl) rfl ?_
  have hX := HR.1
  obtain ⟨⟨ha, hsz, h60⟩, ⟨hB, hB1, hB5, hT, hBad⟩, hn, htp⟩ := id hX
  have hne := hX.ne
  have hp := HR.2.1
  have e1 := HR.2.2.1
  have e2 := HR.2.2.2.1
  have e3 := HR.2.2.2.2.1
  have hF := tF_bd (tp := tp) hp.2
  have hE := tE_bd (tp := tp) hp.2
  have hK := tK_bd (tp := tp) (n := n) (p := p)
  refine aw_aload_n dX8_wrong_0 rfl ?_
  refine g_X8_3_8 rfl dX8_wrong_1 ha ?_
  rw [h60]
  refine g_X8_55_0 rfl dX8_wrong_4 (by assumption) ?_
  rw [hB5]
  refine aw_aload_n dX8_wrong_7 rfl ?_
  refine g_X8_32_8 rfl dX8_wrong_8 ha ?_
  rw [e3]
  refine aw_iconst dX8_wrong_11 (by decide) ?_
  refine aw_icmpne (tgt := 19) dX8_wrong_12 (by decide) (fun h12 => ?_) (fun h12 => ?_)
  · refine aw_iconst dX8_wrong_19 (by decide) ?_
    refine aw_aload_n dX8_wrong_20 rfl ?_
    refine g_X8_29_8 rfl dX8_wrong_21 ha ?_
    rw [e1]
    refine c_X8_59 rfl dX8_wrong_24 (by assumption) (Nat.le_of_ble_eq_true rfl) (by omega) (C_x_badat hBad ?_)
    refine aK_i ?_
    refine aw_areturn dX8_wrong_27 rfl (Or.inl ⟨_, rfl⟩) ?_
    first
      | exact hQ _ (by rw [show wr tp n p = 1 from if_pos (by omega)]; exact FB.of)
      | exact hQ _ (by rw [show wr tp n p = 2 from if_neg (by omega)]; exact FB.of)
  · refine aw_iconst dX8_wrong_15 (by decide) ?_
    refine aw_goto (tgt := 20) dX8_wrong_16 (by decide) ?_
    refine aw_aload_n dX8_wrong_20 rfl ?_
    refine g_X8_29_8 rfl dX8_wrong_21 ha ?_
    rw [e1]
    refine c_X8_59 rfl dX8_wrong_24 (by assumption) (Nat.le_of_ble_eq_true rfl) (by omega) (C_x_badat hBad ?_)
    refine aK_i ?_
    refine aw_areturn dX8_wrong_27 rfl (Or.inl ⟨_, rfl⟩) ?_
    first
      | exact hQ _ (by rw [show wr tp n p = 1 from if_pos (by omega)]; exact FB.of)
      | exact hQ _ (by rw [show wr tp n p = 2 from if_neg (by omega)]; exact FB.of)
theorem L_x_isWord {sz : Int} {im : Int → aIm} {ct : Int → Int → Int} {a : Int} {tp : Int → Int} {n p : Int} {k : Nat} {Q : aPost} {d kc ks : Nat} (hd : 5 ≤ d) (HR : RDX sz im ct a tp n p) (hk : k < 23) (h1 : tK tp n p = 1) (hl : tE tp n p - tF tp n p = slen k) (hT : wq tp (tF tp n p) (tE tp n p) k → Q (.inl (some (vI 1))) (sz, im, ct)) (hF : ¬ wq tp (tF tp n p) (tE tp n p) k → Q (.inl (some (vI 0))) (sz, im, ct)) : ∀ (r : Nat) (j : Int), j + r = slen k → 0 ≤ j → (∀ i, 0 ≤ i → i < j → tp (tF tp n p + i) = sch k i) → AW (mq Q) md_X8_isWord d kc ks 28 [some (vR a), some (vR (-2 - (k : Int))), some (vI j)] [] (sz, im, ct) := by
  have hX := HR.1
  obtain ⟨⟨ha, hsz, h60⟩, ⟨hB, hB1, hB5, hT9, hBad⟩, hn, htp⟩ := id hX
  have hne := hX.ne
  have hp := HR.2.1
  have e1 := HR.2.2.1
  have e2 := HR.2.2.2.1
  have e3 := HR.2.2.2.2.1
  have hF9 := tF_bd (tp := tp) hp.2
  have hE := tE_bd (tp := tp) hp.2
  have hK := tK_bd (tp := tp) (n := n) (p := p)
  have hs := slen_bd k (by omega)
  have hs2 : slen k < 200 := by unfold slen; omega
  intro r
  induction r with
  | zero =>
    intro j h2 h3 h4
    refine aw_iload_n dX8_isWord_28 rfl ?_
    refine aw_aload_n dX8_isWord_29 rfl ?_
    refine s_X8_len (by omega) rfl dX8_isWord_30 (Nat.le_of_ble_eq_true rfl) (by omega) ?_
    refine aw_icmpge (tgt := 66) dX8_isWord_33 (by decide) (fun h33 => ?_) (fun h33 => ?_)
    · refine aw_iconst dX8_isWord_66 (by decide) ?_
      refine aw_zreturn dX8_isWord_67 rfl (Or.inr rfl) ?_
      exact hT ⟨hl, fun i i0 i1 => h4 i i0 (by omega)⟩
    · exfalso; omega
  | succ r ih =>
    intro j h2 h3 h4
    refine aw_iload_n dX8_isWord_28 rfl ?_
    refine aw_aload_n dX8_isWord_29 rfl ?_
    refine s_X8_len (by omega) rfl dX8_isWord_30 (Nat.le_of_ble_eq_true rfl) (by omega) ?_
    refine aw_icmpge (tgt := 66) dX8_isWord_33 (by decide) (fun h33 => ?_) (fun h33 => ?_)
    · exfalso; omega
    · refine aw_aload_n dX8_isWord_36 rfl ?_
      refine g_X8_3_8 rfl dX8_isWord_37 ha ?_
      rw [h60]
      refine g_X8_22_0 rfl dX8_isWord_40 (by assumption) ?_
      rw [hB1]
      refine aw_aload_n dX8_isWord_43 rfl ?_
      refine g_X8_29_8 rfl dX8_isWord_44 ha ?_
      rw [e1]
      refine aw_iload_n dX8_isWord_47 rfl ?_
      refine aw_iaddr dX8_isWord_48 (by omega) ?_
      refine aw_baload dX8_isWord_49 (by assumption) (by omega) (by omega) ?_
      rw [(htp _ (by omega) (by omega)).1]
      refine aw_aload_n dX8_isWord_50 rfl ?_
      refine aw_iload_n dX8_isWord_51 rfl ?_
      refine s_X8_chr (by omega) ⟨h3, by omega⟩ rfl dX8_isWord_52 (Nat.le_of_ble_eq_true rfl) (by omega) ?_
      refine aw_icmpeq (tgt := 60) dX8_isWord_55 (by decide) (fun h55 => ?_) (fun h55 => ?_)
      · refine aw_iinc2r dX8_isWord_60 (by decide) (by decide) rfl (by omega) ?_
        refine aw_goto (tgt := 28) dX8_isWord_63 (by decide) ?_
        exact ih (j + 1) (by omega) (by omega) (fun i i0 i1 => by
          by_cases z : i = j
          · rw [z]; exact h55
          · exact h4 i i0 (by omega))
      · refine aw_iconst dX8_isWord_58 (by decide) ?_
        refine aw_zreturn dX8_isWord_59 rfl (Or.inl rfl) ?_
        exact hF fun z => h55 (z.2 j h3 (by omega))
theorem C_x_isWord {sz : Int} {im : Int → aIm} {ct : Int → Int → Int} {a : Int} {tp : Int → Int} {n p : Int} {k : Nat} {w : Int} {Q : aPost} (HR : RDX sz im ct a tp n p) (hk : k < 23) (hw : (ki k : Int) = w) (hT : tW tp n p = w → Q (.inl (some (vI 1))) (sz, im, ct)) (hN : tW tp n p ≠ w → Q (.inl (some (vI 0))) (sz, im, ct)) : AMet md_X8_isWord 5 0 0 [vR a, vR (-2 - (k : Int))] (sz, im, ct) Q := by
  refine AMet.go (L := [some (vR a), some (vR (-2 - (k : Int))), none]) mok_X8_isWord (Nat.le_of_ble_eq_true rfl) rfl ?_
  have hX := HR.1
  obtain ⟨⟨ha, hsz, h60⟩, ⟨hB, hB1, hB5, hT9, hBad⟩, hn, htp⟩ := id hX
  have hne := hX.ne
  have hp := HR.2.1
  have e1 := HR.2.2.1
  have e2 := HR.2.2.2.1
  have e3 := HR.2.2.2.2.1
  have hF := tF_bd (tp := tp) hp.2
  have hE := tE_bd (tp := tp) hp.2
  have hK := tK_bd (tp := tp) (n := n) (p := p)
  have hs := slen_bd k (by omega)
  have hs2 : slen k < 200 := by unfold slen; omega
  have hi := tW_iff (tp := tp) (n := n) (p := p) hk
  rw [hw] at hi
  refine aw_aload_n dX8_isWord_0 rfl ?_
  refine g_X8_32_8 rfl dX8_isWord_1 ha ?_
  rw [e3]
  refine aw_iconst dX8_isWord_4 (by decide) ?_
  refine aw_icmpne (tgt := 24) dX8_isWord_5 (by decide) (fun h5 => ?_) (fun h5 => ?_)
  · refine aw_iconst dX8_isWord_24 (by decide) ?_
    refine aw_zreturn dX8_isWord_25 rfl (Or.inl rfl) ?_
    first
      | exact hN fun z => h5 (hi.mpr z).1
      | exact hN fun z => h21 (hi.mpr z).2.1
  · refine aw_aload_n dX8_isWord_8 rfl ?_
    refine g_X8_26_8 rfl dX8_isWord_9 ha ?_
    rw [e2]
    refine aw_aload_n dX8_isWord_12 rfl ?_
    refine g_X8_29_8 rfl dX8_isWord_13 ha ?_
    rw [e1]
    refine aw_isubr dX8_isWord_16 (by omega) ?_
    refine aw_aload_n dX8_isWord_17 rfl ?_
    refine s_X8_len (by omega) rfl dX8_isWord_18 (Nat.le_of_ble_eq_true rfl) (by omega) ?_
    refine aw_icmpeq (tgt := 26) dX8_isWord_21 (by decide) (fun h21 => ?_) (fun h21 => ?_)
    · refine aw_iconst dX8_isWord_26 (by decide) ?_
      refine aw_istore2 dX8_isWord_27 (by decide) rfl ?_
      exact L_x_isWord (by omega) HR hk (by omega) h21 (fun z => hT (hi.mp ⟨by omega, z⟩)) (fun z => hN fun y => z (hi.mpr y).2) (slen k).toNat 0 (by unfold slen; omega) (by decide) (fun i i0 i1 => by omega)
    · refine aw_iconst dX8_isWord_24 (by decide) ?_
      refine aw_zreturn dX8_isWord_25 rfl (Or.inl rfl) ?_
      first
        | exact hN fun z => h5 (hi.mpr z).1
        | exact hN fun z => h21 (hi.mpr z).2.1
theorem C_x_isSign {sz : Int} {im : Int → aIm} {ct : Int → Int → Int} {a : Int} {tp : Int → Int} {n p : Int} {c : Int} {Q : aPost} (HR : RDX sz im ct a tp n p) (hT : sgn tp n p c → Q (.inl (some (vI 1))) (sz, im, ct)) (hN : ¬ sgn tp n p c → Q (.inl (some (vI 0))) (sz, im, ct)) : AMet md_X8_isSign 1 0 0 [vR a, vI c] (sz, im, ct) Q := by
  refine AMet.go (L := [some (vR a), some (vI c)]) mok_X8_isSign (Nat.le_of_ble_eq_true rfl) rfl ?_
  have hX := HR.1
  obtain ⟨⟨ha, hsz, h60⟩, ⟨hB, hB1, hB5, hT9, hBad⟩, hn, htp⟩ := id hX
  have hne := hX.ne
  have hp := HR.2.1
  have e1 := HR.2.2.1
  have e2 := HR.2.2.2.1
  have e3 := HR.2.2.2.2.1
  have hF := tF_bd (tp := tp) hp.2
  have hE := tE_bd (tp := tp) hp.2
  have hK := tK_bd (tp := tp) (n := n) (p := p)
  have hK0 := tK_nz (tp := tp) (n := n) (p := p)
  refine aw_aload_n dX8_isSign_0 rfl ?_
  refine g_X8_32_8 rfl dX8_isSign_1 ha ?_
  rw [e3]
  refine aw_iconst dX8_isSign_4 (by decide) ?_
  refine aw_icmpne (tgt := 28) dX8_isSign_5 (by decide) (fun h5 => ?_) (fun h5 => ?_)
  · refine aw_iconst dX8_isSign_28 (by decide) ?_
    refine aw_zreturn dX8_isSign_29 rfl (Or.inl rfl) ?_
    exact hN (by omega)
  · refine aw_aload_n dX8_isSign_8 rfl ?_
    refine g_X8_3_8 rfl dX8_isSign_9 ha ?_
    rw [h60]
    refine g_X8_22_0 rfl dX8_isSign_12 (by assumption) ?_
    rw [hB1]
    refine aw_aload_n dX8_isSign_15 rfl ?_
    refine g_X8_29_8 rfl dX8_isSign_16 ha ?_
    rw [e1]
    refine aw_baload dX8_isSign_19 hT9 (by omega) (by omega) ?_
    rw [(htp _ (by omega) (by omega)).1]
    refine aw_iload_n dX8_isSign_20 rfl ?_
    refine aw_icmpne (tgt := 28) dX8_isSign_21 (by decide) (fun h21 => ?_) (fun h21 => ?_)
    · refine aw_iconst dX8_isSign_28 (by decide) ?_
      refine aw_zreturn dX8_isSign_29 rfl (Or.inl rfl) ?_
      exact hN (by omega)
    · refine aw_iconst dX8_isSign_24 (by decide) ?_
      refine aw_goto (tgt := 29) dX8_isSign_25 (by decide) ?_
      refine aw_zreturn dX8_isSign_29 rfl (Or.inr rfl) ?_
      exact hT (by omega)
theorem RDX.goes {sz : Int} {im : Int → aIm} {ct : Int → Int → Int} {a : Int} {tp : Int → Int} {n p : Int} (HR : RDX sz im ct a tp n p) : (0 ≤ tE tp n p ∧ tE tp n p ≤ n) ∧ ct a 2 = tE tp n p := by
  have hF := tF_bd (tp := tp) HR.2.1.2
  have hE := tE_bd (tp := tp) HR.2.1.2
  have := HR.2.1
  exact ⟨by omega, HR.2.2.2.1⟩
theorem C_x_close {sz : Int} {im : Int → aIm} {ct : Int → Int → Int} {a : Int} {tp : Int → Int} {n p : Int} {Q : aPost} (HR : RDX sz im ct a tp n p) (hF : ∀ ct1 : Int → Int → Int, ¬ sgn tp n p 59 → FB a ct ct1 (wr tp n p) (tF tp n p) → Q (.inr (0, 7)) (sz, im, ct1)) (hQ : ∀ ct1 : Int → Int → Int, sgn tp n p 59 → RDX sz im ct1 a tp n (tE tp n p) → FA a ct ct1 → Q (.inl none) (sz, im, ct1)) : AMet md_X8_close 3 0 0 [vR a] (sz, im, ct) Q := by
  refine AMet.go (L := [some (vR a)]) mok_X8_close (Nat.le_of_ble_eq_true rfl) rfl ?_
  have hX := HR.1
  obtain ⟨⟨ha, hsz, h60⟩, ⟨hB, hB1, hB5, hT, hBad⟩, hn, htp⟩ := id hX
  have hne := hX.ne
  have hp := HR.2.1
  have e1 := HR.2.2.1
  have e2 := HR.2.2.2.1
  have e3 := HR.2.2.2.2.1
  have hF9 := tF_bd (tp := tp) hp.2
  have hE := tE_bd (tp := tp) hp.2
  have hK := tK_bd (tp := tp) (n := n) (p := p)
  refine aw_aload_n dX8_close_0 rfl ?_
  refine aw_bipush dX8_close_1 (by decide) ?_
  refine c_X8_64 rfl dX8_close_3 ha (Nat.le_of_ble_eq_true rfl) (by omega) (C_x_isSign HR (fun hs => ?_) (fun hs => ?_))
  · refine aK_i ?_
    refine aw_ifne (tgt := 14) dX8_close_6 (by decide) (fun _ => ?_) (fun h => absurd h (by decide))
    refine aw_aload_n dX8_close_14 rfl ?_
    refine c_X8_19 rfl dX8_close_15 ha (Nat.le_of_ble_eq_true rfl) (by omega) (C_x_next HR.1 HR.goes.1 HR.goes.2 (fun ct1 HR1 f1 => ?_))
    refine aK_v ?_
    refine aw_ret dX8_close_18 rfl ?_
    exact hQ _ hs HR1 f1
  · refine aK_i ?_
    refine aw_ifne (tgt := 14) dX8_close_6 (by decide) (fun h => absurd h (by decide)) (fun _ => ?_)
    refine aw_aload_n dX8_close_9 rfl ?_
    refine c_X8_68 rfl dX8_close_10 ha (Nat.le_of_ble_eq_true rfl) (by omega) (C_x_wrong HR (fun ctw fw => ?_))
    refine aK_i ?_
    exact aw_athrow (E := 0) dX8_close_13 hBad ⟨_, rfl, rfl⟩ (ax_out rfl (hF _ hs fw))
theorem C_x_rnum {sz : Int} {im : Int → aIm} {ct : Int → Int → Int} {a : Int} {tp : Int → Int} {n p : Int} {lo hi : Int} {Q : aPost} (HR : RDX sz im ct a tp n p) (hF : ∀ (k pl : Int) (ct1 : Int → Int → Int), numP tp n p lo hi = .inl (k, pl) → FB a ct ct1 k pl → Q (.inr (0, 7)) (sz, im, ct1)) (hQ : ∀ (v q : Int) (ct1 : Int → Int → Int), numP tp n p lo hi = .inr (v, q) → RDX sz im ct1 a tp n q → FA a ct ct1 → Q (.inl (some (vI v))) (sz, im, ct1)) : AMet md_X8_number 3 0 0 [vR a, vI lo, vI hi] (sz, im, ct) Q := by
  refine AMet.go (L := [some (vR a), some (vI lo), some (vI hi), none]) mok_X8_number (Nat.le_of_ble_eq_true rfl) rfl ?_
  have hX := HR.1
  obtain ⟨⟨ha, hsz, h60⟩, ⟨hB, hB1, hB5, hT, hBad⟩, hn, htp⟩ := id hX
  have hne := hX.ne
  have hp := HR.2.1
  have e1 := HR.2.2.1
  have e2 := HR.2.2.2.1
  have e3 := HR.2.2.2.2.1
  have hF9 := tF_bd (tp := tp) hp.2
  have hE := tE_bd (tp := tp) hp.2
  have hK := tK_bd (tp := tp) (n := n) (p := p)
  refine aw_aload_n dX8_number_0 rfl ?_
  refine g_X8_32_8 rfl dX8_number_1 ha ?_
  rw [e3]
  refine aw_iconst dX8_number_4 (by decide) ?_
  refine aw_icmpeq (tgt := 13) dX8_number_5 (by decide) (fun h5 => ?_) (fun h5 => ?_)
  · refine aw_aload_n dX8_number_13 rfl ?_
    refine g_X8_42_8 rfl dX8_number_14 ha ?_
    rw [HR.2.2.2.2.2 h5]
    refine aw_iload_n dX8_number_17 rfl ?_
    refine aw_icmplt (tgt := 29) dX8_number_18 (by decide) (fun h18 => ?_) (fun h18 => ?_)
    · refine aw_aload_n dX8_number_29 rfl ?_
      refine g_X8_3_8 rfl dX8_number_30 ha ?_
      rw [h60]
      refine g_X8_55_0 rfl dX8_number_33 (by assumption) ?_
      rw [hB5]
      refine aw_iconst dX8_number_36 (by decide) ?_
      refine aw_aload_n dX8_number_37 rfl ?_
      refine g_X8_29_8 rfl dX8_number_38 ha ?_
      rw [e1]
      refine c_X8_59 rfl dX8_number_41 (by assumption) (Nat.le_of_ble_eq_true rfl) (by omega) (C_x_badat hBad ?_)
      refine aK_i ?_
      exact aw_athrow (E := 0) dX8_number_44 hBad ⟨_, rfl, rfl⟩ (ax_out rfl (hF _ _ _ (by unfold numP; rw [if_neg (by omega), if_pos (by omega)]) FB.of))
    · refine aw_aload_n dX8_number_21 rfl ?_
      refine g_X8_42_8 rfl dX8_number_22 ha ?_
      rw [HR.2.2.2.2.2 h5]
      refine aw_iload_n dX8_number_25 rfl ?_
      refine aw_icmple (tgt := 45) dX8_number_26 (by decide) (fun h26 => ?_) (fun h26 => ?_)
      · refine aw_aload_n dX8_number_45 rfl ?_
        refine g_X8_42_8 rfl dX8_number_46 ha ?_
        rw [HR.2.2.2.2.2 h5]
        refine aw_istore3 dX8_number_49 (by decide) rfl ?_
        refine aw_aload_n dX8_number_50 rfl ?_
        refine c_X8_19 rfl dX8_number_51 ha (Nat.le_of_ble_eq_true rfl) (by omega) (C_x_next HR.1 HR.goes.1 HR.goes.2 (fun ct1 HR1 f1 => ?_))
        refine aK_v ?_
        refine aw_iload_n dX8_number_54 rfl ?_
        refine aw_ireturn dX8_number_55 rfl ?_
        exact hQ _ _ _ (by unfold numP; rw [if_neg (by omega), if_neg (by omega)]) HR1 f1
      · refine aw_aload_n dX8_number_29 rfl ?_
        refine g_X8_3_8 rfl dX8_number_30 ha ?_
        rw [h60]
        refine g_X8_55_0 rfl dX8_number_33 (by assumption) ?_
        rw [hB5]
        refine aw_iconst dX8_number_36 (by decide) ?_
        refine aw_aload_n dX8_number_37 rfl ?_
        refine g_X8_29_8 rfl dX8_number_38 ha ?_
        rw [e1]
        refine c_X8_59 rfl dX8_number_41 (by assumption) (Nat.le_of_ble_eq_true rfl) (by omega) (C_x_badat hBad ?_)
        refine aK_i ?_
        exact aw_athrow (E := 0) dX8_number_44 hBad ⟨_, rfl, rfl⟩ (ax_out rfl (hF _ _ _ (by unfold numP; rw [if_neg (by omega), if_pos (by omega)]) FB.of))
  · refine aw_aload_n dX8_number_8 rfl ?_
    refine c_X8_68 rfl dX8_number_9 ha (Nat.le_of_ble_eq_true rfl) (by omega) (C_x_wrong HR (fun ctw fw => ?_))
    refine aK_i ?_
    exact aw_athrow (E := 0) dX8_number_12 hBad ⟨_, rfl, rfl⟩ (ax_out rfl (hF _ _ _ (by unfold numP; rw [if_pos h5]) fw))
theorem C_x_behind {sz : Int} {im : Int → aIm} {ct : Int → Int → Int} {a : Int} {tp : Int → Int} {n p : Int} {k : Nat} {w lo hi : Int} {Q : aPost} (HR : RDX sz im ct a tp n p) (hk : k < 23) (hw : (ki k : Int) = w) (hF : ∀ (k pl : Int) (ct1 : Int → Int → Int), wnumP tp n p w lo hi = .inl (k, pl) → FB a ct ct1 k pl → Q (.inr (0, 7)) (sz, im, ct1)) (hQ : ∀ (v q : Int) (ct1 : Int → Int → Int), wnumP tp n p w lo hi = .inr (v, q) → RDX sz im ct1 a tp n q → FA a ct ct1 → Q (.inl (some (vI v))) (sz, im, ct1)) : AMet md_X8_behind 6 0 0 [vR a, vR (-2 - (k : Int)), vI lo, vI hi] (sz, im, ct) Q := by
  refine AMet.go (L := [some (vR a), some (vR (-2 - (k : Int))), some (vI lo), some (vI hi)]) mok_X8_behind (Nat.le_of_ble_eq_true rfl) rfl ?_
  have hX := HR.1
  obtain ⟨⟨ha, hsz, h60⟩, ⟨hB, hB1, hB5, hT, hBad⟩, hn, htp⟩ := id hX
  have hne := hX.ne
  have hp := HR.2.1
  have e1 := HR.2.2.1
  have e2 := HR.2.2.2.1
  have e3 := HR.2.2.2.2.1
  have hF9 := tF_bd (tp := tp) hp.2
  have hE := tE_bd (tp := tp) hp.2
  have hK := tK_bd (tp := tp) (n := n) (p := p)
  refine aw_aload_n dX8_behind_0 rfl ?_
  refine aw_aload_n dX8_behind_1 rfl ?_
  refine c_X8_72 rfl dX8_behind_2 ha (Nat.le_of_ble_eq_true rfl) (by omega) (C_x_isWord HR hk hw (fun hv => ?_) (fun hv => ?_))
  · refine aK_i ?_
    refine aw_ifne (tgt := 13) dX8_behind_5 (by decide) (fun _ => ?_) (fun h => absurd h (by decide))
    refine aw_aload_n dX8_behind_13 rfl ?_
    refine c_X8_19 rfl dX8_behind_14 ha (Nat.le_of_ble_eq_true rfl) (by omega) (C_x_next HR.1 HR.goes.1 HR.goes.2 (fun ct1 HR1 f1 => ?_))
    refine aK_v ?_
    refine aw_aload_n dX8_behind_17 rfl ?_
    refine aw_iload_n dX8_behind_18 rfl ?_
    refine aw_iload_n dX8_behind_19 rfl ?_
    refine c_X8_76 rfl dX8_behind_20 ha (Nat.le_of_ble_eq_true rfl) (by omega) (C_x_rnum HR1 (fun k2 pl ct2 e9 f2 => ?_) (fun v q ct2 e9 HR2 f2 => ?_))
    · exact aK_x (ax_out rfl (hF _ _ _ (by unfold wnumP; rw [if_neg (by omega)]; exact e9) (f1.b f2)))
    · refine aK_i ?_
      refine aw_ireturn dX8_behind_23 rfl ?_
      exact hQ _ _ _ (by unfold wnumP; rw [if_neg (by omega)]; exact e9) HR2 (f1.trans f2)
  · refine aK_i ?_
    refine aw_ifne (tgt := 13) dX8_behind_5 (by decide) (fun h => absurd h (by decide)) (fun _ => ?_)
    refine aw_aload_n dX8_behind_8 rfl ?_
    refine c_X8_68 rfl dX8_behind_9 ha (Nat.le_of_ble_eq_true rfl) (by omega) (C_x_wrong HR (fun ctw fw => ?_))
    refine aK_i ?_
    exact aw_athrow (E := 0) dX8_behind_12 hBad ⟨_, rfl, rfl⟩ (ax_out rfl (hF _ _ _ (by unfold wnumP; rw [if_pos hv]) fw))
theorem C_x_acts {sz : Int} {im : Int → aIm} {ct : Int → Int → Int} {a : Int} {tp : Int → Int} {n p : Int} {Q : aPost} (HR : RDX sz im ct a tp n p) (hQ : ∀ v : Int, (tW tp n p = 11 ∧ v = 0) ∨ (tW tp n p = 12 ∧ v = 1) ∨ (tW tp n p = 13 ∧ v = 2) ∨ (tW tp n p = 14 ∧ v = 3) ∨ (tW tp n p = 15 ∧ v = 4) ∨ (tW tp n p = 16 ∧ v = 5) ∨ (tW tp n p = 20 ∧ v = 6) ∨ (tW tp n p ≠ 11 ∧ tW tp n p ≠ 12 ∧ tW tp n p ≠ 13 ∧ tW tp n p ≠ 14 ∧ tW tp n p ≠ 15 ∧ tW tp n p ≠ 16 ∧ tW tp n p ≠ 20 ∧ v = -1) → Q (.inl (some (vI v))) (sz, im, ct)) : AMet md_X8_acts 6 0 0 [vR a] (sz, im, ct) Q := by
  refine AMet.go (L := [some (vR a)]) mok_X8_acts (Nat.le_of_ble_eq_true rfl) rfl ?_
  have ha := HR.1.1.1
  refine aw_aload_n dX8_acts_0 rfl ?_
  refine aw_ldcS (k9 := 9) dX8_acts_1 rfl rfl (by decide) ?_
  refine c_X8_72 rfl dX8_acts_3 ha (Nat.le_of_ble_eq_true rfl) (by omega) (C_x_isWord (k := 9) (w := 11) HR (by decide) rfl (fun hw9 => ?_) (fun hw9 => ?_))
  · refine aK_i ?_
    refine aw_ifeq (tgt := 11) dX8_acts_6 (by decide) (fun h => absurd h (by decide)) (fun _ => ?_)
    refine aw_iconst dX8_acts_9 (by decide) ?_
    refine aw_ireturn dX8_acts_10 rfl ?_
    exact hQ _ (by omega)
  · refine aK_i ?_
    refine aw_ifeq (tgt := 11) dX8_acts_6 (by decide) (fun _ => ?_) (fun h => absurd h (by decide))
    refine aw_aload_n dX8_acts_11 rfl ?_
    refine aw_ldcS (k9 := 10) dX8_acts_12 rfl rfl (by decide) ?_
    refine c_X8_72 rfl dX8_acts_14 ha (Nat.le_of_ble_eq_true rfl) (by omega) (C_x_isWord (k := 10) (w := 12) HR (by decide) rfl (fun hw10 => ?_) (fun hw10 => ?_))
    · refine aK_i ?_
      refine aw_ifeq (tgt := 22) dX8_acts_17 (by decide) (fun h => absurd h (by decide)) (fun _ => ?_)
      refine aw_iconst dX8_acts_20 (by decide) ?_
      refine aw_ireturn dX8_acts_21 rfl ?_
      exact hQ _ (by omega)
    · refine aK_i ?_
      refine aw_ifeq (tgt := 22) dX8_acts_17 (by decide) (fun _ => ?_) (fun h => absurd h (by decide))
      refine aw_aload_n dX8_acts_22 rfl ?_
      refine aw_ldcS (k9 := 11) dX8_acts_23 rfl rfl (by decide) ?_
      refine c_X8_72 rfl dX8_acts_25 ha (Nat.le_of_ble_eq_true rfl) (by omega) (C_x_isWord (k := 11) (w := 13) HR (by decide) rfl (fun hw11 => ?_) (fun hw11 => ?_))
      · refine aK_i ?_
        refine aw_ifeq (tgt := 33) dX8_acts_28 (by decide) (fun h => absurd h (by decide)) (fun _ => ?_)
        refine aw_iconst dX8_acts_31 (by decide) ?_
        refine aw_ireturn dX8_acts_32 rfl ?_
        exact hQ _ (by omega)
      · refine aK_i ?_
        refine aw_ifeq (tgt := 33) dX8_acts_28 (by decide) (fun _ => ?_) (fun h => absurd h (by decide))
        refine aw_aload_n dX8_acts_33 rfl ?_
        refine aw_ldcS (k9 := 12) dX8_acts_34 rfl rfl (by decide) ?_
        refine c_X8_72 rfl dX8_acts_36 ha (Nat.le_of_ble_eq_true rfl) (by omega) (C_x_isWord (k := 12) (w := 14) HR (by decide) rfl (fun hw12 => ?_) (fun hw12 => ?_))
        · refine aK_i ?_
          refine aw_ifeq (tgt := 44) dX8_acts_39 (by decide) (fun h => absurd h (by decide)) (fun _ => ?_)
          refine aw_iconst dX8_acts_42 (by decide) ?_
          refine aw_ireturn dX8_acts_43 rfl ?_
          exact hQ _ (by omega)
        · refine aK_i ?_
          refine aw_ifeq (tgt := 44) dX8_acts_39 (by decide) (fun _ => ?_) (fun h => absurd h (by decide))
          refine aw_aload_n dX8_acts_44 rfl ?_
          refine aw_ldcS (k9 := 13) dX8_acts_45 rfl rfl (by decide) ?_
          refine c_X8_72 rfl dX8_acts_47 ha (Nat.le_of_ble_eq_true rfl) (by omega) (C_x_isWord (k := 13) (w := 15) HR (by decide) rfl (fun hw13 => ?_) (fun hw13 => ?_))
          · refine aK_i ?_
            refine aw_ifeq (tgt := 55) dX8_acts_50 (by decide) (fun h => absurd h (by decide)) (fun _ => ?_)
            refine aw_iconst dX8_acts_53 (by decide) ?_
            refine aw_ireturn dX8_acts_54 rfl ?_
            exact hQ _ (by omega)
          · refine aK_i ?_
            refine aw_ifeq (tgt := 55) dX8_acts_50 (by decide) (fun _ => ?_) (fun h => absurd h (by decide))
            refine aw_aload_n dX8_acts_55 rfl ?_
            refine aw_ldcS (k9 := 14) dX8_acts_56 rfl rfl (by decide) ?_
            refine c_X8_72 rfl dX8_acts_58 ha (Nat.le_of_ble_eq_true rfl) (by omega) (C_x_isWord (k := 14) (w := 16) HR (by decide) rfl (fun hw14 => ?_) (fun hw14 => ?_))
            · refine aK_i ?_
              refine aw_ifeq (tgt := 66) dX8_acts_61 (by decide) (fun h => absurd h (by decide)) (fun _ => ?_)
              refine aw_iconst dX8_acts_64 (by decide) ?_
              refine aw_ireturn dX8_acts_65 rfl ?_
              exact hQ _ (by omega)
            · refine aK_i ?_
              refine aw_ifeq (tgt := 66) dX8_acts_61 (by decide) (fun _ => ?_) (fun h => absurd h (by decide))
              refine aw_aload_n dX8_acts_66 rfl ?_
              refine aw_ldcS (k9 := 15) dX8_acts_67 rfl rfl (by decide) ?_
              refine c_X8_72 rfl dX8_acts_69 ha (Nat.le_of_ble_eq_true rfl) (by omega) (C_x_isWord (k := 15) (w := 20) HR (by decide) rfl (fun hw15 => ?_) (fun hw15 => ?_))
              · refine aK_i ?_
                refine aw_ifeq (tgt := 80) dX8_acts_72 (by decide) (fun h => absurd h (by decide)) (fun _ => ?_)
                refine aw_bipush dX8_acts_75 (by decide) ?_
                refine aw_goto (tgt := 81) dX8_acts_77 (by decide) ?_
                refine aw_ireturn dX8_acts_81 rfl ?_
                exact hQ _ (by omega)
              · refine aK_i ?_
                refine aw_ifeq (tgt := 80) dX8_acts_72 (by decide) (fun _ => ?_) (fun h => absurd h (by decide))
                refine aw_iconst dX8_acts_80 (by decide) ?_
                refine aw_ireturn dX8_acts_81 rfl ?_
                exact hQ _ (by omega)
theorem C_x_tests {sz : Int} {im : Int → aIm} {ct : Int → Int → Int} {a : Int} {tp : Int → Int} {n p : Int} {Q : aPost} (HR : RDX sz im ct a tp n p) (hQ : ∀ v : Int, (tW tp n p = 21 ∧ v = 0) ∨ (tW tp n p = 5 ∧ v = 1) ∨ (tW tp n p = 6 ∧ v = 2) ∨ (tW tp n p = 22 ∧ v = 3) ∨ (tW tp n p ≠ 21 ∧ tW tp n p ≠ 5 ∧ tW tp n p ≠ 6 ∧ tW tp n p ≠ 22 ∧ v = -1) → Q (.inl (some (vI v))) (sz, im, ct)) : AMet md_X8_tests 6 0 0 [vR a] (sz, im, ct) Q := by
  refine AMet.go (L := [some (vR a)]) mok_X8_tests (Nat.le_of_ble_eq_true rfl) rfl ?_
  have ha := HR.1.1.1
  refine aw_aload_n dX8_tests_0 rfl ?_
  refine aw_ldcS (k9 := 16) dX8_tests_1 rfl rfl (by decide) ?_
  refine c_X8_72 rfl dX8_tests_3 ha (Nat.le_of_ble_eq_true rfl) (by omega) (C_x_isWord (k := 16) (w := 21) HR (by decide) rfl (fun hw16 => ?_) (fun hw16 => ?_))
  · refine aK_i ?_
    refine aw_ifeq (tgt := 13) dX8_tests_6 (by decide) (fun h => absurd h (by decide)) (fun _ => ?_)
    refine aw_iconst dX8_tests_9 (by decide) ?_
    refine aw_goto (tgt := 53) dX8_tests_10 (by decide) ?_
    refine aw_ireturn dX8_tests_53 rfl ?_
    exact hQ _ (by omega)
  · refine aK_i ?_
    refine aw_ifeq (tgt := 13) dX8_tests_6 (by decide) (fun _ => ?_) (fun h => absurd h (by decide))
    refine aw_aload_n dX8_tests_13 rfl ?_
    refine aw_ldcS (k9 := 17) dX8_tests_14 rfl rfl (by decide) ?_
    refine c_X8_72 rfl dX8_tests_16 ha (Nat.le_of_ble_eq_true rfl) (by omega) (C_x_isWord (k := 17) (w := 5) HR (by decide) rfl (fun hw17 => ?_) (fun hw17 => ?_))
    · refine aK_i ?_
      refine aw_ifeq (tgt := 26) dX8_tests_19 (by decide) (fun h => absurd h (by decide)) (fun _ => ?_)
      refine aw_iconst dX8_tests_22 (by decide) ?_
      refine aw_goto (tgt := 53) dX8_tests_23 (by decide) ?_
      refine aw_ireturn dX8_tests_53 rfl ?_
      exact hQ _ (by omega)
    · refine aK_i ?_
      refine aw_ifeq (tgt := 26) dX8_tests_19 (by decide) (fun _ => ?_) (fun h => absurd h (by decide))
      refine aw_aload_n dX8_tests_26 rfl ?_
      refine aw_ldcS (k9 := 18) dX8_tests_27 rfl rfl (by decide) ?_
      refine c_X8_72 rfl dX8_tests_29 ha (Nat.le_of_ble_eq_true rfl) (by omega) (C_x_isWord (k := 18) (w := 6) HR (by decide) rfl (fun hw18 => ?_) (fun hw18 => ?_))
      · refine aK_i ?_
        refine aw_ifeq (tgt := 39) dX8_tests_32 (by decide) (fun h => absurd h (by decide)) (fun _ => ?_)
        refine aw_iconst dX8_tests_35 (by decide) ?_
        refine aw_goto (tgt := 53) dX8_tests_36 (by decide) ?_
        refine aw_ireturn dX8_tests_53 rfl ?_
        exact hQ _ (by omega)
      · refine aK_i ?_
        refine aw_ifeq (tgt := 39) dX8_tests_32 (by decide) (fun _ => ?_) (fun h => absurd h (by decide))
        refine aw_aload_n dX8_tests_39 rfl ?_
        refine aw_ldcS (k9 := 19) dX8_tests_40 rfl rfl (by decide) ?_
        refine c_X8_72 rfl dX8_tests_42 ha (Nat.le_of_ble_eq_true rfl) (by omega) (C_x_isWord (k := 19) (w := 22) HR (by decide) rfl (fun hw19 => ?_) (fun hw19 => ?_))
        · refine aK_i ?_
          refine aw_ifeq (tgt := 52) dX8_tests_45 (by decide) (fun h => absurd h (by decide)) (fun _ => ?_)
          refine aw_iconst dX8_tests_48 (by decide) ?_
          refine aw_goto (tgt := 53) dX8_tests_49 (by decide) ?_
          refine aw_ireturn dX8_tests_53 rfl ?_
          exact hQ _ (by omega)
        · refine aK_i ?_
          refine aw_ifeq (tgt := 52) dX8_tests_45 (by decide) (fun _ => ?_) (fun h => absurd h (by decide))
          refine aw_iconst dX8_tests_52 (by decide) ?_
          refine aw_ireturn dX8_tests_53 rfl ?_
          exact hQ _ (by omega)
theorem C_x_isKept {sz : Int} {im : Int → aIm} {ct : Int → Int → Int} {a : Int} {tp : Int → Int} {n p : Int} {Q : aPost} (HR : RDX sz im ct a tp n p) (hT : tW tp n p ≠ -1 → Q (.inl (some (vI 1))) (sz, im, ct)) (hN : tW tp n p = -1 → Q (.inl (some (vI 0))) (sz, im, ct)) : AMet md_X8_isKept 7 0 0 [vR a] (sz, im, ct) Q := by
  refine AMet.go (L := [some (vR a), none]) mok_X8_isKept (Nat.le_of_ble_eq_true rfl) rfl ?_
  have ha := HR.1.1.1
  have hb := tW_bd (tp := tp) (n := n) (p := p)
  have K132 : ∀ {x1 : Option aV} , tW tp n p ≠ -1 → AW (mq Q) md_X8_isKept 7 0 0 132 [some (vR a), x1] [] (sz, im, ct) := fun {x1} hz => by
    refine aw_iconst dX8_isKept_132 (by decide) ?_
    refine aw_goto (tgt := 137) dX8_isKept_133 (by decide) ?_
    refine aw_zreturn dX8_isKept_137 rfl (Or.inr rfl) ?_
    exact hT hz
  have K81 : tW tp n p ≠ -1 → AW (mq Q) md_X8_isKept 7 0 0 81 [some (vR a), none] [] (sz, im, ct) := fun hz => by
    refine aw_iconst dX8_isKept_81 (by decide) ?_
    refine aw_goto (tgt := 86) dX8_isKept_82 (by decide) ?_
    refine aw_istore1 dX8_isKept_86 (by decide) rfl ?_
    refine aw_iload_n dX8_isKept_87 rfl ?_
    refine aw_ifne (tgt := 132) dX8_isKept_88 (by decide) (fun h88 => ?_) (fun h88 => (by exfalso; omega))
    exact K132 hz
  refine aw_aload_n dX8_isKept_0 rfl ?_
  refine aw_ldcS (k9 := 0) dX8_isKept_1 rfl rfl (by decide) ?_
  refine c_X8_72 rfl dX8_isKept_3 ha (Nat.le_of_ble_eq_true rfl) (by omega) (C_x_isWord (k := 0) (w := 0) HR (by decide) rfl (fun hw0 => ?_) (fun hw0 => ?_))
  · refine aK_i ?_
    refine aw_ifne (tgt := 81) dX8_isKept_6 (by decide) (fun _ => ?_) (fun h => absurd h (by decide))
    refine K81 (by omega)
  · refine aK_i ?_
    refine aw_ifne (tgt := 81) dX8_isKept_6 (by decide) (fun h => absurd h (by decide)) (fun _ => ?_)
    refine aw_aload_n dX8_isKept_9 rfl ?_
    refine aw_ldcS (k9 := 1) dX8_isKept_10 rfl rfl (by decide) ?_
    refine c_X8_72 rfl dX8_isKept_12 ha (Nat.le_of_ble_eq_true rfl) (by omega) (C_x_isWord (k := 1) (w := 3) HR (by decide) rfl (fun hw1 => ?_) (fun hw1 => ?_))
    · refine aK_i ?_
      refine aw_ifne (tgt := 81) dX8_isKept_15 (by decide) (fun _ => ?_) (fun h => absurd h (by decide))
      refine K81 (by omega)
    · refine aK_i ?_
      refine aw_ifne (tgt := 81) dX8_isKept_15 (by decide) (fun h => absurd h (by decide)) (fun _ => ?_)
      refine aw_aload_n dX8_isKept_18 rfl ?_
      refine aw_ldcS (k9 := 2) dX8_isKept_19 rfl rfl (by decide) ?_
      refine c_X8_72 rfl dX8_isKept_21 ha (Nat.le_of_ble_eq_true rfl) (by omega) (C_x_isWord (k := 2) (w := 4) HR (by decide) rfl (fun hw2 => ?_) (fun hw2 => ?_))
      · refine aK_i ?_
        refine aw_ifne (tgt := 81) dX8_isKept_24 (by decide) (fun _ => ?_) (fun h => absurd h (by decide))
        refine K81 (by omega)
      · refine aK_i ?_
        refine aw_ifne (tgt := 81) dX8_isKept_24 (by decide) (fun h => absurd h (by decide)) (fun _ => ?_)
        refine aw_aload_n dX8_isKept_27 rfl ?_
        refine aw_ldcS (k9 := 3) dX8_isKept_28 rfl rfl (by decide) ?_
        refine c_X8_72 rfl dX8_isKept_30 ha (Nat.le_of_ble_eq_true rfl) (by omega) (C_x_isWord (k := 3) (w := 1) HR (by decide) rfl (fun hw3 => ?_) (fun hw3 => ?_))
        · refine aK_i ?_
          refine aw_ifne (tgt := 81) dX8_isKept_33 (by decide) (fun _ => ?_) (fun h => absurd h (by decide))
          refine K81 (by omega)
        · refine aK_i ?_
          refine aw_ifne (tgt := 81) dX8_isKept_33 (by decide) (fun h => absurd h (by decide)) (fun _ => ?_)
          refine aw_aload_n dX8_isKept_36 rfl ?_
          refine aw_ldcS (k9 := 4) dX8_isKept_37 rfl rfl (by decide) ?_
          refine c_X8_72 rfl dX8_isKept_39 ha (Nat.le_of_ble_eq_true rfl) (by omega) (C_x_isWord (k := 4) (w := 7) HR (by decide) rfl (fun hw4 => ?_) (fun hw4 => ?_))
          · refine aK_i ?_
            refine aw_ifne (tgt := 81) dX8_isKept_42 (by decide) (fun _ => ?_) (fun h => absurd h (by decide))
            refine K81 (by omega)
          · refine aK_i ?_
            refine aw_ifne (tgt := 81) dX8_isKept_42 (by decide) (fun h => absurd h (by decide)) (fun _ => ?_)
            refine aw_aload_n dX8_isKept_45 rfl ?_
            refine aw_ldcS (k9 := 5) dX8_isKept_46 rfl rfl (by decide) ?_
            refine c_X8_72 rfl dX8_isKept_48 ha (Nat.le_of_ble_eq_true rfl) (by omega) (C_x_isWord (k := 5) (w := 2) HR (by decide) rfl (fun hw5 => ?_) (fun hw5 => ?_))
            · refine aK_i ?_
              refine aw_ifne (tgt := 81) dX8_isKept_51 (by decide) (fun _ => ?_) (fun h => absurd h (by decide))
              refine K81 (by omega)
            · refine aK_i ?_
              refine aw_ifne (tgt := 81) dX8_isKept_51 (by decide) (fun h => absurd h (by decide)) (fun _ => ?_)
              refine aw_aload_n dX8_isKept_54 rfl ?_
              refine aw_ldcS (k9 := 6) dX8_isKept_55 rfl rfl (by decide) ?_
              refine c_X8_72 rfl dX8_isKept_57 ha (Nat.le_of_ble_eq_true rfl) (by omega) (C_x_isWord (k := 6) (w := 8) HR (by decide) rfl (fun hw6 => ?_) (fun hw6 => ?_))
              · refine aK_i ?_
                refine aw_ifne (tgt := 81) dX8_isKept_60 (by decide) (fun _ => ?_) (fun h => absurd h (by decide))
                refine K81 (by omega)
              · refine aK_i ?_
                refine aw_ifne (tgt := 81) dX8_isKept_60 (by decide) (fun h => absurd h (by decide)) (fun _ => ?_)
                refine aw_aload_n dX8_isKept_63 rfl ?_
                refine aw_ldcS (k9 := 7) dX8_isKept_64 rfl rfl (by decide) ?_
                refine c_X8_72 rfl dX8_isKept_66 ha (Nat.le_of_ble_eq_true rfl) (by omega) (C_x_isWord (k := 7) (w := 9) HR (by decide) rfl (fun hw7 => ?_) (fun hw7 => ?_))
                · refine aK_i ?_
                  refine aw_ifne (tgt := 81) dX8_isKept_69 (by decide) (fun _ => ?_) (fun h => absurd h (by decide))
                  refine K81 (by omega)
                · refine aK_i ?_
                  refine aw_ifne (tgt := 81) dX8_isKept_69 (by decide) (fun h => absurd h (by decide)) (fun _ => ?_)
                  refine aw_aload_n dX8_isKept_72 rfl ?_
                  refine aw_ldcS (k9 := 8) dX8_isKept_73 rfl rfl (by decide) ?_
                  refine c_X8_72 rfl dX8_isKept_75 ha (Nat.le_of_ble_eq_true rfl) (by omega) (C_x_isWord (k := 8) (w := 10) HR (by decide) rfl (fun hw8 => ?_) (fun hw8 => ?_))
                  · refine aK_i ?_
                    refine aw_ifeq (tgt := 85) dX8_isKept_78 (by decide) (fun h => absurd h (by decide)) (fun _ => ?_)
                    refine K81 (by omega)
                  · refine aK_i ?_
                    refine aw_ifeq (tgt := 85) dX8_isKept_78 (by decide) (fun _ => ?_) (fun h => absurd h (by decide))
                    refine aw_iconst dX8_isKept_85 (by decide) ?_
                    refine aw_istore1 dX8_isKept_86 (by decide) rfl ?_
                    refine aw_iload_n dX8_isKept_87 rfl ?_
                    refine aw_ifne (tgt := 132) dX8_isKept_88 (by decide) (fun h88 => (by exfalso; omega)) (fun h88 => ?_)
                    refine aw_aload_n dX8_isKept_91 rfl ?_
                    refine c_X8_119 rfl dX8_isKept_92 ha (Nat.le_of_ble_eq_true rfl) (by omega) (C_x_acts HR (fun v hv => ?_))
                    refine aK_i ?_
                    refine aw_ifge (tgt := 132) dX8_isKept_95 (by decide) (fun h95 => ?_) (fun h95 => ?_)
                    · refine K132 (by omega)
                    · refine aw_aload_n dX8_isKept_98 rfl ?_
                      refine c_X8_122 rfl dX8_isKept_99 ha (Nat.le_of_ble_eq_true rfl) (by omega) (C_x_tests HR (fun u hu => ?_))
                      refine aK_i ?_
                      refine aw_ifge (tgt := 132) dX8_isKept_102 (by decide) (fun h102 => ?_) (fun h102 => ?_)
                      · refine K132 (by omega)
                      · refine aw_aload_n dX8_isKept_105 rfl ?_
                        refine aw_ldcS (k9 := 20) dX8_isKept_106 rfl rfl (by decide) ?_
                        refine c_X8_72 rfl dX8_isKept_108 ha (Nat.le_of_ble_eq_true rfl) (by omega) (C_x_isWord (k := 20) (w := 17) HR (by decide) rfl (fun hw20 => ?_) (fun hw20 => ?_))
                        · refine aK_i ?_
                          refine aw_ifne (tgt := 132) dX8_isKept_111 (by decide) (fun _ => ?_) (fun h => absurd h (by decide))
                          refine K132 (by omega)
                        · refine aK_i ?_
                          refine aw_ifne (tgt := 132) dX8_isKept_111 (by decide) (fun h => absurd h (by decide)) (fun _ => ?_)
                          refine aw_aload_n dX8_isKept_114 rfl ?_
                          refine aw_ldcS (k9 := 21) dX8_isKept_115 rfl rfl (by decide) ?_
                          refine c_X8_72 rfl dX8_isKept_117 ha (Nat.le_of_ble_eq_true rfl) (by omega) (C_x_isWord (k := 21) (w := 18) HR (by decide) rfl (fun hw21 => ?_) (fun hw21 => ?_))
                          · refine aK_i ?_
                            refine aw_ifne (tgt := 132) dX8_isKept_120 (by decide) (fun _ => ?_) (fun h => absurd h (by decide))
                            refine K132 (by omega)
                          · refine aK_i ?_
                            refine aw_ifne (tgt := 132) dX8_isKept_120 (by decide) (fun h => absurd h (by decide)) (fun _ => ?_)
                            refine aw_aload_n dX8_isKept_123 rfl ?_
                            refine aw_ldcS (k9 := 22) dX8_isKept_124 rfl rfl (by decide) ?_
                            refine c_X8_72 rfl dX8_isKept_126 ha (Nat.le_of_ble_eq_true rfl) (by omega) (C_x_isWord (k := 22) (w := 19) HR (by decide) rfl (fun hw22 => ?_) (fun hw22 => ?_))
                            · refine aK_i ?_
                              refine aw_ifeq (tgt := 136) dX8_isKept_129 (by decide) (fun h => absurd h (by decide)) (fun _ => ?_)
                              refine K132 (by omega)
                            · refine aK_i ?_
                              refine aw_ifeq (tgt := 136) dX8_isKept_129 (by decide) (fun _ => ?_) (fun h => absurd h (by decide))
                              refine aw_iconst dX8_isKept_136 (by decide) ?_
                              refine aw_zreturn dX8_isKept_137 rfl (Or.inl rfl) ?_
                              exact hN (by omega)
theorem nX_bd8 {tp : Int → Int} {f : Int} {k : Nat} (h : ∀ j : Int, 0 ≤ j → j < k → ltr (tp (f + j))) (hk : k ≤ 8) : 0 ≤ nX tp f k ∧ nX tp f k < 1099511627776 := by
  have h4 := nX_bd (tp := tp) (f := f) (k := k) h
  have e : k = 0 ∨ k = 1 ∨ k = 2 ∨ k = 3 ∨ k = 4 ∨ k = 5 ∨ k = 6 ∨ k = 7 ∨ k = 8 := by omega
  rcases e with e | e | e | e | e | e | e | e | e <;> (subst e; omega)
theorem L_x_name {sz : Int} {im : Int → aIm} {ct : Int → Int → Int} {a : Int} {tp : Int → Int} {n p : Int} {Q : aPost} {d kc ks : Nat} (hd : 2 ≤ d) (HR : RDX sz im ct a tp n p) (hi : isNm tp n p) (hQ : Q (.inl (some (vL (nmX tp n p)))) (sz, im, ct)) : ∀ (r : Nat) (k : Nat), k + r = (tE tp n p - tF tp n p).toNat → AW (mq Q) md_X8_name d kc ks 41 [some (vR a), some (vL (nX tp (tF tp n p) k)), none, some (vI (tF tp n p + k))] [] (sz, im, ct) := by
  have hX := HR.1
  obtain ⟨⟨ha, hsz, h60⟩, ⟨hB, hB1, hB5, hT, hBad⟩, hn, htp⟩ := id hX
  have hne := hX.ne
  have hp := HR.2.1
  have e1 := HR.2.2.1
  have e2 := HR.2.2.2.1
  have e3 := HR.2.2.2.2.1
  have hF := tF_bd (tp := tp) hp.2
  have hE := tE_bd (tp := tp) hp.2
  have hK := tK_bd (tp := tp) (n := n) (p := p)
  have hl := tK_word hi.1
  have hlt := tE_lt hp.2 (by omega : tK tp n p ≠ 0)
  intro r
  induction r with
  | zero =>
    intro k h1
    have ek : k = (tE tp n p - tF tp n p).toNat := by omega
    refine aw_iload_n dX8_name_41 rfl ?_
    refine aw_aload_n dX8_name_42 rfl ?_
    refine g_X8_26_8 rfl dX8_name_43 ha ?_
    rw [e2]
    refine aw_icmpge (tgt := 76) dX8_name_46 (by decide) (fun h46 => ?_) (fun h46 => ?_)
    · refine aw_lload_n dX8_name_76 rfl ?_
      refine aw_lreturn dX8_name_77 rfl ?_
      unfold nmX at hQ
      rw [ek]
      exact hQ
    · exfalso; omega
  | succ r ih =>
    intro k h1
    have hb := nX_bd8 (tp := tp) (f := tF tp n p) (k := k) (fun j j0 j1 => hl _ (by omega) (by omega)) (by omega)
    have hc := hl (tF tp n p + k) (by omega) (by omega)
    refine aw_iload_n dX8_name_41 rfl ?_
    refine aw_aload_n dX8_name_42 rfl ?_
    refine g_X8_26_8 rfl dX8_name_43 ha ?_
    rw [e2]
    refine aw_icmpge (tgt := 76) dX8_name_46 (by decide) (fun h46 => ?_) (fun h46 => ?_)
    · exfalso; omega
    · refine aw_lload_n dX8_name_49 rfl ?_
      refine aw_ldc2 (x := 32) dX8_name_50 q714 (by decide) ?_
      refine aw_lmulr dX8_name_53 (by omega) ?_
      refine aw_aload_n dX8_name_54 rfl ?_
      refine g_X8_3_8 rfl dX8_name_55 ha ?_
      rw [h60]
      refine g_X8_22_0 rfl dX8_name_58 (by assumption) ?_
      rw [hB1]
      refine aw_iload_n dX8_name_61 rfl ?_
      refine aw_baload dX8_name_62 (by assumption) (by omega) (by omega) ?_
      rw [(htp _ (by omega) (by omega)).1]
      refine aw_i2l dX8_name_63 ?_
      refine aw_laddr dX8_name_64 (by omega) ?_
      refine aw_ldc2 (x := 96) dX8_name_65 q715 (by decide) ?_
      refine aw_lsubr dX8_name_68 (by omega) ?_
      refine aw_lstore1 dX8_name_69 (by decide) rfl ?_
      refine aw_iinc3r dX8_name_70 (by decide) (by decide) rfl (by omega) ?_
      refine aw_goto (tgt := 41) dX8_name_73 (by decide) ?_
      have h9 := ih (k + 1) (by omega)
      rw [show tF tp n p + ((k + 1 : Nat) : Int) = tF tp n p + k + 1 by omega] at h9
      exact h9
theorem C_x_name {sz : Int} {im : Int → aIm} {ct : Int → Int → Int} {a : Int} {tp : Int → Int} {n p : Int} {Q : aPost} (HR : RDX sz im ct a tp n p) (hF : ∀ (k pl : Int) (ct1 : Int → Int → Int), nameP tp n p = .inl (k, pl) → FB a ct ct1 k pl → Q (.inr (0, 7)) (sz, im, ct1)) (hQ : ∀ x : Int, nameP tp n p = .inr x → Q (.inl (some (vL x))) (sz, im, ct)) : AMet md_X8_name 8 0 0 [vR a] (sz, im, ct) Q := by
  refine AMet.go (L := [some (vR a), none, none, none]) mok_X8_name (Nat.le_of_ble_eq_true rfl) rfl ?_
  have hX := HR.1
  obtain ⟨⟨ha, hsz, h60⟩, ⟨hB, hB1, hB5, hT, hBad⟩, hn, htp⟩ := id hX
  have hne := hX.ne
  have hp := HR.2.1
  have e1 := HR.2.2.1
  have e2 := HR.2.2.2.1
  have e3 := HR.2.2.2.2.1
  have hF9 := tF_bd (tp := tp) hp.2
  have hE := tE_bd (tp := tp) hp.2
  have hK := tK_bd (tp := tp) (n := n) (p := p)
  refine aw_aload_n dX8_name_0 rfl ?_
  refine g_X8_32_8 rfl dX8_name_1 ha ?_
  rw [e3]
  refine aw_iconst dX8_name_4 (by decide) ?_
  refine aw_icmpne (tgt := 29) dX8_name_5 (by decide) (fun h5 => ?_) (fun h5 => ?_)
  · refine aw_aload_n dX8_name_29 rfl ?_
    refine c_X8_68 rfl dX8_name_30 ha (Nat.le_of_ble_eq_true rfl) (by omega) (C_x_wrong HR (fun ctw fw => ?_))
    refine aK_i ?_
    exact aw_athrow (E := 0) dX8_name_33 hBad ⟨_, rfl, rfl⟩ (ax_out rfl (hF _ _ _ (by unfold nameP; rw [if_neg (by omega)]) fw))
  · refine aw_aload_n dX8_name_8 rfl ?_
    refine g_X8_26_8 rfl dX8_name_9 ha ?_
    rw [e2]
    refine aw_aload_n dX8_name_12 rfl ?_
    refine g_X8_29_8 rfl dX8_name_13 ha ?_
    rw [e1]
    refine aw_isubr dX8_name_16 (by omega) ?_
    refine aw_bipush dX8_name_17 (by decide) ?_
    refine aw_icmpgt (tgt := 29) dX8_name_19 (by decide) (fun h19 => ?_) (fun h19 => ?_)
    · refine aw_aload_n dX8_name_29 rfl ?_
      refine c_X8_68 rfl dX8_name_30 ha (Nat.le_of_ble_eq_true rfl) (by omega) (C_x_wrong HR (fun ctw fw => ?_))
      refine aK_i ?_
      exact aw_athrow (E := 0) dX8_name_33 hBad ⟨_, rfl, rfl⟩ (ax_out rfl (hF _ _ _ (by unfold nameP; rw [if_neg (by omega)]) fw))
    · refine aw_aload_n dX8_name_22 rfl ?_
      refine c_X8_131 rfl dX8_name_23 ha (Nat.le_of_ble_eq_true rfl) (by omega) (C_x_isKept HR (fun hw => ?_) (fun hw => ?_))
      · refine aK_i ?_
        refine aw_ifeq (tgt := 34) dX8_name_26 (by decide) (fun h => absurd h (by decide)) (fun _ => ?_)
        refine aw_aload_n dX8_name_29 rfl ?_
        refine c_X8_68 rfl dX8_name_30 ha (Nat.le_of_ble_eq_true rfl) (by omega) (C_x_wrong HR (fun ctw fw => ?_))
        refine aK_i ?_
        exact aw_athrow (E := 0) dX8_name_33 hBad ⟨_, rfl, rfl⟩ (ax_out rfl (hF _ _ _ (by unfold nameP; rw [if_neg (by omega)]) fw))
      · refine aK_i ?_
        refine aw_ifeq (tgt := 34) dX8_name_26 (by decide) (fun _ => ?_) (fun h => absurd h (by decide))
        refine aw_lconst0 dX8_name_34 ?_
        refine aw_lstore1 dX8_name_35 (by decide) rfl ?_
        refine aw_aload_n dX8_name_36 rfl ?_
        refine g_X8_29_8 rfl dX8_name_37 ha ?_
        rw [e1]
        refine aw_istore3 dX8_name_40 (by decide) rfl ?_
        have hi : isNm tp n p := ⟨by omega, by omega, hw⟩
        have h0 := L_x_name (d := 8) (kc := 0) (ks := 0) (by omega) HR hi (hQ _ (if_pos hi)) (tE tp n p - tF tp n p).toNat (0 : Nat) (Nat.zero_add _)
        rw [show tF tp n p + ((0 : Nat) : Int) = tF tp n p by omega] at h0
        exact h0
