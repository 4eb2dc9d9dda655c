set_option maxRecDepth 100000
/-! operations, 23: join -/
theorem jn_o {s : Int → Int} {a b t i : Int} (pb : 1 ≤ s (64 + 198 * b) ∧ s (64 + 198 * b) ≤ 12) (hi : i < 64 + 198 * b + 6 ∨ 64 + 198 * b + 6 + 16 * s (64 + 198 * b) ≤ i) (h1 : i ≠ 64 + 198 * b + 1) (h2 : i ≠ 64 + 198 * b + 2) (h7 : i ≠ 7) : jn2 s a b t i = s i := by
  have nb : jn1 s a b (64 + 198 * b) = s (64 + 198 * b) := by
    unfold jn1
    rw [upA_n (by omega), upA_n (by omega)]
  unfold jn2
  rw [upA_n h7, stK_o (by omega) (by rw [nb]; omega)]
  unfold jn1
  rw [upA_n h2, upA_n h1]
theorem jn_h {s : Int → Int} {a b t k i : Int} (pb : 1 ≤ s (64 + 198 * b) ∧ s (64 + 198 * b) ≤ 12) (b0 : 0 ≤ b) (k0 : 0 ≤ k) (i0 : 0 ≤ i) (i1 : i < 6) (h : k ≠ b ∨ i ≠ 1 ∧ i ≠ 2) : jn2 s a b t (64 + 198 * k + i) = s (64 + 198 * k + i) :=
  jn_o pb (by rcases (by omega : k < b ∨ k = b ∨ b < k) with z | z | z <;> omega) (by omega) (by omega) (by omega)
theorem jn_b {s : Int → Int} {a b t : Int} (pb : 1 ≤ s (64 + 198 * b) ∧ s (64 + 198 * b) ≤ 12) (b0 : 0 ≤ b) : jn2 s a b t (64 + 198 * b + 1) = s (64 + 198 * b + 1) + s (64 + 198 * a + 1) := by
  have nb : jn1 s a b (64 + 198 * b) = s (64 + 198 * b) := by
    unfold jn1
    rw [upA_n (by omega), upA_n (by omega)]
  unfold jn2
  rw [upA_n (by omega), stK_o (by omega) (by omega)]
  unfold jn1
  rw [upA_n (by omega), upA_s]
theorem clK_h {s : Int → Int} {a k i : Int} (pa : 1 ≤ s (64 + 198 * a) ∧ s (64 + 198 * a) ≤ 12) (i0 : 0 ≤ i) (i1 : i < 6) : clK s a (64 + 198 * k + i) = s (64 + 198 * k + i) := by
  unfold clK
  rw [if_neg (by rcases (by omega : k < a ∨ k = a ∨ a < k) with z | z | z <;> omega)]
theorem jnM_o {s : Int → Int} {a b t i : Int} (pa : 1 ≤ s (64 + 198 * a) ∧ s (64 + 198 * a) ≤ 12) (pb : 1 ≤ s (64 + 198 * b) ∧ s (64 + 198 * b) ≤ 12) (a0 : 0 ≤ a ∧ a < 4) (b0 : 0 ≤ b ∧ b < 4) (ne : a ≠ b) (hi : i < 64 ∧ i ≠ 7 ∨ 860 ≤ i) : jnM s a b t i = s i := by
  have na : jn2 s a b t (64 + 198 * a) = s (64 + 198 * a) := by
    have q := jn_h (s := s) (a := a) (b := b) (t := t) (k := a) (i := 0) pb b0.1 a0.1 (by omega) (by omega) (Or.inl ne)
    rw [Int.add_zero] at q
    exact q
  unfold jnM
  rw [upA_n (by omega), upA_n (by omega), upA_n (by omega), upA_n (by omega)]
  unfold clK
  rw [na, if_neg (by omega), jn_o pb (by omega) (by omega) (by omega) (by omega)]
theorem jnM_h {s : Int → Int} {a b t k : Int} (pa : 1 ≤ s (64 + 198 * a) ∧ s (64 + 198 * a) ≤ 12) (pb : 1 ≤ s (64 + 198 * b) ∧ s (64 + 198 * b) ≤ 12) (a0 : 0 ≤ a) (b0 : 0 ≤ b) (k0 : 0 ≤ k) (ne : a ≠ b) : jnM s a b t (64 + 198 * k) = s (64 + 198 * k) := by
  have na : jn2 s a b t (64 + 198 * a) = s (64 + 198 * a) := by
    have q := jn_h (s := s) (a := a) (b := b) (t := t) (k := a) (i := 0) pb b0 a0 (by omega) (by omega) (Or.inl ne)
    rw [Int.add_zero] at q
    exact q
  have q := clK_h (s := jn2 s a b t) (a := a) (k := k) (i := 0) (by rw [na]; exact pa) (by omega) (by omega)
  have q2 := jn_h (s := s) (a := a) (b := b) (t := t) (k := k) (i := 0) pb b0 k0 (by omega) (by omega) (by omega)
  rw [Int.add_zero] at q q2
  unfold jnM
  rw [upA_n (by omega), upA_n (by omega), upA_n (by omega), upA_n (by omega), q, q2]
theorem aup_rn_a {ct : Int → Int → Int} {a i v b j : Int} (h : b ≠ a) : aup ct a i v b j = ct b j := aup_n fun z => h z.1
theorem L_x_join3 {own : Int → Int} {sz : Int} {im : Int → aIm} {c4 : Int → Int → Int} {r N : Int → Int} {dd a b hv hw : Int} {Q : aPost} {d kc ks : Nat} (hd : 2 ≤ d) (hR : RT own sz im c4) (H : YR own 0 sz im c4 10 r dd N) (a0 : 0 ≤ a ∧ a < r 0) (b0 : 0 ≤ b ∧ b < r 0) (ne : a ≠ b) (ha : 1 ≤ r (64 + 198 * a) ∧ r (64 + 198 * a) ≤ 12) (ea : c4 ((im 10).2.2 1) a = hv) (eb : c4 ((im 10).2.2 1) b = hw) (K : ∀ ct' : Int → Int → Int, YR own 0 sz im ct' 10 (clK (upA (upA (upA r (64 + 198 * a + 3) (-1)) (64 + 198 * a + 1) 0) (64 + 198 * a + 2) 0) a) dd N → (∀ x j, ¬ (0 ≤ own x ∧ own x < 10) → ct' x j = c4 x j) → ct' 10 0 = c4 10 0 → Q (.inl (some (vI (r (64 + 198 * b + 1))))) (sz, im, ct')) : AW (mq Q) md_X0_join d kc ks 141 [some (vR 0), some (vI a), some (vI b), some (vR hv)] [] (sz, im, c4) := by
  have c0 := H.2.2.2.2.1
  obtain ⟨x9, ehv, Ya, n0a, n10a, -, nv0, nvA, nv10, oA⟩ := H.hv hR (k := a) a0.1 a0.2
  obtain ⟨y9, ehw, Yb, n0b, n10b, -, -, nvB, -, oB⟩ := H.hv hR (k := b) b0.1 b0.2
  rw [ea] at ehv
  rw [eb] at ehw
  subst ehv ehw
  obtain ⟨g1, g2, ⟨g3, g4, g5, g6, g7⟩, -, ga, -⟩ := id Ya
  obtain ⟨u1, u2, ⟨u3, u4, u5, u6, u7⟩, -, gb, -⟩ := id Yb
  have o10 := H.2.1
  have H8 : YR own 0 sz im (aup (aup (aup c4 hv 5 (-1)) hv 3 0) hv 4 0) 10 (upA (upA (upA r (64 + 198 * a + 3) (-1)) (64 + 198 * a + 1) 0) (64 + 198 * a + 2) 0) dd N := ((H.hfld (k := a) (a := hv) (j := 5) (v := -1) a0.1 a0.2 ea (by omega)).hfld (k := a) (a := hv) (j := 3) (v := 0) a0.1 (by rw [upA_n (by omega)]; exact a0.2) (by rw [aup_rn nvA]; exact ea) (by omega)).hfld (k := a) (a := hv) (j := 4) (v := 0) a0.1 (by rw [upA_n (by omega), upA_n (by omega)]; exact a0.2) (by rw [aup_rn nvA, aup_rn nvA]; exact ea) (by omega)
  refine aw_aload_n dX0_join_141 rfl ?_
  refine aw_iconst dX0_join_142 (by decide) ?_
  refine p_X0_280_9 rfl dX0_join_143 g1.1 ?_
  refine aw_aload_n dX0_join_146 rfl ?_
  refine aw_iconst dX0_join_147 (by decide) ?_
  refine p_X0_264_9 rfl dX0_join_148 g1.1 ?_
  refine aw_aload_n dX0_join_151 rfl ?_
  refine aw_iconst dX0_join_152 (by decide) ?_
  refine p_X0_277_9 rfl dX0_join_153 g1.1 ?_
  refine aw_aload_n dX0_join_156 rfl ?_
  refine c_X0_354 rfl dX0_join_157 g1.1 (Nat.le_of_ble_eq_true rfl) (by omega) (C_x_jclears H8 (k := a) a0.1 (by rw [upA_n (by omega), upA_n (by omega), upA_n (by omega)]; exact a0.2) (by rw [aup_rn nvA, aup_rn nvA, aup_rn nvA]; exact ea) (by rw [upA_n (by omega), upA_n (by omega), upA_n (by omega)]; exact ha) (fun ct9 H9 f9 => ?_))
  have F9 : ∀ x j, own x ≠ a → ct9 x j = c4 x j := fun x j hx => by
    have h : x ≠ hv := fun z => hx (by rw [z]; exact ga)
    rw [f9 x j hx, aup_rn h, aup_rn h, aup_rn h]
  have hR9 : RT own sz im ct9 := hR.frame fun t _ _ => F9 1 t (by have := hR.2.2.1.2.1; omega)
  have eb9 : ct9 ((im 10).2.2 1) b = hw := by rw [F9 _ _ (by have := H.2.2.2.1; omega)]; exact eb
  refine aK_v ?_
  refine aw_aload_n dX0_join_160 rfl ?_
  refine aw_iload_n dX0_join_161 rfl ?_
  refine c_X0_172 rfl dX0_join_162 hR.o0 (Nat.le_of_ble_eq_true rfl) (by omega) (C_x_xat2 (a := hw) hR9 H9 (by omega) eb9 ?_)
  refine aK_i ?_
  refine g_X0_264_9 rfl dX0_join_165 u1.1 ?_
  rw [F9 hw 3 (by omega), u3]
  refine aw_ireturn dX0_join_168 rfl ?_
  exact K ct9 H9 (fun x j hx => F9 x j (by omega)) (F9 10 0 (by omega))
theorem L_x_join2 {own : Int → Int} {sz : Int} {im : Int → aIm} {c4 : Int → Int → Int} {r N : Int → Int} {dd a b hv hw : Int} {Q : aPost} {d kc ks : Nat} (hd : 2 ≤ d) (hR : RT own sz im c4) (H : YR own 0 sz im c4 10 r dd N) (a0 : 0 ≤ a ∧ a < r 0) (b0 : 0 ≤ b ∧ b < r 0) (ne : a ≠ b) (ha : 1 ≤ r (64 + 198 * a) ∧ r (64 + 198 * a) ≤ 12) (ea : c4 ((im 10).2.2 1) a = hv) (eb : c4 ((im 10).2.2 1) b = hw) (q : Int) (hq : q = if r (64 + 198 * b + 3) = -1 then r (64 + 198 * a + 3) else r (64 + 198 * b + 3)) (hq1 : -1 ≤ r (64 + 198 * b + 3)) (K : ∀ ct' : Int → Int → Int, YR own 0 sz im ct' 10 (clK (upA (upA (upA (upA r (64 + 198 * b + 3) q) (64 + 198 * a + 3) (-1)) (64 + 198 * a + 1) 0) (64 + 198 * a + 2) 0) a) dd N → (∀ x j, ¬ (0 ≤ own x ∧ own x < 10) → ct' x j = c4 x j) → ct' 10 0 = c4 10 0 → Q (.inl (some (vI (r (64 + 198 * b + 1))))) (sz, im, ct')) : AW (mq Q) md_X0_join d kc ks 118 [some (vR 0), some (vI a), some (vI b), some (vR hv)] [] (sz, im, c4) := by
  have c0 := H.2.2.2.2.1
  obtain ⟨x9, ehv, Ya, n0a, n10a, -, nv0, nvA, nv10, oA⟩ := H.hv hR (k := a) a0.1 a0.2
  obtain ⟨y9, ehw, Yb, n0b, n10b, -, -, nvB, -, oB⟩ := H.hv hR (k := b) b0.1 b0.2
  rw [ea] at ehv
  rw [eb] at ehw
  subst ehv ehw
  obtain ⟨g1, g2, ⟨g3, g4, g5, g6, g7⟩, -, ga, -⟩ := id Ya
  obtain ⟨u1, u2, ⟨u3, u4, u5, u6, u7⟩, -, gb, -⟩ := id Yb
  have o10 := H.2.1
  refine aw_aload_n dX0_join_118 rfl ?_
  refine aw_iload_n dX0_join_119 rfl ?_
  refine c_X0_172 rfl dX0_join_120 hR.o0 (Nat.le_of_ble_eq_true rfl) (by omega) (C_x_xat2 (a := hw) hR H (by omega) eb ?_)
  refine aK_i ?_
  refine g_X0_280_9 rfl dX0_join_123 u1.1 ?_
  first
    | rw [u5]
    | rw [g5]
  refine aw_ifge (tgt := 141) dX0_join_126 (by decide) (fun h126 => ?_) (fun h126 => ?_)
  · rw [if_neg (by omega)] at hq
    have e0 : upA r (64 + 198 * b + 3) q = r := upA_self hq.symm
    rw [e0] at K
    exact L_x_join3 hd hR H a0 b0 ne ha ea eb K
  · refine aw_aload_n dX0_join_129 rfl ?_
    refine aw_iload_n dX0_join_130 rfl ?_
    refine c_X0_172 rfl dX0_join_131 hR.o0 (Nat.le_of_ble_eq_true rfl) (by omega) (C_x_xat2 (a := hw) hR H (by omega) eb ?_)
    refine aK_i ?_
    refine aw_aload_n dX0_join_134 rfl ?_
    refine g_X0_280_9 rfl dX0_join_135 g1.1 ?_
    first
      | rw [u5]
      | rw [g5]
    refine p_X0_280_9 rfl dX0_join_138 u1.1 ?_
    rw [if_pos (by omega)] at hq
    subst hq
    have H5 := H.hfld (k := b) (a := hw) (j := 5) (v := r (64 + 198 * a + 3)) b0.1 b0.2 eb (by omega)
    have hR5 : RT own sz im (aup c4 hw 5 (r (64 + 198 * a + 3))) := hR.frame fun t _ _ => aup_rn_a (fun z => by have := hR.2.2.1.2.1; rw [z] at this; omega)
    refine L_x_join3 (hv := hv) (hw := hw) hd hR5 H5 (by rw [upA_n (by omega)]; exact a0) (by rw [upA_n (by omega)]; exact b0) ne (by rw [upA_n (by omega)]; exact ha) (by rw [aup_rn nvB]; exact ea) (by rw [aup_rn nvB]; exact eb) (fun ct9 H9 f9 l9 => ?_)
    rw [upA_n (by omega)]
    exact K ct9 H9 (fun x j hx => by rw [f9 x j hx, aup_rn (fun z => hx (by rw [z]; exact oB))]) (by rw [l9, aup_rn (fun z => n10b z.symm)])
theorem OP_join {sz : Int} {im : Int → aIm} {ct cm : Int → Int → Int} (h : XR (sz, im, ct) cm) {a b : Int} (r0 : -2147483648 ≤ a ∧ a < 2147483648) (r1 : -2147483648 ≤ b ∧ b < 2147483648)  : AMet md_X0_join 6 0 0 [vR 0, vI a, vI b] (sz, im, ct) (XQ md_X7_join 6 [vR 0, vI a, vI b] cm) := by
  obtain ⟨own, N, hR, HY, HL, HN, HS, HP, HF, HX, hv2, hv3, hv4⟩ := id h
  dsimp only at hR HY HL HS HX hv2 hv3 hv4
  have hp0 := HP.1
  have hp3 := HP.2.1
  have hpq := HP.2.2.2.1.1
  have hps := HP.2.2.2.2.2
  refine AMet.go (L := [some (vR 0), some (vI a), some (vI b), none]) mok_X0_join (Nat.le_of_ble_eq_true rfl) rfl ?_
  refine aw_aload_n dX0_join_0 rfl ?_
  refine aw_aload_n dX0_join_1 rfl ?_
  refine aw_iload_n dX0_join_2 rfl ?_
  refine aw_iload_n dX0_join_3 rfl ?_
  refine c_X0_341 rfl dX0_join_4 hR.o0 (Nat.le_of_ble_eq_true rfl) (by omega) (C_x_areTwo hR HY (fun xt => ?_) (fun xt => ?_))
  · refine aK_i ?_
    refine aw_ifne (tgt := 14) dX0_join_7 (by decide) (fun _ => ?_) (fun h => absurd h (by decide))
    obtain ⟨hv, ehv, ⟨g1, g2, ⟨g3, g4, g5, g6, g7⟩, g8, g9, -⟩, nhv0, nhv10, nhv9, nv0, nvhv, nv10, ohv⟩ := HY.hv hR (k := a) (by omega) (by omega)
    have gn := g1.2.2.2
    have gh := HP.2.2.1 a (by omega) (by omega)
    have gq := gh.2.2.2.2.1
    have gp := HP.pd.2.1 a (by omega) (by omega)
    obtain ⟨hw, ehw, ⟨u1, u2, ⟨u3, u4, u5, u6, u7⟩, u8, u9, -⟩, nhw0, nhw10, nhw9, nv0, nvhw, nv10, ohw⟩ := HY.hv hR (k := b) (by omega) (by omega)
    have un := u1.2.2.2
    have uh := HP.2.2.1 b (by omega) (by omega)
    have uq := uh.2.2.2.2.1
    have up := HP.pd.2.1 b (by omega) (by omega)
    have gh1 := gh.1
    have uh1 := uh.1
    have gb := gp.2.2
    have ub := up.2.2
    refine aw_aload_n dX0_join_14 rfl ?_
    refine aw_iload_n dX0_join_15 rfl ?_
    refine c_X0_172 rfl dX0_join_16 hR.o0 (Nat.le_of_ble_eq_true rfl) (by omega) (C_x_xat2 (a := hv) hR HY (by omega) (by repeat (first | exact ehv | rw [aup_rn nvhv] | rw [aup_rn nv10] | rw [aup_rn nv0])) ?_)
    refine aK_i ?_
    refine g_X0_264_9 rfl dX0_join_19 g1.1 ?_
    repeat (first | rw [aup_s] | rw [aup_n (by omega)])
    first | rw [g3] | rw [u3] | skip
    refine aw_aload_n dX0_join_22 rfl ?_
    refine aw_iload_n dX0_join_23 rfl ?_
    refine c_X0_172 rfl dX0_join_24 hR.o0 (Nat.le_of_ble_eq_true rfl) (by omega) (C_x_xat2 (a := hw) hR HY (by omega) (by repeat (first | exact ehw | rw [aup_rn nvhw] | rw [aup_rn nv10] | rw [aup_rn nv0])) ?_)
    refine aK_i ?_
    refine g_X0_264_9 rfl dX0_join_27 u1.1 ?_
    repeat (first | rw [aup_s] | rw [aup_n (by omega)])
    first | rw [g3] | rw [u3] | skip
    refine aw_iaddr dX0_join_30 (by omega) ?_
    refine aw_ldcw (x := 99999) dX0_join_31 q1139 (by decide) ?_
    refine aw_icmple (tgt := 41) dX0_join_34 (by decide) (fun h34 => ?_) (fun h34 => ?_)
    · refine aw_iconst dX0_join_41 (by decide) ?_
      refine p_X0_73_0 rfl dX0_join_42 hR.o0 ?_
      refine aw_aload_n dX0_join_45 rfl ?_
      refine g_X0_73_0 rfl dX0_join_46 hR.o0 ?_
      repeat (first | rw [aup_s] | rw [aup_n (by omega)])
      refine aw_ifle (tgt := 54) dX0_join_49 (by decide) (fun _ => ?_) (fun h => absurd h (by decide))
      refine aw_aload_n dX0_join_54 rfl ?_
      refine aw_iload_n dX0_join_55 rfl ?_
      refine c_X0_172 rfl dX0_join_56 hR.o0 (Nat.le_of_ble_eq_true rfl) (by omega) (C_x_xat2 (a := hv) hR HY (by omega) (by repeat (first | exact ehv | rw [aup_rn nvhv] | rw [aup_rn nv10] | rw [aup_rn nv0])) ?_)
      refine aK_i ?_
      refine aw_astore3 dX0_join_59 (by decide) rfl ?_
      refine aw_aload_n dX0_join_60 rfl ?_
      refine aw_iload_n dX0_join_61 rfl ?_
      refine c_X0_172 rfl dX0_join_62 hR.o0 (Nat.le_of_ble_eq_true rfl) (by omega) (C_x_xat2 (a := hw) hR HY (by omega) (by repeat (first | exact ehw | rw [aup_rn nvhw] | rw [aup_rn nv10] | rw [aup_rn nv0])) ?_)
      refine aK_i ?_
      refine aw_dup dX0_join_65 rfl ?_
      refine g_X0_264_9 rfl dX0_join_66 u1.1 ?_
      repeat (first | rw [aup_s] | rw [aup_n (by omega)])
      first | rw [g3] | rw [u3] | skip
      refine aw_aload_n dX0_join_69 rfl ?_
      refine g_X0_264_9 rfl dX0_join_70 g1.1 ?_
      repeat (first | rw [aup_s] | rw [aup_n (by omega)])
      first | rw [g3] | rw [u3] | skip
      refine aw_iaddr dX0_join_73 (by omega) ?_
      refine p_X0_264_9 rfl dX0_join_74 u1.1 ?_
      refine aw_aload_n dX0_join_77 rfl ?_
      refine aw_iload_n dX0_join_78 rfl ?_
      refine c_X0_172 rfl dX0_join_79 hR.o0 (Nat.le_of_ble_eq_true rfl) (by omega) (C_x_xat2 (a := hw) hR HY (by omega) (by repeat (first | exact ehw | rw [aup_rn nvhw] | rw [aup_rn nv10] | rw [aup_rn nv0])) ?_)
      refine aK_i ?_
      refine aw_dup dX0_join_82 rfl ?_
      refine g_X0_277_9 rfl dX0_join_83 u1.1 ?_
      repeat (first | rw [aup_s] | rw [aup_n (by omega)])
      first | rw [g4] | rw [u4] | skip
      refine aw_aload_n dX0_join_86 rfl ?_
      refine g_X0_277_9 rfl dX0_join_87 g1.1 ?_
      repeat (first | rw [aup_s] | rw [aup_n (by omega)])
      first | rw [g4] | rw [u4] | skip
      refine aw_iaddr dX0_join_90 (by omega) ?_
      refine p_X0_277_9 rfl dX0_join_91 u1.1 ?_
      have H1 : YR own 0 sz im (aup (aup (aup ct 0 7 0) hw 3 (cm 1 (64 + 198 * b + 1) + cm 1 (64 + 198 * a + 1))) hw 4 (cm 1 (64 + 198 * b + 2) + cm 1 (64 + 198 * a + 2))) 10 (jn1 (cm 1) a b) (cm 1 3) N :=
        ((HY.up0 (j := 7) (v := 0) hR.1.2 (by decide)).hfld (k := b) (a := hw) (j := 3) (v := cm 1 (64 + 198 * b + 1) + cm 1 (64 + 198 * a + 1)) (by omega) (by omega) (by rw [aup_rn nv0]; exact ehw) (by omega)).hfld (k := b) (a := hw) (j := 4) (v := cm 1 (64 + 198 * b + 2) + cm 1 (64 + 198 * a + 2)) (by omega) (by rw [upA_n (by omega)]; omega) (by rw [aup_rn nvhw, aup_rn nv0]; exact ehw) (by omega)
      have j0 : jn1 (cm 1) a b 0 = cm 1 0 := by unfold jn1; rw [upA_n (by omega), upA_n (by omega)]
      have ja : jn1 (cm 1) a b (64 + 198 * a) = cm 1 (64 + 198 * a) := by unfold jn1; rw [upA_n (by omega), upA_n (by omega)]
      have jb : jn1 (cm 1) a b (64 + 198 * b) = cm 1 (64 + 198 * b) := by unfold jn1; rw [upA_n (by omega), upA_n (by omega)]
      have jf : ∀ k i : Int, 0 ≤ i → i < 192 → sh (64 + 198 * k) (jn1 (cm 1) a b) i = sh (64 + 198 * k) (cm 1) i := fun k i i0 i1 => by
        unfold sh jn1
        rw [upA_n (by rcases (by omega : k < b ∨ k = b ∨ b < k) with z | z | z <;> omega), upA_n (by rcases (by omega : k < b ∨ k = b ∨ b < k) with z | z | z <;> omega)]
      have rga : rgF (jn1 (cm 1) a b (64 + 198 * a)) (sh (64 + 198 * a) (jn1 (cm 1) a b)) := fun i i0 i1 => by rw [ja] at i1; rw [jf a i i0 (by omega)]; exact gh.2.1 i i0 i1
      have rgb : rgF (jn1 (cm 1) a b (64 + 198 * b)) (sh (64 + 198 * b) (jn1 (cm 1) a b)) := fun i i0 i1 => by rw [jb] at i1; rw [jf b i i0 (by omega)]; exact uh.2.1 i i0 i1
      have hYa := H1.2.2.2.2.2.2.2 a (by omega) (by omega)
      rw [show aup (aup (aup ct 0 7 0) hw 3 (cm 1 (64 + 198 * b + 1) + cm 1 (64 + 198 * a + 1))) hw 4 (cm 1 (64 + 198 * b + 2) + cm 1 (64 + 198 * a + 2)) ((im 10).2.2 1) a = hv by rw [aup_rn nvhw, aup_rn nvhw, aup_rn nv0]; exact ehv] at hYa
      have eb1 : aup (aup (aup ct 0 7 0) hw 3 (cm 1 (64 + 198 * b + 1) + cm 1 (64 + 198 * a + 1))) hw 4 (cm 1 (64 + 198 * b + 2) + cm 1 (64 + 198 * a + 2)) ((im 10).2.2 1) b = hw := by rw [aup_rn nvhw, aup_rn nvhw, aup_rn nv0]; exact ehw
      have ht9 := isum_bd (g := fun i => sv 0 (sh (64 + 198 * a) (jn1 (cm 1) a b) i)) (B := 100) (n := nF (jn1 (cm 1) a b (64 + 198 * a))) fun i i0 i1 => sv_bd (rga i i0 (by unfold nF at i1; omega)).1
      have hnf : ((nF (jn1 (cm 1) a b (64 + 198 * a)) : Nat) : Int) = 16 * cm 1 (64 + 198 * a) := by rw [ja]; unfold nF; omega
      refine aw_aload_n dX0_join_94 rfl ?_
      refine c_X0_158 rfl dX0_join_95 hR.o0 (Nat.le_of_ble_eq_true rfl) (by omega) (C_x_yard2 hR ?_)
      refine aK_i ?_
      refine aw_dup dX0_join_98 rfl ?_
      refine g_X0_253_5 rfl dX0_join_99 HY.1 ?_
      repeat (first | rw [aup_s] | rw [aup_n (by omega)])
      rw [HY.2.2.2.2.2.1.2.2.2.2.1]
      refine aw_aload_n dX0_join_102 rfl ?_
      refine aw_iload_n dX0_join_103 rfl ?_
      refine c_X0_172 rfl dX0_join_104 hR.o0 (Nat.le_of_ble_eq_true rfl) (by omega) (C_x_xat2 (a := hw) hR HY (by omega) (by repeat (first | exact ehw | rw [aup_rn nvhw] | rw [aup_rn nv10] | rw [aup_rn nv0])) ?_)
      refine aK_i ?_
      refine aw_aload_n dX0_join_107 rfl ?_
      refine c_X0_267 rfl dX0_join_108 g1.1 (Nat.le_of_ble_eq_true rfl) (by omega) (C_x_honey hYa.1 hYa.2.1 rga ?_)
      refine aK_i ?_
      refine c_X0_351 rfl dX0_join_111 u1.1 (Nat.le_of_ble_eq_true rfl) (by omega) (C_x_jstores H1 (k := b) (by omega) (by omega) eb1 (by omega) rgb (by omega) (fun ct3 H3 f3 => ?_))
      refine aK_i ?_
      refine aw_iadd dX0_join_114 ?_
      refine p_X0_253_5 rfl dX0_join_115 HY.1 ?_
      have H4 := H3.spilt (v := w32 (cm 1 7 + stL (jn1 (cm 1) a b) (64 + 198 * b) (isum (fun i => sv 0 (sh (64 + 198 * a) (jn1 (cm 1) a b) i)) (nF (jn1 (cm 1) a b (64 + 198 * a))))))
      have o0 := hR.1.2
      have fX : ∀ x j, ¬ (0 ≤ own x ∧ own x < 10) → ¬ (x = 0 ∧ j = 7) → ct3 x j = ct x j := fun x j hx hz => by
        have h : x ≠ hw := fun z => hx (by rw [z]; exact ohw)
        rw [f3 x j (by omega), aup_rn h, aup_rn h, aup_n hz]
      have f07 : ct3 0 7 = 0 := by rw [f3 0 7 (by omega), aup_rn (fun z => nhw0 z.symm), aup_rn (fun z => nhw0 z.symm), aup_s]
      have o9 := HY.2.2.2.1
      have e10 : ∀ j, ct3 ((im 10).2.2 1) j = ct ((im 10).2.2 1) j := fun j => by rw [f3 _ j (by omega), aup_rn nvhw, aup_rn nvhw, aup_rn nv0]
      have hR4 : RT own sz im (aup ct3 10 6 (w32 (cm 1 7 + stL (jn1 (cm 1) a b) (64 + 198 * b) (isum (fun i => sv 0 (sh (64 + 198 * a) (jn1 (cm 1) a b) i)) (nF (jn1 (cm 1) a b (64 + 198 * a))))))) := hR.frame fun t _ _ => by
        rw [aup_n (by omega)]
        exact fX 1 t (by have := hR.2.2.1.2.1; omega) (by omega)
      have jnb := fun k i (k0 : 0 ≤ k) (i0 : 0 ≤ i) (i1 : i < 6) (h : k ≠ b ∨ i ≠ 1 ∧ i ≠ 2) => jn_h (s := cm 1) (a := a) (b := b) (t := (isum (fun i => sv 0 (sh (64 + 198 * a) (jn1 (cm 1) a b) i)) (nF (jn1 (cm 1) a b (64 + 198 * a))))) (k := k) (i := i) uh1 (by omega) k0 i0 i1 h
      have jna := jnb a 0 (by omega) (by omega) (by omega) (Or.inl (by omega))
      rw [Int.add_zero] at jna
      have jn0 : jn2 (cm 1) a b (isum (fun i => sv 0 (sh (64 + 198 * a) (jn1 (cm 1) a b) i)) (nF (jn1 (cm 1) a b (64 + 198 * a)))) 0 = cm 1 0 := jn_o uh1 (by omega) (by omega) (by omega) (by omega)
      have jnb1 := jn_b (s := cm 1) (a := a) (b := b) (t := (isum (fun i => sv 0 (sh (64 + 198 * a) (jn1 (cm 1) a b) i)) (nF (jn1 (cm 1) a b (64 + 198 * a))))) uh1 (by omega)
      have clh := fun k i (k0 : 0 ≤ k) (i0 : 0 ≤ i) (i1 : i < 6) => clK_h (s := jn2 (cm 1) a b (isum (fun i => sv 0 (sh (64 + 198 * a) (jn1 (cm 1) a b) i)) (nF (jn1 (cm 1) a b (64 + 198 * a))))) (a := a) (k := k) (i := i) (by rw [jna]; exact gh1) i0 i1
      refine L_x_join2 (r := jn2 (cm 1) a b (isum (fun i => sv 0 (sh (64 + 198 * a) (jn1 (cm 1) a b) i)) (nF (jn1 (cm 1) a b (64 + 198 * a))))) (a := a) (b := b) (hv := hv) (hw := hw) (by omega) hR4 H4 (by rw [jn0]; omega) (by rw [jn0]; omega) (by omega) (by rw [jna]; exact gh1) (by rw [aup_rn nv10, e10]; exact ehv) (by rw [aup_rn nv10, e10]; exact ehw) (jnQ (cm 1) a b) (by unfold jnQ; rw [jnb b 3 (by omega) (by omega) (by omega) (by omega), jnb a 3 (by omega) (by omega) (by omega) (by omega)]) (by rw [jnb b 3 (by omega) (by omega) (by omega) (by omega)]; exact uq.1) (fun ct9 H9 f9 l9 => ?_)
      rw [jnX (by rw [jna]; exact gh1) (by omega)] at H9
      rw [jnb1]
      refine ⟨_, rfl, ?_⟩
      refine AMet.go (L := [some (vR 0), some (vI a), some (vI b), none, none, none]) mok_X7_join (Nat.le_of_ble_eq_true rfl) rfl ?_
      refine aw_aload_n dX7_join_0 rfl ?_
      refine aw_iload_n dX7_join_1 rfl ?_
      refine c_X7_274 rfl dX7_join_2 m_ob (Nat.le_of_ble_eq_true rfl) (by omega) (C_m_isHive (fun hh => ?_) (fun hh => ?_))
      · first
          | (exfalso; omega)
          | skip
            refine aK_i ?_
            refine aw_ifeq (tgt := 21) dX7_join_5 (by decide) (fun h => absurd h (by decide)) (fun _ => ?_)
            refine aw_aload_n dX7_join_8 rfl ?_
            refine aw_iload_n dX7_join_9 rfl ?_
            refine c_X7_274 rfl dX7_join_10 m_ob (Nat.le_of_ble_eq_true rfl) (by omega) (C_m_isHive (fun hh => ?_) (fun hh => ?_))
            · first
                | (exfalso; omega)
                | skip
                  refine aK_i ?_
                  refine aw_ifeq (tgt := 21) dX7_join_13 (by decide) (fun h => absurd h (by decide)) (fun _ => ?_)
                  refine aw_iload_n dX7_join_16 rfl ?_
                  refine aw_iload_n dX7_join_17 rfl ?_
                  refine aw_icmpne (tgt := 27) dX7_join_18 (by decide) (fun h18 => ?_) (fun h18 => ?_)
                  · first
                      | (exfalso; omega)
                      | skip
                        refine aw_iload_n dX7_join_27 rfl ?_
                        refine c_X7_217 rfl dX7_join_28  (Nat.le_of_ble_eq_true rfl) (by omega) (C_m_hiveRow (by omega) ?_)
                        refine aK_i ?_
                        refine aw_istore3 dX7_join_31 (by decide) rfl ?_
                        refine aw_iload_n dX7_join_32 rfl ?_
                        refine c_X7_217 rfl dX7_join_33  (Nat.le_of_ble_eq_true rfl) (by omega) (C_m_hiveRow (by omega) ?_)
                        refine aK_i ?_
                        refine aw_istore4 dX7_join_36 (by decide) rfl ?_
                        refine gm_7 rfl dX7_join_38 dX7_join_39 rfl ?_
                        refine aw_iload_n dX7_join_42 rfl ?_
                        refine aw_iconst dX7_join_43 (by decide) ?_
                        refine aw_iaddr dX7_join_44 (by omega) ?_
                        refine aw_iaload dX7_join_45 m_a1 (by omega) (by omega) ?_
                        refine gm_7 rfl dX7_join_46 dX7_join_47 rfl ?_
                        refine aw_iload dX7_join_50 rfl ?_
                        refine aw_iconst dX7_join_52 (by decide) ?_
                        refine aw_iaddr dX7_join_53 (by omega) ?_
                        refine aw_iaload dX7_join_54 m_a1 (by omega) (by omega) ?_
                        refine aw_iaddr dX7_join_55 (by omega) ?_
                        refine aw_ldcw (x := 99999) dX7_join_56 q1876 (by decide) ?_
                        refine aw_icmple (tgt := 68) dX7_join_59 (by decide) (fun h59 => ?_) (fun h59 => ?_)
                        · first
                            | (exfalso; omega)
                            | skip
                              refine gm_7 rfl dX7_join_68 dX7_join_69 rfl ?_
                              refine aw_iload dX7_join_72 rfl ?_
                              refine aw_iconst dX7_join_74 (by decide) ?_
                              refine aw_iaddr dX7_join_75 (by omega) ?_
                              refine aw_dup2 dX7_join_76 rfl rfl ?_
                              refine aw_iaload dX7_join_77 m_a1 (by omega) (by omega) ?_
                              refine gm_7 rfl dX7_join_78 dX7_join_79 rfl ?_
                              refine aw_iload_n dX7_join_82 rfl ?_
                              refine aw_iconst dX7_join_83 (by decide) ?_
                              refine aw_iaddr dX7_join_84 (by omega) ?_
                              refine aw_iaload dX7_join_85 m_a1 (by omega) (by omega) ?_
                              refine aw_iaddr dX7_join_86 (by omega) ?_
                              refine aw_iastore dX7_join_87 m_a1 (by omega) (by omega) ?_
                              refine gm_7 rfl dX7_join_88 dX7_join_89 rfl ?_
                              refine aw_iload dX7_join_92 rfl ?_
                              refine aw_iconst dX7_join_94 (by decide) ?_
                              refine aw_iaddr dX7_join_95 (by omega) ?_
                              refine aw_dup2 dX7_join_96 rfl rfl ?_
                              refine aw_iaload dX7_join_97 m_a1 (by omega) (by omega) ?_
                              rw [aup_n (by omega)]
                              refine gm_7 rfl dX7_join_98 dX7_join_99 rfl ?_
                              refine aw_iload_n dX7_join_102 rfl ?_
                              refine aw_iconst dX7_join_103 (by decide) ?_
                              refine aw_iaddr dX7_join_104 (by omega) ?_
                              refine aw_iaload dX7_join_105 m_a1 (by omega) (by omega) ?_
                              rw [aup_n (by omega)]
                              refine aw_iaddr dX7_join_106 (by omega) ?_
                              refine aw_iastore dX7_join_107 m_a1 (by omega) (by omega) ?_
                              refine gm_7 rfl dX7_join_108 dX7_join_109 rfl ?_
                              refine aw_bipush dX7_join_112 (by decide) ?_
                              refine aw_dup2 dX7_join_114 rfl rfl ?_
                              refine aw_iaload dX7_join_115 m_a1 (by omega) (by omega) ?_
                              rw [aup_n (by omega), aup_n (by omega)]
                              obtain ⟨c2, hc2⟩ : ∃ c2, c2 = aup (aup cm 1 (64 + 198 * b + 1) (cm 1 (64 + 198 * b + 1) + cm 1 (64 + 198 * a + 1))) 1 (64 + 198 * b + 2) (cm 1 (64 + 198 * b + 2) + cm 1 (64 + 198 * a + 2)) := ⟨_, rfl⟩
                              rw [← hc2]
                              have e2 : c2 1 = jn1 (cm 1) a b := by rw [hc2, aup_r, aup_r]; rfl
                              have n2 : ∀ i, i ≠ 1 → c2 i = cm i := fun i hi => by rw [hc2, aup_rn hi, aup_rn hi]
                              have hF2 : Fok c2 := HF.eq (by rw [n2 0 (by decide)]) (n2 9 (by decide))
                              refine aw_aload_n dX7_join_116 rfl ?_
                              refine aw_iload dX7_join_117 rfl ?_
                              refine aw_aload_n dX7_join_119 rfl ?_
                              refine aw_iload_n dX7_join_120 rfl ?_
                              refine aw_iconst dX7_join_121 (by decide) ?_
                              refine c_X7_283 rfl dX7_join_122 m_ob (Nat.le_of_ble_eq_true rfl) (by omega) (C_m_sumOf (n := jn1 (cm 1) a b (64 + 198 * a)) (by rw [e2]) (by rw [ja]; exact gh1) (by rw [ja]; omega) (by rw [e2]; exact rga) ?_)
                              rw [e2]
                              refine aK_i ?_
                              refine c_X7_188 rfl dX7_join_125 m_ob (Nat.le_of_ble_eq_true rfl) (by omega) (C_m_stores (n := jn1 (cm 1) a b (64 + 198 * b)) hF2 (by rw [e2]) (by rw [jb]; exact uh.1) (by rw [jb]; omega) (by omega) (by rw [e2]; exact rgb) (fun c3 hF3 e3 f3m => ?_))
                              rw [e2] at e3
                              rw [e2]
                              show aK _ _ _ _ _ _ _ _ (.inl (some (vI (stL (jn1 (cm 1) a b) (64 + 198 * b) (isum (fun i => sv 0 (sh (64 + 198 * a) (jn1 (cm 1) a b) i)) (nF (jn1 (cm 1) a b (64 + 198 * a)))))))) _
                              replace e3 : c3 1 = stK (jn1 (cm 1) a b) (64 + 198 * b) (isum (fun i => sv 0 (sh (64 + 198 * a) (jn1 (cm 1) a b) i)) (nF (jn1 (cm 1) a b (64 + 198 * a)))) := e3
                              refine aK_i ?_
                              refine aw_iadd dX7_join_128 ?_
                              refine aw_iastore dX7_join_129 m_a1 (by omega) (by omega) ?_
                              refine aw_iconst dX7_join_130 (by decide) ?_
                              refine aw_istore5 dX7_join_131 (by decide) rfl ?_
                              obtain ⟨c4, hc4⟩ : ∃ c4, c4 = aup c3 1 7 (w32 (cm 1 7 + stL (jn1 (cm 1) a b) (64 + 198 * b) (isum (fun i => sv 0 (sh (64 + 198 * a) (jn1 (cm 1) a b) i)) (nF (jn1 (cm 1) a b (64 + 198 * a)))))) := ⟨_, rfl⟩
                              rw [← hc4]
                              have e4 : c4 1 = jn2 (cm 1) a b (isum (fun i => sv 0 (sh (64 + 198 * a) (jn1 (cm 1) a b) i)) (nF (jn1 (cm 1) a b (64 + 198 * a)))) := by rw [hc4, aup_r, e3]; rfl
                              have n4 : mfr c2 c4 := by rw [hc4]; exact f3m.up1
                              refine L_m_jclr (n := cm 1 (64 + 198 * a)) (by omega) (by rw [e4]; exact jna) gh1 (fun c5 x5 e5 n5 => ?_) (16 * cm 1 (64 + 198 * a)).toNat 0 c4 (by omega) (fun i => by rw [if_neg (by omega)]) (fun _ _ => rfl)
                              rw [e4] at e5
                              have q3b : c5 1 (64 + 198 * b + 3) = cm 1 (64 + 198 * b + 3) := by rw [e5, clh b 3 (by omega) (by omega) (by omega)]; exact jnb b 3 (by omega) (by omega) (by omega) (by omega)
                              have q3a : c5 1 (64 + 198 * a + 3) = cm 1 (64 + 198 * a + 3) := by rw [e5, clh a 3 (by omega) (by omega) (by omega)]; exact jnb a 3 (by omega) (by omega) (by omega) (by omega)
                              have q1b : c5 1 (64 + 198 * b + 1) = cm 1 (64 + 198 * b + 1) + cm 1 (64 + 198 * a + 1) := by rw [e5, clh b 1 (by omega) (by omega) (by omega)]; exact jnb1
                              have x0 : ∀ i, i = 3 ∨ i = 4 ∨ i = 10 ∨ i = 16 ∨ i = 17 ∨ i = 34 ∨ i = 35 → c5 0 i = cm 0 i := fun i hi => by rw [n5 0 (by decide), n4.2 i (by omega), n2 0 (by decide)]
                              have xb : ∀ i, i ≠ 0 → i ≠ 1 → i ≠ 9 → c5 i = cm i := fun i h0 h1 h9 => by rw [n5 i h1, n4.1 i h0 h1 h9, n2 i h1]
                              have hF5 : Fok c5 := by
                                have q : Fok c4 := by rw [hc4]; exact hF3.up1.ok
                                exact q.eq (by rw [n5 0 (by decide)]) (n5 9 (by decide))
                              refine gm_7 rfl dX7_join_166 dX7_join_167 rfl ?_
                              refine aw_iload dX7_join_170 rfl ?_
                              refine aw_iconst dX7_join_172 (by decide) ?_
                              refine aw_iaddr dX7_join_173 (by omega) ?_
                              refine aw_iaload dX7_join_174 m_a1 (by omega) (by omega) ?_
                              rw [q3b]
                              refine aw_iconst dX7_join_175 (by decide) ?_
                              refine aw_icmpne (tgt := 196) dX7_join_176 (by decide) (fun h176 => ?_) (fun h176 => ?_)
                              · first
                                  | (exfalso; omega)
                                  | skip
                                    refine gm_7 rfl dX7_join_196 dX7_join_197 rfl ?_
                                    refine aw_iload_n dX7_join_200 rfl ?_
                                    refine aw_iconst dX7_join_201 (by decide) ?_
                                    refine aw_iaddr dX7_join_202 (by omega) ?_
                                    refine aw_iconst dX7_join_203 (by decide) ?_
                                    refine aw_iastore dX7_join_204 m_a1 (by omega) (by omega) ?_
                                    refine gm_7 rfl dX7_join_205 dX7_join_206 rfl ?_
                                    refine aw_iload_n dX7_join_209 rfl ?_
                                    refine aw_iconst dX7_join_210 (by decide) ?_
                                    refine aw_iaddr dX7_join_211 (by omega) ?_
                                    refine aw_iconst dX7_join_212 (by decide) ?_
                                    refine aw_iastore dX7_join_213 m_a1 (by omega) (by omega) ?_
                                    refine gm_7 rfl dX7_join_214 dX7_join_215 rfl ?_
                                    refine aw_iload_n dX7_join_218 rfl ?_
                                    refine aw_iconst dX7_join_219 (by decide) ?_
                                    refine aw_iaddr dX7_join_220 (by omega) ?_
                                    refine aw_iconst dX7_join_221 (by decide) ?_
                                    refine aw_iastore dX7_join_222 m_a1 (by omega) (by omega) ?_
                                    refine aw_aload_n dX7_join_223 rfl ?_
                                    refine gm_7 rfl dX7_join_224 dX7_join_225 rfl ?_
                                    refine aw_iload dX7_join_228 rfl ?_
                                    refine aw_iconst dX7_join_230 (by decide) ?_
                                    refine aw_iaddr dX7_join_231 (by omega) ?_
                                    refine aw_iaload dX7_join_232 m_a1 (by omega) (by omega) ?_
                                    (repeat rw [aup_n (by omega)])
                                    rw [q1b]
                                    refine c_X7_76 rfl dX7_join_233 m_ob (Nat.le_of_ble_eq_true rfl) (by omega) (C_m_gives ?_)
                                    refine aK_i ?_
                                    refine aw_ireturn dX7_join_236 rfl ?_
                                    refine ⟨vI_eq (by first | rfl | omega), _, rfl, XR.yd (jnM (cm 1) a b (isum (fun i => sv 0 (sh (64 + 198 * a) (jn1 (cm 1) a b) i)) (nF (jn1 (cm 1) a b (64 + 198 * a))))) hR HX HL HN HS HP ?_ ?_ ?_ ?_ ?_ ?_ ?_ ?_ ?_ ?_ ?_ ?_ ?_⟩
                                    · rw [aup_rn (by decide)]
                                      first
                                        | (rw [aup_r, aup_r, aup_r, aup_r, e5]; unfold jnM jnQ; rw [if_pos (by omega)]; done)
                                        | (rw [aup_r, aup_r, aup_r, e5]; unfold jnM; rw [upA_self (s := clK _ a) (i := 64 + 198 * b + 3) (by rw [clh b 3 (by omega) (by omega) (by omega), jnb b 3 (by omega) (by omega) (by omega) (by omega)]; unfold jnQ; rw [if_neg (by omega)])])
                                    · rw [jnM_o gh1 uh1 (by omega) (by omega) (by omega) (by omega)]; exact H9
                                    · intro i hi
                                      exact jnM_o gh1 uh1 (by omega) (by omega) (by omega) (by omega)
                                    · intro k k0 k1
                                      exact jnM_h gh1 uh1 (by omega) (by omega) k0 (by omega)
                                    · exact HP.join (by omega) (by omega) (by omega) (by omega) (by omega) ht9.1
                                    · exact hF5.eq (by rw [aup_n (by omega)]; (repeat rw [aup_rn (by decide)])) (by repeat rw [aup_rn (by decide)])
                                    · intro x j hx hz
                                      rw [f9 x j hx, aup_n (fun z => hx (by rw [z.1]; have := HY.2.1; omega))]
                                      exact fX x j hx (fun z => hz ⟨z.1, Or.inl z.2⟩)
                                    · rw [l9, aup_n (by omega), f3 10 0 (by have := HY.2.1; omega), aup_rn (fun z => nhw10 z.symm), aup_rn (fun z => nhw10 z.symm), aup_n (by omega)]
                                    · intro i b0 b1 b9
                                      rw [aup_rn b0]
                                      (repeat rw [aup_rn b1])
                                      exact xb i b0 b1 b9
                                    · intro i hi
                                      rw [aup_n (by omega)]
                                      (repeat rw [aup_rn (by decide)])
                                      exact x0 i (by omega)
                                    · rw [f9 0 7 (by omega), aup_n (by omega), f07, aup_s]
                                    · rw [f9 0 8 (by omega), aup_n (by omega), fX 0 8 (by omega) (by omega), aup_n (by omega)]
                                      (repeat rw [aup_rn (by decide)])
                                      rw [x0 3 (by omega)]; exact hv3
                                    · rw [f9 0 9 (by omega), aup_n (by omega), fX 0 9 (by omega) (by omega), aup_n (by omega)]
                                      (repeat rw [aup_rn (by decide)])
                                      rw [x0 4 (by omega)]; exact hv4
                              · first
                                  | (exfalso; omega)
                                  | skip
                                    refine gm_7 rfl dX7_join_179 dX7_join_180 rfl ?_
                                    refine aw_iload dX7_join_183 rfl ?_
                                    refine aw_iconst dX7_join_185 (by decide) ?_
                                    refine aw_iaddr dX7_join_186 (by omega) ?_
                                    refine gm_7 rfl dX7_join_187 dX7_join_188 rfl ?_
                                    refine aw_iload_n dX7_join_191 rfl ?_
                                    refine aw_iconst dX7_join_192 (by decide) ?_
                                    refine aw_iaddr dX7_join_193 (by omega) ?_
                                    refine aw_iaload dX7_join_194 m_a1 (by omega) (by omega) ?_
                                    rw [q3a]
                                    refine aw_iastore dX7_join_195 m_a1 (by omega) (by omega) ?_
                                    refine gm_7 rfl dX7_join_196 dX7_join_197 rfl ?_
                                    refine aw_iload_n dX7_join_200 rfl ?_
                                    refine aw_iconst dX7_join_201 (by decide) ?_
                                    refine aw_iaddr dX7_join_202 (by omega) ?_
                                    refine aw_iconst dX7_join_203 (by decide) ?_
                                    refine aw_iastore dX7_join_204 m_a1 (by omega) (by omega) ?_
                                    refine gm_7 rfl dX7_join_205 dX7_join_206 rfl ?_
                                    refine aw_iload_n dX7_join_209 rfl ?_
                                    refine aw_iconst dX7_join_210 (by decide) ?_
                                    refine aw_iaddr dX7_join_211 (by omega) ?_
                                    refine aw_iconst dX7_join_212 (by decide) ?_
                                    refine aw_iastore dX7_join_213 m_a1 (by omega) (by omega) ?_
                                    refine gm_7 rfl dX7_join_214 dX7_join_215 rfl ?_
                                    refine aw_iload_n dX7_join_218 rfl ?_
                                    refine aw_iconst dX7_join_219 (by decide) ?_
                                    refine aw_iaddr dX7_join_220 (by omega) ?_
                                    refine aw_iconst dX7_join_221 (by decide) ?_
                                    refine aw_iastore dX7_join_222 m_a1 (by omega) (by omega) ?_
                                    refine aw_aload_n dX7_join_223 rfl ?_
                                    refine gm_7 rfl dX7_join_224 dX7_join_225 rfl ?_
                                    refine aw_iload dX7_join_228 rfl ?_
                                    refine aw_iconst dX7_join_230 (by decide) ?_
                                    refine aw_iaddr dX7_join_231 (by omega) ?_
                                    refine aw_iaload dX7_join_232 m_a1 (by omega) (by omega) ?_
                                    (repeat rw [aup_n (by omega)])
                                    rw [q1b]
                                    refine c_X7_76 rfl dX7_join_233 m_ob (Nat.le_of_ble_eq_true rfl) (by omega) (C_m_gives ?_)
                                    refine aK_i ?_
                                    refine aw_ireturn dX7_join_236 rfl ?_
                                    refine ⟨vI_eq (by first | rfl | omega), _, rfl, XR.yd (jnM (cm 1) a b (isum (fun i => sv 0 (sh (64 + 198 * a) (jn1 (cm 1) a b) i)) (nF (jn1 (cm 1) a b (64 + 198 * a))))) hR HX HL HN HS HP ?_ ?_ ?_ ?_ ?_ ?_ ?_ ?_ ?_ ?_ ?_ ?_ ?_⟩
                                    · rw [aup_rn (by decide)]
                                      first
                                        | (rw [aup_r, aup_r, aup_r, aup_r, e5]; unfold jnM jnQ; rw [if_pos (by omega)]; done)
                                        | (rw [aup_r, aup_r, aup_r, e5]; unfold jnM; rw [upA_self (s := clK _ a) (i := 64 + 198 * b + 3) (by rw [clh b 3 (by omega) (by omega) (by omega), jnb b 3 (by omega) (by omega) (by omega) (by omega)]; unfold jnQ; rw [if_neg (by omega)])])
                                    · rw [jnM_o gh1 uh1 (by omega) (by omega) (by omega) (by omega)]; exact H9
                                    · intro i hi
                                      exact jnM_o gh1 uh1 (by omega) (by omega) (by omega) (by omega)
                                    · intro k k0 k1
                                      exact jnM_h gh1 uh1 (by omega) (by omega) k0 (by omega)
                                    · exact HP.join (by omega) (by omega) (by omega) (by omega) (by omega) ht9.1
                                    · exact hF5.eq (by rw [aup_n (by omega)]; (repeat rw [aup_rn (by decide)])) (by repeat rw [aup_rn (by decide)])
                                    · intro x j hx hz
                                      rw [f9 x j hx, aup_n (fun z => hx (by rw [z.1]; have := HY.2.1; omega))]
                                      exact fX x j hx (fun z => hz ⟨z.1, Or.inl z.2⟩)
                                    · rw [l9, aup_n (by omega), f3 10 0 (by have := HY.2.1; omega), aup_rn (fun z => nhw10 z.symm), aup_rn (fun z => nhw10 z.symm), aup_n (by omega)]
                                    · intro i b0 b1 b9
                                      rw [aup_rn b0]
                                      (repeat rw [aup_rn b1])
                                      exact xb i b0 b1 b9
                                    · intro i hi
                                      rw [aup_n (by omega)]
                                      (repeat rw [aup_rn (by decide)])
                                      exact x0 i (by omega)
                                    · rw [f9 0 7 (by omega), aup_n (by omega), f07, aup_s]
                                    · rw [f9 0 8 (by omega), aup_n (by omega), fX 0 8 (by omega) (by omega), aup_n (by omega)]
                                      (repeat rw [aup_rn (by decide)])
                                      rw [x0 3 (by omega)]; exact hv3
                                    · rw [f9 0 9 (by omega), aup_n (by omega), fX 0 9 (by omega) (by omega), aup_n (by omega)]
                                      (repeat rw [aup_rn (by decide)])
                                      rw [x0 4 (by omega)]; exact hv4
                        · first
                            | (exfalso; omega)
                            | skip
                              refine aw_aload_n dX7_join_62 rfl ?_
                              refine aw_iconst dX7_join_63 (by decide) ?_
                              refine c_X7_72 rfl dX7_join_64 m_ob (Nat.le_of_ble_eq_true rfl) (by omega) (C_m_refuse ?_)
                              refine aK_i ?_
                              refine aw_ireturn dX7_join_67 rfl ?_
                              first
                                | (exfalso; omega)
                                | (refine XR.sameE h ?_ ?_ ?_ ?_ ?_ ?_
                                   · first
                                       | rfl
                                       | omega
                                   · repeat (first | exact xs.rf | refine xs.up ?_ (by decide))
                                   · repeat (first | exact mss.rf | refine mss.up0 ?_ (by decide))
                                   · first
                                       | (simp [aup, hv2, hv3, hv4]; done)
                                       | (simp [aup, hv2, hv3, hv4]; omega)
                                   · simp [aup, hv2, hv3, hv4]
                                   · simp [aup, hv2, hv3, hv4])
                  · first
                      | (exfalso; omega)
                      | skip
                        refine aw_aload_n dX7_join_21 rfl ?_
                        refine aw_iconst dX7_join_22 (by decide) ?_
                        refine c_X7_72 rfl dX7_join_23 m_ob (Nat.le_of_ble_eq_true rfl) (by omega) (C_m_refuse ?_)
                        refine aK_i ?_
                        refine aw_ireturn dX7_join_26 rfl ?_
                        first
                          | (exfalso; omega)
                          | (refine XR.sameE h ?_ ?_ ?_ ?_ ?_ ?_
                             · first
                                 | rfl
                                 | omega
                             · repeat (first | exact xs.rf | refine xs.up ?_ (by decide))
                             · repeat (first | exact mss.rf | refine mss.up0 ?_ (by decide))
                             · first
                                 | (simp [aup, hv2, hv3, hv4]; done)
                                 | (simp [aup, hv2, hv3, hv4]; omega)
                             · simp [aup, hv2, hv3, hv4]
                             · simp [aup, hv2, hv3, hv4])
            · first
                | (exfalso; omega)
                | skip
                  refine aK_i ?_
                  refine aw_ifeq (tgt := 21) dX7_join_13 (by decide) (fun _ => ?_) (fun h => absurd h (by decide))
                  refine aw_aload_n dX7_join_21 rfl ?_
                  refine aw_iconst dX7_join_22 (by decide) ?_
                  refine c_X7_72 rfl dX7_join_23 m_ob (Nat.le_of_ble_eq_true rfl) (by omega) (C_m_refuse ?_)
                  refine aK_i ?_
                  refine aw_ireturn dX7_join_26 rfl ?_
                  first
                    | (exfalso; omega)
                    | (refine XR.sameE h ?_ ?_ ?_ ?_ ?_ ?_
                       · first
                           | rfl
                           | omega
                       · repeat (first | exact xs.rf | refine xs.up ?_ (by decide))
                       · repeat (first | exact mss.rf | refine mss.up0 ?_ (by decide))
                       · first
                           | (simp [aup, hv2, hv3, hv4]; done)
                           | (simp [aup, hv2, hv3, hv4]; omega)
                       · simp [aup, hv2, hv3, hv4]
                       · simp [aup, hv2, hv3, hv4])
      · first
          | (exfalso; omega)
          | skip
            refine aK_i ?_
            refine aw_ifeq (tgt := 21) dX7_join_5 (by decide) (fun _ => ?_) (fun h => absurd h (by decide))
            refine aw_aload_n dX7_join_21 rfl ?_
            refine aw_iconst dX7_join_22 (by decide) ?_
            refine c_X7_72 rfl dX7_join_23 m_ob (Nat.le_of_ble_eq_true rfl) (by omega) (C_m_refuse ?_)
            refine aK_i ?_
            refine aw_ireturn dX7_join_26 rfl ?_
            first
              | (exfalso; omega)
              | (refine XR.sameE h ?_ ?_ ?_ ?_ ?_ ?_
                 · first
                     | rfl
                     | omega
                 · repeat (first | exact xs.rf | refine xs.up ?_ (by decide))
                 · repeat (first | exact mss.rf | refine mss.up0 ?_ (by decide))
                 · first
                     | (simp [aup, hv2, hv3, hv4]; done)
                     | (simp [aup, hv2, hv3, hv4]; omega)
                 · simp [aup, hv2, hv3, hv4]
                 · simp [aup, hv2, hv3, hv4])
    · refine aw_iconst dX0_join_37 (by decide) ?_
      refine aw_goto (tgt := 42) dX0_join_38 (by decide) ?_
      refine p_X0_73_0 rfl dX0_join_42 hR.o0 ?_
      refine aw_aload_n dX0_join_45 rfl ?_
      refine g_X0_73_0 rfl dX0_join_46 hR.o0 ?_
      repeat (first | rw [aup_s] | rw [aup_n (by omega)])
      refine aw_ifle (tgt := 54) dX0_join_49 (by decide) (fun h => absurd h (by decide)) (fun _ => ?_)
      refine aw_iconst dX0_join_52 (by decide) ?_
      refine aw_ireturn dX0_join_53 rfl ?_
      refine ⟨_, rfl, ?_⟩
      refine AMet.go (L := [some (vR 0), some (vI a), some (vI b), none, none, none]) mok_X7_join (Nat.le_of_ble_eq_true rfl) rfl ?_
      refine aw_aload_n dX7_join_0 rfl ?_
      refine aw_iload_n dX7_join_1 rfl ?_
      refine c_X7_274 rfl dX7_join_2 m_ob (Nat.le_of_ble_eq_true rfl) (by omega) (C_m_isHive (fun hh => ?_) (fun hh => ?_))
      · first
          | (exfalso; omega)
          | skip
            refine aK_i ?_
            refine aw_ifeq (tgt := 21) dX7_join_5 (by decide) (fun h => absurd h (by decide)) (fun _ => ?_)
            refine aw_aload_n dX7_join_8 rfl ?_
            refine aw_iload_n dX7_join_9 rfl ?_
            refine c_X7_274 rfl dX7_join_10 m_ob (Nat.le_of_ble_eq_true rfl) (by omega) (C_m_isHive (fun hh => ?_) (fun hh => ?_))
            · first
                | (exfalso; omega)
                | skip
                  refine aK_i ?_
                  refine aw_ifeq (tgt := 21) dX7_join_13 (by decide) (fun h => absurd h (by decide)) (fun _ => ?_)
                  refine aw_iload_n dX7_join_16 rfl ?_
                  refine aw_iload_n dX7_join_17 rfl ?_
                  refine aw_icmpne (tgt := 27) dX7_join_18 (by decide) (fun h18 => ?_) (fun h18 => ?_)
                  · first
                      | (exfalso; omega)
                      | skip
                        refine aw_iload_n dX7_join_27 rfl ?_
                        refine c_X7_217 rfl dX7_join_28  (Nat.le_of_ble_eq_true rfl) (by omega) (C_m_hiveRow (by omega) ?_)
                        refine aK_i ?_
                        refine aw_istore3 dX7_join_31 (by decide) rfl ?_
                        refine aw_iload_n dX7_join_32 rfl ?_
                        refine c_X7_217 rfl dX7_join_33  (Nat.le_of_ble_eq_true rfl) (by omega) (C_m_hiveRow (by omega) ?_)
                        refine aK_i ?_
                        refine aw_istore4 dX7_join_36 (by decide) rfl ?_
                        refine gm_7 rfl dX7_join_38 dX7_join_39 rfl ?_
                        refine aw_iload_n dX7_join_42 rfl ?_
                        refine aw_iconst dX7_join_43 (by decide) ?_
                        refine aw_iaddr dX7_join_44 (by omega) ?_
                        refine aw_iaload dX7_join_45 m_a1 (by omega) (by omega) ?_
                        refine gm_7 rfl dX7_join_46 dX7_join_47 rfl ?_
                        refine aw_iload dX7_join_50 rfl ?_
                        refine aw_iconst dX7_join_52 (by decide) ?_
                        refine aw_iaddr dX7_join_53 (by omega) ?_
                        refine aw_iaload dX7_join_54 m_a1 (by omega) (by omega) ?_
                        refine aw_iaddr dX7_join_55 (by omega) ?_
                        refine aw_ldcw (x := 99999) dX7_join_56 q1876 (by decide) ?_
                        refine aw_icmple (tgt := 68) dX7_join_59 (by decide) (fun h59 => ?_) (fun h59 => ?_)
                        · first
                            | (exfalso; omega)
                            | skip
                              refine gm_7 rfl dX7_join_68 dX7_join_69 rfl ?_
                              refine aw_iload dX7_join_72 rfl ?_
                              refine aw_iconst dX7_join_74 (by decide) ?_
                              refine aw_iaddr dX7_join_75 (by omega) ?_
                              refine aw_dup2 dX7_join_76 rfl rfl ?_
                              refine aw_iaload dX7_join_77 m_a1 (by omega) (by omega) ?_
                              refine gm_7 rfl dX7_join_78 dX7_join_79 rfl ?_
                              refine aw_iload_n dX7_join_82 rfl ?_
                              refine aw_iconst dX7_join_83 (by decide) ?_
                              refine aw_iaddr dX7_join_84 (by omega) ?_
                              refine aw_iaload dX7_join_85 m_a1 (by omega) (by omega) ?_
                              refine aw_iaddr dX7_join_86 (by omega) ?_
                              refine aw_iastore dX7_join_87 m_a1 (by omega) (by omega) ?_
                              refine gm_7 rfl dX7_join_88 dX7_join_89 rfl ?_
                              refine aw_iload dX7_join_92 rfl ?_
                              refine aw_iconst dX7_join_94 (by decide) ?_
                              refine aw_iaddr dX7_join_95 (by omega) ?_
                              refine aw_dup2 dX7_join_96 rfl rfl ?_
                              refine aw_iaload dX7_join_97 m_a1 (by omega) (by omega) ?_
                              rw [aup_n (by omega)]
                              refine gm_7 rfl dX7_join_98 dX7_join_99 rfl ?_
                              refine aw_iload_n dX7_join_102 rfl ?_
                              refine aw_iconst dX7_join_103 (by decide) ?_
                              refine aw_iaddr dX7_join_104 (by omega) ?_
                              refine aw_iaload dX7_join_105 m_a1 (by omega) (by omega) ?_
                              rw [aup_n (by omega)]
                              refine aw_iaddr dX7_join_106 (by omega) ?_
                              refine aw_iastore dX7_join_107 m_a1 (by omega) (by omega) ?_
                              refine gm_7 rfl dX7_join_108 dX7_join_109 rfl ?_
                              refine aw_bipush dX7_join_112 (by decide) ?_
                              refine aw_dup2 dX7_join_114 rfl rfl ?_
                              refine aw_iaload dX7_join_115 m_a1 (by omega) (by omega) ?_
                              rw [aup_n (by omega), aup_n (by omega)]
                              obtain ⟨c2, hc2⟩ : ∃ c2, c2 = aup (aup cm 1 (64 + 198 * b + 1) (cm 1 (64 + 198 * b + 1) + cm 1 (64 + 198 * a + 1))) 1 (64 + 198 * b + 2) (cm 1 (64 + 198 * b + 2) + cm 1 (64 + 198 * a + 2)) := ⟨_, rfl⟩
                              rw [← hc2]
                              have e2 : c2 1 = jn1 (cm 1) a b := by rw [hc2, aup_r, aup_r]; rfl
                              have n2 : ∀ i, i ≠ 1 → c2 i = cm i := fun i hi => by rw [hc2, aup_rn hi, aup_rn hi]
                              have hF2 : Fok c2 := HF.eq (by rw [n2 0 (by decide)]) (n2 9 (by decide))
                              refine aw_aload_n dX7_join_116 rfl ?_
                              refine aw_iload dX7_join_117 rfl ?_
                              refine aw_aload_n dX7_join_119 rfl ?_
                              refine aw_iload_n dX7_join_120 rfl ?_
                              refine aw_iconst dX7_join_121 (by decide) ?_
                              refine c_X7_283 rfl dX7_join_122 m_ob (Nat.le_of_ble_eq_true rfl) (by omega) (C_m_sumOf (n := jn1 (cm 1) a b (64 + 198 * a)) (by rw [e2]) (by rw [ja]; exact gh1) (by rw [ja]; omega) (by rw [e2]; exact rga) ?_)
                              rw [e2]
                              refine aK_i ?_
                              refine c_X7_188 rfl dX7_join_125 m_ob (Nat.le_of_ble_eq_true rfl) (by omega) (C_m_stores (n := jn1 (cm 1) a b (64 + 198 * b)) hF2 (by rw [e2]) (by rw [jb]; exact uh.1) (by rw [jb]; omega) (by omega) (by rw [e2]; exact rgb) (fun c3 hF3 e3 f3m => ?_))
                              rw [e2] at e3
                              rw [e2]
                              show aK _ _ _ _ _ _ _ _ (.inl (some (vI (stL (jn1 (cm 1) a b) (64 + 198 * b) (isum (fun i => sv 0 (sh (64 + 198 * a) (jn1 (cm 1) a b) i)) (nF (jn1 (cm 1) a b (64 + 198 * a)))))))) _
                              replace e3 : c3 1 = stK (jn1 (cm 1) a b) (64 + 198 * b) (isum (fun i => sv 0 (sh (64 + 198 * a) (jn1 (cm 1) a b) i)) (nF (jn1 (cm 1) a b (64 + 198 * a)))) := e3
                              refine aK_i ?_
                              refine aw_iadd dX7_join_128 ?_
                              refine aw_iastore dX7_join_129 m_a1 (by omega) (by omega) ?_
                              refine aw_iconst dX7_join_130 (by decide) ?_
                              refine aw_istore5 dX7_join_131 (by decide) rfl ?_
                              obtain ⟨c4, hc4⟩ : ∃ c4, c4 = aup c3 1 7 (w32 (cm 1 7 + stL (jn1 (cm 1) a b) (64 + 198 * b) (isum (fun i => sv 0 (sh (64 + 198 * a) (jn1 (cm 1) a b) i)) (nF (jn1 (cm 1) a b (64 + 198 * a)))))) := ⟨_, rfl⟩
                              rw [← hc4]
                              have e4 : c4 1 = jn2 (cm 1) a b (isum (fun i => sv 0 (sh (64 + 198 * a) (jn1 (cm 1) a b) i)) (nF (jn1 (cm 1) a b (64 + 198 * a)))) := by rw [hc4, aup_r, e3]; rfl
                              have n4 : mfr c2 c4 := by rw [hc4]; exact f3m.up1
                              refine L_m_jclr (n := cm 1 (64 + 198 * a)) (by omega) (by rw [e4]; exact jna) gh1 (fun c5 x5 e5 n5 => ?_) (16 * cm 1 (64 + 198 * a)).toNat 0 c4 (by omega) (fun i => by rw [if_neg (by omega)]) (fun _ _ => rfl)
                              rw [e4] at e5
                              have q3b : c5 1 (64 + 198 * b + 3) = cm 1 (64 + 198 * b + 3) := by rw [e5, clh b 3 (by omega) (by omega) (by omega)]; exact jnb b 3 (by omega) (by omega) (by omega) (by omega)
                              have q3a : c5 1 (64 + 198 * a + 3) = cm 1 (64 + 198 * a + 3) := by rw [e5, clh a 3 (by omega) (by omega) (by omega)]; exact jnb a 3 (by omega) (by omega) (by omega) (by omega)
                              have q1b : c5 1 (64 + 198 * b + 1) = cm 1 (64 + 198 * b + 1) + cm 1 (64 + 198 * a + 1) := by rw [e5, clh b 1 (by omega) (by omega) (by omega)]; exact jnb1
                              have x0 : ∀ i, i = 3 ∨ i = 4 ∨ i = 10 ∨ i = 16 ∨ i = 17 ∨ i = 34 ∨ i = 35 → c5 0 i = cm 0 i := fun i hi => by rw [n5 0 (by decide), n4.2 i (by omega), n2 0 (by decide)]
                              have xb : ∀ i, i ≠ 0 → i ≠ 1 → i ≠ 9 → c5 i = cm i := fun i h0 h1 h9 => by rw [n5 i h1, n4.1 i h0 h1 h9, n2 i h1]
                              have hF5 : Fok c5 := by
                                have q : Fok c4 := by rw [hc4]; exact hF3.up1.ok
                                exact q.eq (by rw [n5 0 (by decide)]) (n5 9 (by decide))
                              refine gm_7 rfl dX7_join_166 dX7_join_167 rfl ?_
                              refine aw_iload dX7_join_170 rfl ?_
                              refine aw_iconst dX7_join_172 (by decide) ?_
                              refine aw_iaddr dX7_join_173 (by omega) ?_
                              refine aw_iaload dX7_join_174 m_a1 (by omega) (by omega) ?_
                              rw [q3b]
                              refine aw_iconst dX7_join_175 (by decide) ?_
                              refine aw_icmpne (tgt := 196) dX7_join_176 (by decide) (fun h176 => ?_) (fun h176 => ?_)
                              · first
                                  | (exfalso; omega)
                                  | skip
                                    refine gm_7 rfl dX7_join_196 dX7_join_197 rfl ?_
                                    refine aw_iload_n dX7_join_200 rfl ?_
                                    refine aw_iconst dX7_join_201 (by decide) ?_
                                    refine aw_iaddr dX7_join_202 (by omega) ?_
                                    refine aw_iconst dX7_join_203 (by decide) ?_
                                    refine aw_iastore dX7_join_204 m_a1 (by omega) (by omega) ?_
                                    refine gm_7 rfl dX7_join_205 dX7_join_206 rfl ?_
                                    refine aw_iload_n dX7_join_209 rfl ?_
                                    refine aw_iconst dX7_join_210 (by decide) ?_
                                    refine aw_iaddr dX7_join_211 (by omega) ?_
                                    refine aw_iconst dX7_join_212 (by decide) ?_
                                    refine aw_iastore dX7_join_213 m_a1 (by omega) (by omega) ?_
                                    refine gm_7 rfl dX7_join_214 dX7_join_215 rfl ?_
                                    refine aw_iload_n dX7_join_218 rfl ?_
                                    refine aw_iconst dX7_join_219 (by decide) ?_
                                    refine aw_iaddr dX7_join_220 (by omega) ?_
                                    refine aw_iconst dX7_join_221 (by decide) ?_
                                    refine aw_iastore dX7_join_222 m_a1 (by omega) (by omega) ?_
                                    refine aw_aload_n dX7_join_223 rfl ?_
                                    refine gm_7 rfl dX7_join_224 dX7_join_225 rfl ?_
                                    refine aw_iload dX7_join_228 rfl ?_
                                    refine aw_iconst dX7_join_230 (by decide) ?_
                                    refine aw_iaddr dX7_join_231 (by omega) ?_
                                    refine aw_iaload dX7_join_232 m_a1 (by omega) (by omega) ?_
                                    (repeat rw [aup_n (by omega)])
                                    rw [q1b]
                                    refine c_X7_76 rfl dX7_join_233 m_ob (Nat.le_of_ble_eq_true rfl) (by omega) (C_m_gives ?_)
                                    refine aK_i ?_
                                    refine aw_ireturn dX7_join_236 rfl ?_
                                    refine ⟨vI_eq (by first | rfl | omega), _, rfl, XR.yd (jnM (cm 1) a b (isum (fun i => sv 0 (sh (64 + 198 * a) (jn1 (cm 1) a b) i)) (nF (jn1 (cm 1) a b (64 + 198 * a))))) hR HX HL HN HS HP ?_ ?_ ?_ ?_ ?_ ?_ ?_ ?_ ?_ ?_ ?_ ?_ ?_⟩
                                    · rw [aup_rn (by decide)]
                                      first
                                        | (rw [aup_r, aup_r, aup_r, aup_r, e5]; unfold jnM jnQ; rw [if_pos (by omega)]; done)
                                        | (rw [aup_r, aup_r, aup_r, e5]; unfold jnM; rw [upA_self (s := clK _ a) (i := 64 + 198 * b + 3) (by rw [clh b 3 (by omega) (by omega) (by omega), jnb b 3 (by omega) (by omega) (by omega) (by omega)]; unfold jnQ; rw [if_neg (by omega)])])
                                    · rw [jnM_o gh1 uh1 (by omega) (by omega) (by omega) (by omega)]; exact H9
                                    · intro i hi
                                      exact jnM_o gh1 uh1 (by omega) (by omega) (by omega) (by omega)
                                    · intro k k0 k1
                                      exact jnM_h gh1 uh1 (by omega) (by omega) k0 (by omega)
                                    · exact HP.join (by omega) (by omega) (by omega) (by omega) (by omega) ht9.1
                                    · exact hF5.eq (by rw [aup_n (by omega)]; (repeat rw [aup_rn (by decide)])) (by repeat rw [aup_rn (by decide)])
                                    · intro x j hx hz
                                      rw [f9 x j hx, aup_n (fun z => hx (by rw [z.1]; have := HY.2.1; omega))]
                                      exact fX x j hx (fun z => hz ⟨z.1, Or.inl z.2⟩)
                                    · rw [l9, aup_n (by omega), f3 10 0 (by have := HY.2.1; omega), aup_rn (fun z => nhw10 z.symm), aup_rn (fun z => nhw10 z.symm), aup_n (by omega)]
                                    · intro i b0 b1 b9
                                      rw [aup_rn b0]
                                      (repeat rw [aup_rn b1])
                                      exact xb i b0 b1 b9
                                    · intro i hi
                                      rw [aup_n (by omega)]
                                      (repeat rw [aup_rn (by decide)])
                                      exact x0 i (by omega)
                                    · rw [f9 0 7 (by omega), aup_n (by omega), f07, aup_s]
                                    · rw [f9 0 8 (by omega), aup_n (by omega), fX 0 8 (by omega) (by omega), aup_n (by omega)]
                                      (repeat rw [aup_rn (by decide)])
                                      rw [x0 3 (by omega)]; exact hv3
                                    · rw [f9 0 9 (by omega), aup_n (by omega), fX 0 9 (by omega) (by omega), aup_n (by omega)]
                                      (repeat rw [aup_rn (by decide)])
                                      rw [x0 4 (by omega)]; exact hv4
                              · first
                                  | (exfalso; omega)
                                  | skip
                                    refine gm_7 rfl dX7_join_179 dX7_join_180 rfl ?_
                                    refine aw_iload dX7_join_183 rfl ?_
                                    refine aw_iconst dX7_join_185 (by decide) ?_
                                    refine aw_iaddr dX7_join_186 (by omega) ?_
                                    refine gm_7 rfl dX7_join_187 dX7_join_188 rfl ?_
                                    refine aw_iload_n dX7_join_191 rfl ?_
                                    refine aw_iconst dX7_join_192 (by decide) ?_
                                    refine aw_iaddr dX7_join_193 (by omega) ?_
                                    refine aw_iaload dX7_join_194 m_a1 (by omega) (by omega) ?_
                                    rw [q3a]
                                    refine aw_iastore dX7_join_195 m_a1 (by omega) (by omega) ?_
                                    refine gm_7 rfl dX7_join_196 dX7_join_197 rfl ?_
                                    refine aw_iload_n dX7_join_200 rfl ?_
                                    refine aw_iconst dX7_join_201 (by decide) ?_
                                    refine aw_iaddr dX7_join_202 (by omega) ?_
                                    refine aw_iconst dX7_join_203 (by decide) ?_
                                    refine aw_iastore dX7_join_204 m_a1 (by omega) (by omega) ?_
                                    refine gm_7 rfl dX7_join_205 dX7_join_206 rfl ?_
                                    refine aw_iload_n dX7_join_209 rfl ?_
                                    refine aw_iconst dX7_join_210 (by decide) ?_
                                    refine aw_iaddr dX7_join_211 (by omega) ?_
                                    refine aw_iconst dX7_join_212 (by decide) ?_
                                    refine aw_iastore dX7_join_213 m_a1 (by omega) (by omega) ?_
                                    refine gm_7 rfl dX7_join_214 dX7_join_215 rfl ?_
                                    refine aw_iload_n dX7_join_218 rfl ?_
                                    refine aw_iconst dX7_join_219 (by decide) ?_
                                    refine aw_iaddr dX7_join_220 (by omega) ?_
                                    refine aw_iconst dX7_join_221 (by decide) ?_
                                    refine aw_iastore dX7_join_222 m_a1 (by omega) (by omega) ?_
                                    refine aw_aload_n dX7_join_223 rfl ?_
                                    refine gm_7 rfl dX7_join_224 dX7_join_225 rfl ?_
                                    refine aw_iload dX7_join_228 rfl ?_
                                    refine aw_iconst dX7_join_230 (by decide) ?_
                                    refine aw_iaddr dX7_join_231 (by omega) ?_
                                    refine aw_iaload dX7_join_232 m_a1 (by omega) (by omega) ?_
                                    (repeat rw [aup_n (by omega)])
                                    rw [q1b]
                                    refine c_X7_76 rfl dX7_join_233 m_ob (Nat.le_of_ble_eq_true rfl) (by omega) (C_m_gives ?_)
                                    refine aK_i ?_
                                    refine aw_ireturn dX7_join_236 rfl ?_
                                    refine ⟨vI_eq (by first | rfl | omega), _, rfl, XR.yd (jnM (cm 1) a b (isum (fun i => sv 0 (sh (64 + 198 * a) (jn1 (cm 1) a b) i)) (nF (jn1 (cm 1) a b (64 + 198 * a))))) hR HX HL HN HS HP ?_ ?_ ?_ ?_ ?_ ?_ ?_ ?_ ?_ ?_ ?_ ?_ ?_⟩
                                    · rw [aup_rn (by decide)]
                                      first
                                        | (rw [aup_r, aup_r, aup_r, aup_r, e5]; unfold jnM jnQ; rw [if_pos (by omega)]; done)
                                        | (rw [aup_r, aup_r, aup_r, e5]; unfold jnM; rw [upA_self (s := clK _ a) (i := 64 + 198 * b + 3) (by rw [clh b 3 (by omega) (by omega) (by omega), jnb b 3 (by omega) (by omega) (by omega) (by omega)]; unfold jnQ; rw [if_neg (by omega)])])
                                    · rw [jnM_o gh1 uh1 (by omega) (by omega) (by omega) (by omega)]; exact H9
                                    · intro i hi
                                      exact jnM_o gh1 uh1 (by omega) (by omega) (by omega) (by omega)
                                    · intro k k0 k1
                                      exact jnM_h gh1 uh1 (by omega) (by omega) k0 (by omega)
                                    · exact HP.join (by omega) (by omega) (by omega) (by omega) (by omega) ht9.1
                                    · exact hF5.eq (by rw [aup_n (by omega)]; (repeat rw [aup_rn (by decide)])) (by repeat rw [aup_rn (by decide)])
                                    · intro x j hx hz
                                      rw [f9 x j hx, aup_n (fun z => hx (by rw [z.1]; have := HY.2.1; omega))]
                                      exact fX x j hx (fun z => hz ⟨z.1, Or.inl z.2⟩)
                                    · rw [l9, aup_n (by omega), f3 10 0 (by have := HY.2.1; omega), aup_rn (fun z => nhw10 z.symm), aup_rn (fun z => nhw10 z.symm), aup_n (by omega)]
                                    · intro i b0 b1 b9
                                      rw [aup_rn b0]
                                      (repeat rw [aup_rn b1])
                                      exact xb i b0 b1 b9
                                    · intro i hi
                                      rw [aup_n (by omega)]
                                      (repeat rw [aup_rn (by decide)])
                                      exact x0 i (by omega)
                                    · rw [f9 0 7 (by omega), aup_n (by omega), f07, aup_s]
                                    · rw [f9 0 8 (by omega), aup_n (by omega), fX 0 8 (by omega) (by omega), aup_n (by omega)]
                                      (repeat rw [aup_rn (by decide)])
                                      rw [x0 3 (by omega)]; exact hv3
                                    · rw [f9 0 9 (by omega), aup_n (by omega), fX 0 9 (by omega) (by omega), aup_n (by omega)]
                                      (repeat rw [aup_rn (by decide)])
                                      rw [x0 4 (by omega)]; exact hv4
                        · first
                            | (exfalso; omega)
                            | skip
                              refine aw_aload_n dX7_join_62 rfl ?_
                              refine aw_iconst dX7_join_63 (by decide) ?_
                              refine c_X7_72 rfl dX7_join_64 m_ob (Nat.le_of_ble_eq_true rfl) (by omega) (C_m_refuse ?_)
                              refine aK_i ?_
                              refine aw_ireturn dX7_join_67 rfl ?_
                              first
                                | (exfalso; omega)
                                | (refine XR.sameE h ?_ ?_ ?_ ?_ ?_ ?_
                                   · first
                                       | rfl
                                       | omega
                                   · repeat (first | exact xs.rf | refine xs.up ?_ (by decide))
                                   · repeat (first | exact mss.rf | refine mss.up0 ?_ (by decide))
                                   · first
                                       | (simp [aup, hv2, hv3, hv4]; done)
                                       | (simp [aup, hv2, hv3, hv4]; omega)
                                   · simp [aup, hv2, hv3, hv4]
                                   · simp [aup, hv2, hv3, hv4])
                  · first
                      | (exfalso; omega)
                      | skip
                        refine aw_aload_n dX7_join_21 rfl ?_
                        refine aw_iconst dX7_join_22 (by decide) ?_
                        refine c_X7_72 rfl dX7_join_23 m_ob (Nat.le_of_ble_eq_true rfl) (by omega) (C_m_refuse ?_)
                        refine aK_i ?_
                        refine aw_ireturn dX7_join_26 rfl ?_
                        first
                          | (exfalso; omega)
                          | (refine XR.sameE h ?_ ?_ ?_ ?_ ?_ ?_
                             · first
                                 | rfl
                                 | omega
                             · repeat (first | exact xs.rf | refine xs.up ?_ (by decide))
                             · repeat (first | exact mss.rf | refine mss.up0 ?_ (by decide))
                             · first
                                 | (simp [aup, hv2, hv3, hv4]; done)
                                 | (simp [aup, hv2, hv3, hv4]; omega)
                             · simp [aup, hv2, hv3, hv4]
                             · simp [aup, hv2, hv3, hv4])
            · first
                | (exfalso; omega)
                | skip
                  refine aK_i ?_
                  refine aw_ifeq (tgt := 21) dX7_join_13 (by decide) (fun _ => ?_) (fun h => absurd h (by decide))
                  refine aw_aload_n dX7_join_21 rfl ?_
                  refine aw_iconst dX7_join_22 (by decide) ?_
                  refine c_X7_72 rfl dX7_join_23 m_ob (Nat.le_of_ble_eq_true rfl) (by omega) (C_m_refuse ?_)
                  refine aK_i ?_
                  refine aw_ireturn dX7_join_26 rfl ?_
                  first
                    | (exfalso; omega)
                    | (refine XR.sameE h ?_ ?_ ?_ ?_ ?_ ?_
                       · first
                           | rfl
                           | omega
                       · repeat (first | exact xs.rf | refine xs.up ?_ (by decide))
                       · repeat (first | exact mss.rf | refine mss.up0 ?_ (by decide))
                       · first
                           | (simp [aup, hv2, hv3, hv4]; done)
                           | (simp [aup, hv2, hv3, hv4]; omega)
                       · simp [aup, hv2, hv3, hv4]
                       · simp [aup, hv2, hv3, hv4])
      · first
          | (exfalso; omega)
          | skip
            refine aK_i ?_
            refine aw_ifeq (tgt := 21) dX7_join_5 (by decide) (fun _ => ?_) (fun h => absurd h (by decide))
            refine aw_aload_n dX7_join_21 rfl ?_
            refine aw_iconst dX7_join_22 (by decide) ?_
            refine c_X7_72 rfl dX7_join_23 m_ob (Nat.le_of_ble_eq_true rfl) (by omega) (C_m_refuse ?_)
            refine aK_i ?_
            refine aw_ireturn dX7_join_26 rfl ?_
            first
              | (exfalso; omega)
              | (refine XR.sameE h ?_ ?_ ?_ ?_ ?_ ?_
                 · first
                     | rfl
                     | omega
                 · repeat (first | exact xs.rf | refine xs.up ?_ (by decide))
                 · repeat (first | exact mss.rf | refine mss.up0 ?_ (by decide))
                 · first
                     | (simp [aup, hv2, hv3, hv4]; done)
                     | (simp [aup, hv2, hv3, hv4]; omega)
                 · simp [aup, hv2, hv3, hv4]
                 · simp [aup, hv2, hv3, hv4])
  · refine aK_i ?_
    refine aw_ifne (tgt := 14) dX0_join_7 (by decide) (fun h => absurd h (by decide)) (fun _ => ?_)
    refine aw_iconst dX0_join_10 (by decide) ?_
    refine aw_goto (tgt := 42) dX0_join_11 (by decide) ?_
    refine p_X0_73_0 rfl dX0_join_42 hR.o0 ?_
    refine aw_aload_n dX0_join_45 rfl ?_
    refine g_X0_73_0 rfl dX0_join_46 hR.o0 ?_
    repeat (first | rw [aup_s] | rw [aup_n (by omega)])
    refine aw_ifle (tgt := 54) dX0_join_49 (by decide) (fun h => absurd h (by decide)) (fun _ => ?_)
    refine aw_iconst dX0_join_52 (by decide) ?_
    refine aw_ireturn dX0_join_53 rfl ?_
    refine ⟨_, rfl, ?_⟩
    refine AMet.go (L := [some (vR 0), some (vI a), some (vI b), none, none, none]) mok_X7_join (Nat.le_of_ble_eq_true rfl) rfl ?_
    refine aw_aload_n dX7_join_0 rfl ?_
    refine aw_iload_n dX7_join_1 rfl ?_
    refine c_X7_274 rfl dX7_join_2 m_ob (Nat.le_of_ble_eq_true rfl) (by omega) (C_m_isHive (fun hh => ?_) (fun hh => ?_))
    · first
        | (exfalso; omega)
        | skip
          refine aK_i ?_
          refine aw_ifeq (tgt := 21) dX7_join_5 (by decide) (fun h => absurd h (by decide)) (fun _ => ?_)
          refine aw_aload_n dX7_join_8 rfl ?_
          refine aw_iload_n dX7_join_9 rfl ?_
          refine c_X7_274 rfl dX7_join_10 m_ob (Nat.le_of_ble_eq_true rfl) (by omega) (C_m_isHive (fun hh => ?_) (fun hh => ?_))
          · first
              | (exfalso; omega)
              | skip
                refine aK_i ?_
                refine aw_ifeq (tgt := 21) dX7_join_13 (by decide) (fun h => absurd h (by decide)) (fun _ => ?_)
                refine aw_iload_n dX7_join_16 rfl ?_
                refine aw_iload_n dX7_join_17 rfl ?_
                refine aw_icmpne (tgt := 27) dX7_join_18 (by decide) (fun h18 => ?_) (fun h18 => ?_)
                · first
                    | (exfalso; omega)
                    | skip
                      refine aw_iload_n dX7_join_27 rfl ?_
                      refine c_X7_217 rfl dX7_join_28  (Nat.le_of_ble_eq_true rfl) (by omega) (C_m_hiveRow (by omega) ?_)
                      refine aK_i ?_
                      refine aw_istore3 dX7_join_31 (by decide) rfl ?_
                      refine aw_iload_n dX7_join_32 rfl ?_
                      refine c_X7_217 rfl dX7_join_33  (Nat.le_of_ble_eq_true rfl) (by omega) (C_m_hiveRow (by omega) ?_)
                      refine aK_i ?_
                      refine aw_istore4 dX7_join_36 (by decide) rfl ?_
                      refine gm_7 rfl dX7_join_38 dX7_join_39 rfl ?_
                      refine aw_iload_n dX7_join_42 rfl ?_
                      refine aw_iconst dX7_join_43 (by decide) ?_
                      refine aw_iaddr dX7_join_44 (by omega) ?_
                      refine aw_iaload dX7_join_45 m_a1 (by omega) (by omega) ?_
                      refine gm_7 rfl dX7_join_46 dX7_join_47 rfl ?_
                      refine aw_iload dX7_join_50 rfl ?_
                      refine aw_iconst dX7_join_52 (by decide) ?_
                      refine aw_iaddr dX7_join_53 (by omega) ?_
                      refine aw_iaload dX7_join_54 m_a1 (by omega) (by omega) ?_
                      refine aw_iaddr dX7_join_55 (by omega) ?_
                      refine aw_ldcw (x := 99999) dX7_join_56 q1876 (by decide) ?_
                      refine aw_icmple (tgt := 68) dX7_join_59 (by decide) (fun h59 => ?_) (fun h59 => ?_)
                      · first
                          | (exfalso; omega)
                          | skip
                            refine gm_7 rfl dX7_join_68 dX7_join_69 rfl ?_
                            refine aw_iload dX7_join_72 rfl ?_
                            refine aw_iconst dX7_join_74 (by decide) ?_
                            refine aw_iaddr dX7_join_75 (by omega) ?_
                            refine aw_dup2 dX7_join_76 rfl rfl ?_
                            refine aw_iaload dX7_join_77 m_a1 (by omega) (by omega) ?_
                            refine gm_7 rfl dX7_join_78 dX7_join_79 rfl ?_
                            refine aw_iload_n dX7_join_82 rfl ?_
                            refine aw_iconst dX7_join_83 (by decide) ?_
                            refine aw_iaddr dX7_join_84 (by omega) ?_
                            refine aw_iaload dX7_join_85 m_a1 (by omega) (by omega) ?_
                            refine aw_iaddr dX7_join_86 (by omega) ?_
                            refine aw_iastore dX7_join_87 m_a1 (by omega) (by omega) ?_
                            refine gm_7 rfl dX7_join_88 dX7_join_89 rfl ?_
                            refine aw_iload dX7_join_92 rfl ?_
                            refine aw_iconst dX7_join_94 (by decide) ?_
                            refine aw_iaddr dX7_join_95 (by omega) ?_
                            refine aw_dup2 dX7_join_96 rfl rfl ?_
                            refine aw_iaload dX7_join_97 m_a1 (by omega) (by omega) ?_
                            rw [aup_n (by omega)]
                            refine gm_7 rfl dX7_join_98 dX7_join_99 rfl ?_
                            refine aw_iload_n dX7_join_102 rfl ?_
                            refine aw_iconst dX7_join_103 (by decide) ?_
                            refine aw_iaddr dX7_join_104 (by omega) ?_
                            refine aw_iaload dX7_join_105 m_a1 (by omega) (by omega) ?_
                            rw [aup_n (by omega)]
                            refine aw_iaddr dX7_join_106 (by omega) ?_
                            refine aw_iastore dX7_join_107 m_a1 (by omega) (by omega) ?_
                            refine gm_7 rfl dX7_join_108 dX7_join_109 rfl ?_
                            refine aw_bipush dX7_join_112 (by decide) ?_
                            refine aw_dup2 dX7_join_114 rfl rfl ?_
                            refine aw_iaload dX7_join_115 m_a1 (by omega) (by omega) ?_
                            rw [aup_n (by omega), aup_n (by omega)]
                            obtain ⟨c2, hc2⟩ : ∃ c2, c2 = aup (aup cm 1 (64 + 198 * b + 1) (cm 1 (64 + 198 * b + 1) + cm 1 (64 + 198 * a + 1))) 1 (64 + 198 * b + 2) (cm 1 (64 + 198 * b + 2) + cm 1 (64 + 198 * a + 2)) := ⟨_, rfl⟩
                            rw [← hc2]
                            have e2 : c2 1 = jn1 (cm 1) a b := by rw [hc2, aup_r, aup_r]; rfl
                            have n2 : ∀ i, i ≠ 1 → c2 i = cm i := fun i hi => by rw [hc2, aup_rn hi, aup_rn hi]
                            have hF2 : Fok c2 := HF.eq (by rw [n2 0 (by decide)]) (n2 9 (by decide))
                            refine aw_aload_n dX7_join_116 rfl ?_
                            refine aw_iload dX7_join_117 rfl ?_
                            refine aw_aload_n dX7_join_119 rfl ?_
                            refine aw_iload_n dX7_join_120 rfl ?_
                            refine aw_iconst dX7_join_121 (by decide) ?_
                            refine c_X7_283 rfl dX7_join_122 m_ob (Nat.le_of_ble_eq_true rfl) (by omega) (C_m_sumOf (n := jn1 (cm 1) a b (64 + 198 * a)) (by rw [e2]) (by rw [ja]; exact gh1) (by rw [ja]; omega) (by rw [e2]; exact rga) ?_)
                            rw [e2]
                            refine aK_i ?_
                            refine c_X7_188 rfl dX7_join_125 m_ob (Nat.le_of_ble_eq_true rfl) (by omega) (C_m_stores (n := jn1 (cm 1) a b (64 + 198 * b)) hF2 (by rw [e2]) (by rw [jb]; exact uh.1) (by rw [jb]; omega) (by omega) (by rw [e2]; exact rgb) (fun c3 hF3 e3 f3m => ?_))
                            rw [e2] at e3
                            rw [e2]
                            show aK _ _ _ _ _ _ _ _ (.inl (some (vI (stL (jn1 (cm 1) a b) (64 + 198 * b) (isum (fun i => sv 0 (sh (64 + 198 * a) (jn1 (cm 1) a b) i)) (nF (jn1 (cm 1) a b (64 + 198 * a)))))))) _
                            replace e3 : c3 1 = stK (jn1 (cm 1) a b) (64 + 198 * b) (isum (fun i => sv 0 (sh (64 + 198 * a) (jn1 (cm 1) a b) i)) (nF (jn1 (cm 1) a b (64 + 198 * a)))) := e3
                            refine aK_i ?_
                            refine aw_iadd dX7_join_128 ?_
                            refine aw_iastore dX7_join_129 m_a1 (by omega) (by omega) ?_
                            refine aw_iconst dX7_join_130 (by decide) ?_
                            refine aw_istore5 dX7_join_131 (by decide) rfl ?_
                            obtain ⟨c4, hc4⟩ : ∃ c4, c4 = aup c3 1 7 (w32 (cm 1 7 + stL (jn1 (cm 1) a b) (64 + 198 * b) (isum (fun i => sv 0 (sh (64 + 198 * a) (jn1 (cm 1) a b) i)) (nF (jn1 (cm 1) a b (64 + 198 * a)))))) := ⟨_, rfl⟩
                            rw [← hc4]
                            have e4 : c4 1 = jn2 (cm 1) a b (isum (fun i => sv 0 (sh (64 + 198 * a) (jn1 (cm 1) a b) i)) (nF (jn1 (cm 1) a b (64 + 198 * a)))) := by rw [hc4, aup_r, e3]; rfl
                            have n4 : mfr c2 c4 := by rw [hc4]; exact f3m.up1
                            refine L_m_jclr (n := cm 1 (64 + 198 * a)) (by omega) (by rw [e4]; exact jna) gh1 (fun c5 x5 e5 n5 => ?_) (16 * cm 1 (64 + 198 * a)).toNat 0 c4 (by omega) (fun i => by rw [if_neg (by omega)]) (fun _ _ => rfl)
                            rw [e4] at e5
                            have q3b : c5 1 (64 + 198 * b + 3) = cm 1 (64 + 198 * b + 3) := by rw [e5, clh b 3 (by omega) (by omega) (by omega)]; exact jnb b 3 (by omega) (by omega) (by omega) (by omega)
                            have q3a : c5 1 (64 + 198 * a + 3) = cm 1 (64 + 198 * a + 3) := by rw [e5, clh a 3 (by omega) (by omega) (by omega)]; exact jnb a 3 (by omega) (by omega) (by omega) (by omega)
                            have q1b : c5 1 (64 + 198 * b + 1) = cm 1 (64 + 198 * b + 1) + cm 1 (64 + 198 * a + 1) := by rw [e5, clh b 1 (by omega) (by omega) (by omega)]; exact jnb1
                            have x0 : ∀ i, i = 3 ∨ i = 4 ∨ i = 10 ∨ i = 16 ∨ i = 17 ∨ i = 34 ∨ i = 35 → c5 0 i = cm 0 i := fun i hi => by rw [n5 0 (by decide), n4.2 i (by omega), n2 0 (by decide)]
                            have xb : ∀ i, i ≠ 0 → i ≠ 1 → i ≠ 9 → c5 i = cm i := fun i h0 h1 h9 => by rw [n5 i h1, n4.1 i h0 h1 h9, n2 i h1]
                            have hF5 : Fok c5 := by
                              have q : Fok c4 := by rw [hc4]; exact hF3.up1.ok
                              exact q.eq (by rw [n5 0 (by decide)]) (n5 9 (by decide))
                            refine gm_7 rfl dX7_join_166 dX7_join_167 rfl ?_
                            refine aw_iload dX7_join_170 rfl ?_
                            refine aw_iconst dX7_join_172 (by decide) ?_
                            refine aw_iaddr dX7_join_173 (by omega) ?_
                            refine aw_iaload dX7_join_174 m_a1 (by omega) (by omega) ?_
                            rw [q3b]
                            refine aw_iconst dX7_join_175 (by decide) ?_
                            refine aw_icmpne (tgt := 196) dX7_join_176 (by decide) (fun h176 => ?_) (fun h176 => ?_)
                            · first
                                | (exfalso; omega)
                                | skip
                                  refine gm_7 rfl dX7_join_196 dX7_join_197 rfl ?_
                                  refine aw_iload_n dX7_join_200 rfl ?_
                                  refine aw_iconst dX7_join_201 (by decide) ?_
                                  refine aw_iaddr dX7_join_202 (by omega) ?_
                                  refine aw_iconst dX7_join_203 (by decide) ?_
                                  refine aw_iastore dX7_join_204 m_a1 (by omega) (by omega) ?_
                                  refine gm_7 rfl dX7_join_205 dX7_join_206 rfl ?_
                                  refine aw_iload_n dX7_join_209 rfl ?_
                                  refine aw_iconst dX7_join_210 (by decide) ?_
                                  refine aw_iaddr dX7_join_211 (by omega) ?_
                                  refine aw_iconst dX7_join_212 (by decide) ?_
                                  refine aw_iastore dX7_join_213 m_a1 (by omega) (by omega) ?_
                                  refine gm_7 rfl dX7_join_214 dX7_join_215 rfl ?_
                                  refine aw_iload_n dX7_join_218 rfl ?_
                                  refine aw_iconst dX7_join_219 (by decide) ?_
                                  refine aw_iaddr dX7_join_220 (by omega) ?_
                                  refine aw_iconst dX7_join_221 (by decide) ?_
                                  refine aw_iastore dX7_join_222 m_a1 (by omega) (by omega) ?_
                                  refine aw_aload_n dX7_join_223 rfl ?_
                                  refine gm_7 rfl dX7_join_224 dX7_join_225 rfl ?_
                                  refine aw_iload dX7_join_228 rfl ?_
                                  refine aw_iconst dX7_join_230 (by decide) ?_
                                  refine aw_iaddr dX7_join_231 (by omega) ?_
                                  refine aw_iaload dX7_join_232 m_a1 (by omega) (by omega) ?_
                                  (repeat rw [aup_n (by omega)])
                                  rw [q1b]
                                  refine c_X7_76 rfl dX7_join_233 m_ob (Nat.le_of_ble_eq_true rfl) (by omega) (C_m_gives ?_)
                                  refine aK_i ?_
                                  refine aw_ireturn dX7_join_236 rfl ?_
                                  refine ⟨vI_eq (by first | rfl | omega), _, rfl, XR.yd (jnM (cm 1) a b (isum (fun i => sv 0 (sh (64 + 198 * a) (jn1 (cm 1) a b) i)) (nF (jn1 (cm 1) a b (64 + 198 * a))))) hR HX HL HN HS HP ?_ ?_ ?_ ?_ ?_ ?_ ?_ ?_ ?_ ?_ ?_ ?_ ?_⟩
                                  · rw [aup_rn (by decide)]
                                    first
                                      | (rw [aup_r, aup_r, aup_r, aup_r, e5]; unfold jnM jnQ; rw [if_pos (by omega)]; done)
                                      | (rw [aup_r, aup_r, aup_r, e5]; unfold jnM; rw [upA_self (s := clK _ a) (i := 64 + 198 * b + 3) (by rw [clh b 3 (by omega) (by omega) (by omega), jnb b 3 (by omega) (by omega) (by omega) (by omega)]; unfold jnQ; rw [if_neg (by omega)])])
                                  · rw [jnM_o gh1 uh1 (by omega) (by omega) (by omega) (by omega)]; exact H9
                                  · intro i hi
                                    exact jnM_o gh1 uh1 (by omega) (by omega) (by omega) (by omega)
                                  · intro k k0 k1
                                    exact jnM_h gh1 uh1 (by omega) (by omega) k0 (by omega)
                                  · exact HP.join (by omega) (by omega) (by omega) (by omega) (by omega) ht9.1
                                  · exact hF5.eq (by rw [aup_n (by omega)]; (repeat rw [aup_rn (by decide)])) (by repeat rw [aup_rn (by decide)])
                                  · intro x j hx hz
                                    rw [f9 x j hx, aup_n (fun z => hx (by rw [z.1]; have := HY.2.1; omega))]
                                    exact fX x j hx (fun z => hz ⟨z.1, Or.inl z.2⟩)
                                  · rw [l9, aup_n (by omega), f3 10 0 (by have := HY.2.1; omega), aup_rn (fun z => nhw10 z.symm), aup_rn (fun z => nhw10 z.symm), aup_n (by omega)]
                                  · intro i b0 b1 b9
                                    rw [aup_rn b0]
                                    (repeat rw [aup_rn b1])
                                    exact xb i b0 b1 b9
                                  · intro i hi
                                    rw [aup_n (by omega)]
                                    (repeat rw [aup_rn (by decide)])
                                    exact x0 i (by omega)
                                  · rw [f9 0 7 (by omega), aup_n (by omega), f07, aup_s]
                                  · rw [f9 0 8 (by omega), aup_n (by omega), fX 0 8 (by omega) (by omega), aup_n (by omega)]
                                    (repeat rw [aup_rn (by decide)])
                                    rw [x0 3 (by omega)]; exact hv3
                                  · rw [f9 0 9 (by omega), aup_n (by omega), fX 0 9 (by omega) (by omega), aup_n (by omega)]
                                    (repeat rw [aup_rn (by decide)])
                                    rw [x0 4 (by omega)]; exact hv4
                            · first
                                | (exfalso; omega)
                                | skip
                                  refine gm_7 rfl dX7_join_179 dX7_join_180 rfl ?_
                                  refine aw_iload dX7_join_183 rfl ?_
                                  refine aw_iconst dX7_join_185 (by decide) ?_
                                  refine aw_iaddr dX7_join_186 (by omega) ?_
                                  refine gm_7 rfl dX7_join_187 dX7_join_188 rfl ?_
                                  refine aw_iload_n dX7_join_191 rfl ?_
                                  refine aw_iconst dX7_join_192 (by decide) ?_
                                  refine aw_iaddr dX7_join_193 (by omega) ?_
                                  refine aw_iaload dX7_join_194 m_a1 (by omega) (by omega) ?_
                                  rw [q3a]
                                  refine aw_iastore dX7_join_195 m_a1 (by omega) (by omega) ?_
                                  refine gm_7 rfl dX7_join_196 dX7_join_197 rfl ?_
                                  refine aw_iload_n dX7_join_200 rfl ?_
                                  refine aw_iconst dX7_join_201 (by decide) ?_
                                  refine aw_iaddr dX7_join_202 (by omega) ?_
                                  refine aw_iconst dX7_join_203 (by decide) ?_
                                  refine aw_iastore dX7_join_204 m_a1 (by omega) (by omega) ?_
                                  refine gm_7 rfl dX7_join_205 dX7_join_206 rfl ?_
                                  refine aw_iload_n dX7_join_209 rfl ?_
                                  refine aw_iconst dX7_join_210 (by decide) ?_
                                  refine aw_iaddr dX7_join_211 (by omega) ?_
                                  refine aw_iconst dX7_join_212 (by decide) ?_
                                  refine aw_iastore dX7_join_213 m_a1 (by omega) (by omega) ?_
                                  refine gm_7 rfl dX7_join_214 dX7_join_215 rfl ?_
                                  refine aw_iload_n dX7_join_218 rfl ?_
                                  refine aw_iconst dX7_join_219 (by decide) ?_
                                  refine aw_iaddr dX7_join_220 (by omega) ?_
                                  refine aw_iconst dX7_join_221 (by decide) ?_
                                  refine aw_iastore dX7_join_222 m_a1 (by omega) (by omega) ?_
                                  refine aw_aload_n dX7_join_223 rfl ?_
                                  refine gm_7 rfl dX7_join_224 dX7_join_225 rfl ?_
                                  refine aw_iload dX7_join_228 rfl ?_
                                  refine aw_iconst dX7_join_230 (by decide) ?_
                                  refine aw_iaddr dX7_join_231 (by omega) ?_
                                  refine aw_iaload dX7_join_232 m_a1 (by omega) (by omega) ?_
                                  (repeat rw [aup_n (by omega)])
                                  rw [q1b]
                                  refine c_X7_76 rfl dX7_join_233 m_ob (Nat.le_of_ble_eq_true rfl) (by omega) (C_m_gives ?_)
                                  refine aK_i ?_
                                  refine aw_ireturn dX7_join_236 rfl ?_
                                  refine ⟨vI_eq (by first | rfl | omega), _, rfl, XR.yd (jnM (cm 1) a b (isum (fun i => sv 0 (sh (64 + 198 * a) (jn1 (cm 1) a b) i)) (nF (jn1 (cm 1) a b (64 + 198 * a))))) hR HX HL HN HS HP ?_ ?_ ?_ ?_ ?_ ?_ ?_ ?_ ?_ ?_ ?_ ?_ ?_⟩
                                  · rw [aup_rn (by decide)]
                                    first
                                      | (rw [aup_r, aup_r, aup_r, aup_r, e5]; unfold jnM jnQ; rw [if_pos (by omega)]; done)
                                      | (rw [aup_r, aup_r, aup_r, e5]; unfold jnM; rw [upA_self (s := clK _ a) (i := 64 + 198 * b + 3) (by rw [clh b 3 (by omega) (by omega) (by omega), jnb b 3 (by omega) (by omega) (by omega) (by omega)]; unfold jnQ; rw [if_neg (by omega)])])
                                  · rw [jnM_o gh1 uh1 (by omega) (by omega) (by omega) (by omega)]; exact H9
                                  · intro i hi
                                    exact jnM_o gh1 uh1 (by omega) (by omega) (by omega) (by omega)
                                  · intro k k0 k1
                                    exact jnM_h gh1 uh1 (by omega) (by omega) k0 (by omega)
                                  · exact HP.join (by omega) (by omega) (by omega) (by omega) (by omega) ht9.1
                                  · exact hF5.eq (by rw [aup_n (by omega)]; (repeat rw [aup_rn (by decide)])) (by repeat rw [aup_rn (by decide)])
                                  · intro x j hx hz
                                    rw [f9 x j hx, aup_n (fun z => hx (by rw [z.1]; have := HY.2.1; omega))]
                                    exact fX x j hx (fun z => hz ⟨z.1, Or.inl z.2⟩)
                                  · rw [l9, aup_n (by omega), f3 10 0 (by have := HY.2.1; omega), aup_rn (fun z => nhw10 z.symm), aup_rn (fun z => nhw10 z.symm), aup_n (by omega)]
                                  · intro i b0 b1 b9
                                    rw [aup_rn b0]
                                    (repeat rw [aup_rn b1])
                                    exact xb i b0 b1 b9
                                  · intro i hi
                                    rw [aup_n (by omega)]
                                    (repeat rw [aup_rn (by decide)])
                                    exact x0 i (by omega)
                                  · rw [f9 0 7 (by omega), aup_n (by omega), f07, aup_s]
                                  · rw [f9 0 8 (by omega), aup_n (by omega), fX 0 8 (by omega) (by omega), aup_n (by omega)]
                                    (repeat rw [aup_rn (by decide)])
                                    rw [x0 3 (by omega)]; exact hv3
                                  · rw [f9 0 9 (by omega), aup_n (by omega), fX 0 9 (by omega) (by omega), aup_n (by omega)]
                                    (repeat rw [aup_rn (by decide)])
                                    rw [x0 4 (by omega)]; exact hv4
                      · first
                          | (exfalso; omega)
                          | skip
                            refine aw_aload_n dX7_join_62 rfl ?_
                            refine aw_iconst dX7_join_63 (by decide) ?_
                            refine c_X7_72 rfl dX7_join_64 m_ob (Nat.le_of_ble_eq_true rfl) (by omega) (C_m_refuse ?_)
                            refine aK_i ?_
                            refine aw_ireturn dX7_join_67 rfl ?_
                            first
                              | (exfalso; omega)
                              | (refine XR.sameE h ?_ ?_ ?_ ?_ ?_ ?_
                                 · first
                                     | rfl
                                     | omega
                                 · repeat (first | exact xs.rf | refine xs.up ?_ (by decide))
                                 · repeat (first | exact mss.rf | refine mss.up0 ?_ (by decide))
                                 · first
                                     | (simp [aup, hv2, hv3, hv4]; done)
                                     | (simp [aup, hv2, hv3, hv4]; omega)
                                 · simp [aup, hv2, hv3, hv4]
                                 · simp [aup, hv2, hv3, hv4])
                · first
                    | (exfalso; omega)
                    | skip
                      refine aw_aload_n dX7_join_21 rfl ?_
                      refine aw_iconst dX7_join_22 (by decide) ?_
                      refine c_X7_72 rfl dX7_join_23 m_ob (Nat.le_of_ble_eq_true rfl) (by omega) (C_m_refuse ?_)
                      refine aK_i ?_
                      refine aw_ireturn dX7_join_26 rfl ?_
                      first
                        | (exfalso; omega)
                        | (refine XR.sameE h ?_ ?_ ?_ ?_ ?_ ?_
                           · first
                               | rfl
                               | omega
                           · repeat (first | exact xs.rf | refine xs.up ?_ (by decide))
                           · repeat (first | exact mss.rf | refine mss.up0 ?_ (by decide))
                           · first
                               | (simp [aup, hv2, hv3, hv4]; done)
                               | (simp [aup, hv2, hv3, hv4]; omega)
                           · simp [aup, hv2, hv3, hv4]
                           · simp [aup, hv2, hv3, hv4])
          · first
              | (exfalso; omega)
              | skip
                refine aK_i ?_
                refine aw_ifeq (tgt := 21) dX7_join_13 (by decide) (fun _ => ?_) (fun h => absurd h (by decide))
                refine aw_aload_n dX7_join_21 rfl ?_
                refine aw_iconst dX7_join_22 (by decide) ?_
                refine c_X7_72 rfl dX7_join_23 m_ob (Nat.le_of_ble_eq_true rfl) (by omega) (C_m_refuse ?_)
                refine aK_i ?_
                refine aw_ireturn dX7_join_26 rfl ?_
                first
                  | (exfalso; omega)
                  | (refine XR.sameE h ?_ ?_ ?_ ?_ ?_ ?_
                     · first
                         | rfl
                         | omega
                     · repeat (first | exact xs.rf | refine xs.up ?_ (by decide))
                     · repeat (first | exact mss.rf | refine mss.up0 ?_ (by decide))
                     · first
                         | (simp [aup, hv2, hv3, hv4]; done)
                         | (simp [aup, hv2, hv3, hv4]; omega)
                     · simp [aup, hv2, hv3, hv4]
                     · simp [aup, hv2, hv3, hv4])
    · first
        | (exfalso; omega)
        | skip
          refine aK_i ?_
          refine aw_ifeq (tgt := 21) dX7_join_5 (by decide) (fun _ => ?_) (fun h => absurd h (by decide))
          refine aw_aload_n dX7_join_21 rfl ?_
          refine aw_iconst dX7_join_22 (by decide) ?_
          refine c_X7_72 rfl dX7_join_23 m_ob (Nat.le_of_ble_eq_true rfl) (by omega) (C_m_refuse ?_)
          refine aK_i ?_
          refine aw_ireturn dX7_join_26 rfl ?_
          first
            | (exfalso; omega)
            | (refine XR.sameE h ?_ ?_ ?_ ?_ ?_ ?_
               · first
                   | rfl
                   | omega
               · repeat (first | exact xs.rf | refine xs.up ?_ (by decide))
               · repeat (first | exact mss.rf | refine mss.up0 ?_ (by decide))
               · first
                   | (simp [aup, hv2, hv3, hv4]; done)
                   | (simp [aup, hv2, hv3, hv4]; omega)
               · simp [aup, hv2, hv3, hv4]
               · simp [aup, hv2, hv3, hv4])
