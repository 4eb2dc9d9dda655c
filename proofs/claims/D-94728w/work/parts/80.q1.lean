set_option maxRecDepth 100000
/-! the Reader: tokens -/
def RX (sz : Int) (im : Int → aIm) (ct : Int → Int → Int) (a : Int) (tp : Int → Int) (n : Int) : Prop := (aob sz im a 8 ∧ (im a).2.2 0 = n ∧ (im a).2.2 6 = 0) ∧ (aob sz im 0 0 ∧ (im 0).2.2 1 = 6 ∧ (im 0).2.2 5 = 7 ∧ aar sz im 6 0 900 ∧ aob sz im 7 2) ∧ (0 ≤ n ∧ n ≤ 900) ∧ ∀ j, 0 ≤ j → j < n → ct 6 j = tp j ∧ -128 ≤ tp j ∧ tp j < 128
def RDX (sz : Int) (im : Int → aIm) (ct : Int → Int → Int) (a : Int) (tp : Int → Int) (n p : Int) : Prop := RX sz im ct a tp n ∧ (0 ≤ p ∧ p ≤ n) ∧ ct a 1 = tF tp n p ∧ ct a 2 = tE tp n p ∧ ct a 3 = tK tp n p ∧ (tK tp n p = 2 → ct a 4 = tV tp n p)
/-- the reader alone was written, but for its count of steps -/
def FA (a : Int) (ct ct' : Int → Int → Int) : Prop := (∀ x, x ≠ a → ct' x = ct x) ∧ ct' a 5 = ct a 5
/-- a fault was noted -/
def FB (a : Int) (ct ct' : Int → Int → Int) (k pl : Int) : Prop := (∀ x, x ≠ a → x ≠ 7 → ct' x = ct x) ∧ ct' 7 6 = k ∧ ct' 7 7 = pl
theorem FA.rf {a : Int} {ct : Int → Int → Int} : FA a ct ct := ⟨fun _ _ => rfl, rfl⟩
theorem FA.trans {a : Int} {ct ct1 ct2 : Int → Int → Int} (h : FA a ct ct1) (k : FA a ct1 ct2) : FA a ct ct2 := ⟨fun x hx => (k.1 x hx).trans (h.1 x hx), k.2.trans h.2⟩
theorem FA.b {a : Int} {ct ct1 ct2 : Int → Int → Int} {k pl : Int} (h : FA a ct ct1) (g : FB a ct1 ct2 k pl) : FB a ct ct2 k pl := ⟨fun x hx h7 => (g.1 x hx h7).trans (h.1 x hx), g.2⟩
theorem RX.ne {sz : Int} {im : Int → aIm} {ct : Int → Int → Int} {a : Int} {tp : Int → Int} {n : Int} (h : RX sz im ct a tp n) : a ≠ 0 ∧ a ≠ 6 ∧ a ≠ 7 :=
  ⟨fun z => aob_nec h.1.1 h.2.1.1 (by decide) z, fun z => aob_ne h.1.1 h.2.1.2.2.2.1 (by decide) z, fun z => aob_nec h.1.1 h.2.1.2.2.2.2 (by decide) z⟩
theorem RX.fr {sz : Int} {im : Int → aIm} {ct ct' : Int → Int → Int} {a : Int} {tp : Int → Int} {n : Int} (h : RX sz im ct a tp n) (f : ct' 6 = ct 6) : RX sz im ct' a tp n := ⟨h.1, h.2.1, h.2.2.1, by rw [f]; exact h.2.2.2⟩
theorem RX.fa {sz : Int} {im : Int → aIm} {ct ct' : Int → Int → Int} {a : Int} {tp : Int → Int} {n : Int} (h : RX sz im ct a tp n) (f : ∀ x, x ≠ a → ct' x = ct x) : RX sz im ct' a tp n := h.fr (f 6 (Ne.symm h.ne.2.1))
theorem RDX.fr {sz : Int} {im : Int → aIm} {ct ct' : Int → Int → Int} {a : Int} {tp : Int → Int} {n p : Int} (h : RDX sz im ct a tp n p) (f6 : ct' 6 = ct 6) (fa : ∀ j, j < 5 → ct' a j = ct a j) : RDX sz im ct' a tp n p :=
  ⟨h.1.fr f6, h.2.1, by rw [fa 1 (by decide)]; exact h.2.2.1, by rw [fa 2 (by decide)]; exact h.2.2.2.1, by rw [fa 3 (by decide)]; exact h.2.2.2.2.1, by rw [fa 4 (by decide)]; exact h.2.2.2.2.2⟩
theorem RX.mono {sz sz' : Int} {im im' : Int → aIm} {ct ct' : Int → Int → Int} {a : Int} {tp : Int → Int} {n : Int} (h : RX sz im ct a tp n) (hz : sz ≤ sz') (hi : ∀ x, x < sz → im' x = im x) (f6 : ct' 6 = ct 6) : RX sz' im' ct' a tp n := by
  obtain ⟨⟨h1, h2, h3⟩, ⟨g1, g2, g3, g4, g5⟩, h4, h5⟩ := h
  have mo : ∀ {x : Int} {c : Nat}, aob sz im x c → aob sz' im' x c := fun q => ⟨q.1, by have := q.2.1; omega, by rw [hi _ q.2.1]; exact q.2.2⟩
  refine ⟨⟨mo h1, by rw [hi _ h1.2.1]; exact h2, by rw [hi _ h1.2.1]; exact h3⟩, ⟨mo g1, by rw [hi _ g1.2.1]; exact g2, by rw [hi _ g1.2.1]; exact g3, ⟨g4.1, by have := g4.2.1; omega, by rw [hi _ g4.2.1]; exact g4.2.2⟩, mo g5⟩, h4, by rw [f6]; exact h5⟩
theorem RDX.mono {sz sz' : Int} {im im' : Int → aIm} {ct ct' : Int → Int → Int} {a : Int} {tp : Int → Int} {n p : Int} (h : RDX sz im ct a tp n p) (hz : sz ≤ sz') (hi : ∀ x, x < sz → im' x = im x) (f6 : ct' 6 = ct 6) (fa : ∀ j, j < 5 → ct' a j = ct a j) : RDX sz' im' ct' a tp n p :=
  ⟨h.1.mono hz hi f6, h.2.1, by rw [fa 1 (by decide)]; exact h.2.2.1, by rw [fa 2 (by decide)]; exact h.2.2.2.1, by rw [fa 3 (by decide)]; exact h.2.2.2.2.1, by rw [fa 4 (by decide)]; exact h.2.2.2.2.2⟩
theorem C_x_isLetter {sz : Int} {im : Int → aIm} {ct : Int → Int → Int} {a : Int} {tp : Int → Int} {n : Int} {k : Int} {Q : aPost} (hX : RX sz im ct a tp n) (k0 : 0 ≤ k) (hY : k < n ∧ ltr (tp k) → Q (.inl (some (vI 1))) (sz, im, ct)) (hN : ¬ (k < n ∧ ltr (tp k)) → Q (.inl (some (vI 0))) (sz, im, ct)) : AMet md_X8_isLetter 1 0 0 [vR a, vI k] (sz, im, ct) Q := by
  refine AMet.go (L := [some (vR a), some (vI k)]) mok_X8_isLetter (Nat.le_of_ble_eq_true rfl) rfl ?_
  obtain ⟨⟨ha, hsz, h60⟩, ⟨hB, hB1, hB5, hT, hBad⟩, hn, htp⟩ := id hX
  have hne := hX.ne
  refine aw_iload_n dX8_isLetter_0 rfl ?_
  refine aw_aload_n dX8_isLetter_1 rfl ?_
  refine g_X8_15_8 rfl dX8_isLetter_2 ha ?_
  rw [hsz]
  refine aw_icmpge (tgt := 40) dX8_isLetter_5 (by decide) (fun h5 => ?_) (fun h5 => ?_)
  · refine aw_iconst dX8_isLetter_40 (by decide) ?_
    refine aw_zreturn dX8_isLetter_41 rfl (Or.inl rfl) ?_
    exact hN (by omega)
  · refine aw_aload_n dX8_isLetter_8 rfl ?_
    refine g_X8_3_8 rfl dX8_isLetter_9 ha ?_
    rw [h60]
    refine g_X8_22_0 rfl dX8_isLetter_12 (by assumption) ?_
    rw [hB1]
    refine aw_iload_n dX8_isLetter_15 rfl ?_
    refine aw_baload dX8_isLetter_16 (by assumption) (by omega) (by omega) ?_
    rw [(htp k (by omega) (by omega)).1]
    refine aw_bipush dX8_isLetter_17 (by decide) ?_
    refine aw_icmplt (tgt := 40) dX8_isLetter_19 (by decide) (fun h19 => ?_) (fun h19 => ?_)
    · refine aw_iconst dX8_isLetter_40 (by decide) ?_
      refine aw_zreturn dX8_isLetter_41 rfl (Or.inl rfl) ?_
      exact hN (by omega)
    · refine aw_aload_n dX8_isLetter_22 rfl ?_
      refine g_X8_3_8 rfl dX8_isLetter_23 ha ?_
      rw [h60]
      refine g_X8_22_0 rfl dX8_isLetter_26 (by assumption) ?_
      rw [hB1]
      refine aw_iload_n dX8_isLetter_29 rfl ?_
      refine aw_baload dX8_isLetter_30 (by assumption) (by omega) (by omega) ?_
      rw [(htp k (by omega) (by omega)).1]
      refine aw_bipush dX8_isLetter_31 (by decide) ?_
      refine aw_icmpgt (tgt := 40) dX8_isLetter_33 (by decide) (fun h33 => ?_) (fun h33 => ?_)
      · refine aw_iconst dX8_isLetter_40 (by decide) ?_
        refine aw_zreturn dX8_isLetter_41 rfl (Or.inl rfl) ?_
        exact hN (by omega)
      · refine aw_iconst dX8_isLetter_36 (by decide) ?_
        refine aw_goto (tgt := 41) dX8_isLetter_37 (by decide) ?_
        refine aw_zreturn dX8_isLetter_41 rfl (Or.inr rfl) ?_
        exact hY (by omega)
theorem C_x_isDigit {sz : Int} {im : Int → aIm} {ct : Int → Int → Int} {a : Int} {tp : Int → Int} {n : Int} {k : Int} {Q : aPost} (hX : RX sz im ct a tp n) (k0 : 0 ≤ k) (hY : k < n ∧ dgt (tp k) → Q (.inl (some (vI 1))) (sz, im, ct)) (hN : ¬ (k < n ∧ dgt (tp k)) → Q (.inl (some (vI 0))) (sz, im, ct)) : AMet md_X8_isDigit 1 0 0 [vR a, vI k] (sz, im, ct) Q := by
  refine AMet.go (L := [some (vR a), some (vI k)]) mok_X8_isDigit (Nat.le_of_ble_eq_true rfl) rfl ?_
  obtain ⟨⟨ha, hsz, h60⟩, ⟨hB, hB1, hB5, hT, hBad⟩, hn, htp⟩ := id hX
  have hne := hX.ne
  refine aw_iload_n dX8_isDigit_0 rfl ?_
  refine aw_aload_n dX8_isDigit_1 rfl ?_
  refine g_X8_15_8 rfl dX8_isDigit_2 ha ?_
  rw [hsz]
  refine aw_icmpge (tgt := 40) dX8_isDigit_5 (by decide) (fun h5 => ?_) (fun h5 => ?_)
  · refine aw_iconst dX8_isDigit_40 (by decide) ?_
    refine aw_zreturn dX8_isDigit_41 rfl (Or.inl rfl) ?_
    exact hN (by omega)
  · refine aw_aload_n dX8_isDigit_8 rfl ?_
    refine g_X8_3_8 rfl dX8_isDigit_9 ha ?_
    rw [h60]
    refine g_X8_22_0 rfl dX8_isDigit_12 (by assumption) ?_
    rw [hB1]
    refine aw_iload_n dX8_isDigit_15 rfl ?_
    refine aw_baload dX8_isDigit_16 (by assumption) (by omega) (by omega) ?_
    rw [(htp k (by omega) (by omega)).1]
    refine aw_bipush dX8_isDigit_17 (by decide) ?_
    refine aw_icmplt (tgt := 40) dX8_isDigit_19 (by decide) (fun h19 => ?_) (fun h19 => ?_)
    · refine aw_iconst dX8_isDigit_40 (by decide) ?_
      refine aw_zreturn dX8_isDigit_41 rfl (Or.inl rfl) ?_
      exact hN (by omega)
    · refine aw_aload_n dX8_isDigit_22 rfl ?_
      refine g_X8_3_8 rfl dX8_isDigit_23 ha ?_
      rw [h60]
      refine g_X8_22_0 rfl dX8_isDigit_26 (by assumption) ?_
      rw [hB1]
      refine aw_iload_n dX8_isDigit_29 rfl ?_
      refine aw_baload dX8_isDigit_30 (by assumption) (by omega) (by omega) ?_
      rw [(htp k (by omega) (by omega)).1]
      refine aw_bipush dX8_isDigit_31 (by decide) ?_
      refine aw_icmpgt (tgt := 40) dX8_isDigit_33 (by decide) (fun h33 => ?_) (fun h33 => ?_)
      · refine aw_iconst dX8_isDigit_40 (by decide) ?_
        refine aw_zreturn dX8_isDigit_41 rfl (Or.inl rfl) ?_
        exact hN (by omega)
      · refine aw_iconst dX8_isDigit_36 (by decide) ?_
        refine aw_goto (tgt := 41) dX8_isDigit_37 (by decide) ?_
        refine aw_zreturn dX8_isDigit_41 rfl (Or.inr rfl) ?_
        exact hY (by omega)
theorem L_x_nx1 {sz : Int} {im : Int → aIm} {ct : Int → Int → Int} {a : Int} {tp : Int → Int} {n : Int} {F : Int} {Q : aPost} {d kc ks : Nat} (hd : 2 ≤ d) (hX : RX sz im ct a tp n) (K : ∀ ct1 : Int → Int → Int, ct1 a 1 = F → (∀ x, x ≠ a → ct1 x = ct x) → (∀ j, j ≠ 1 → ct1 a j = ct a j) → AW (mq Q) md_X8_next d kc ks 66 [some (vR a)] [] (sz, im, ct1)) : ∀ (r : Nat) (q : Int) (ct1 : Int → Int → Int), q + r = n → 0 ≤ q → ct1 a 1 = q → (∀ x, x ≠ a → ct1 x = ct x) → (∀ j, j ≠ 1 → ct1 a j = ct a j) → ska wsp tp r q = F → AW (mq Q) md_X8_next d kc ks 8 [some (vR a)] [] (sz, im, ct1) := by
  obtain ⟨⟨ha, hsz, h60⟩, ⟨hB, hB1, hB5, hT, hBad⟩, hn, htp0⟩ := id hX
  have hne := hX.ne
  intro r
  induction r with
  | zero =>
    intro q ct1 h1 h2 e1 e2 e3 hF
    have hF : q = F := hF
    subst hF
    have hX1 := hX.fa e2
    have htp := hX1.2.2.2
    refine aw_aload_n dX8_next_8 rfl ?_
    refine g_X8_29_8 rfl dX8_next_9 ha ?_
    rw [e1]
    refine aw_aload_n dX8_next_12 rfl ?_
    refine g_X8_15_8 rfl dX8_next_13 ha ?_
    rw [hsz]
    refine aw_icmpge (tgt := 66) dX8_next_16 (by decide) (fun h16 => ?_) (fun h16 => ?_)
    · exact K ct1 e1 e2 e3
    · exfalso; omega
  | succ r ih =>
    intro q ct1 h1 h2 e1 e2 e3 hF
    have hX1 := hX.fa e2
    have htp := hX1.2.2.2
    refine aw_aload_n dX8_next_8 rfl ?_
    refine g_X8_29_8 rfl dX8_next_9 ha ?_
    rw [e1]
    refine aw_aload_n dX8_next_12 rfl ?_
    refine g_X8_15_8 rfl dX8_next_13 ha ?_
    rw [hsz]
    refine aw_icmpge (tgt := 66) dX8_next_16 (by decide) (fun h16 => ?_) (fun h16 => ?_)
    · exfalso; omega
    · refine aw_aload_n dX8_next_19 rfl ?_
      refine g_X8_3_8 rfl dX8_next_20 ha ?_
      rw [h60]
      refine g_X8_22_0 rfl dX8_next_23 (by assumption) ?_
      rw [hB1]
      refine aw_aload_n dX8_next_26 rfl ?_
      refine g_X8_29_8 rfl dX8_next_27 ha ?_
      rw [e1]
      refine aw_baload dX8_next_30 (by assumption) (by omega) (by omega) ?_
      rw [(htp q (by omega) (by omega)).1]
      refine aw_bipush dX8_next_31 (by decide) ?_
      refine aw_icmpeq (tgt := 53) dX8_next_33 (by decide) (fun h33 => ?_) (fun h33 => ?_)
      · refine aw_aload_n dX8_next_53 rfl ?_
        refine aw_dup dX8_next_54 rfl ?_
        refine g_X8_29_8 rfl dX8_next_55 ha ?_
        rw [e1]
        refine aw_iconst dX8_next_58 (by decide) ?_
        refine aw_iaddr dX8_next_59 (by omega) ?_
        refine p_X8_29_8 rfl dX8_next_60 ha ?_
        refine aw_goto (tgt := 8) dX8_next_63 (by decide) ?_
        refine ih (q + 1) _ (by omega) (by omega) (by rw [aup_s]) (fun x hx => by rw [aup_rn hx]; exact e2 x hx) (fun j hj => by rw [aup_n (by omega)]; exact e3 j hj) ?_
        rw [← hF]
        exact (ska_y (by omega)).symm
      · refine aw_aload_n dX8_next_36 rfl ?_
        refine g_X8_3_8 rfl dX8_next_37 ha ?_
        rw [h60]
        refine g_X8_22_0 rfl dX8_next_40 (by assumption) ?_
        rw [hB1]
        refine aw_aload_n dX8_next_43 rfl ?_
        refine g_X8_29_8 rfl dX8_next_44 ha ?_
        rw [e1]
        refine aw_baload dX8_next_47 (by assumption) (by omega) (by omega) ?_
        rw [(htp q (by omega) (by omega)).1]
        refine aw_bipush dX8_next_48 (by decide) ?_
        refine aw_icmpne (tgt := 66) dX8_next_50 (by decide) (fun h50 => ?_) (fun h50 => ?_)
        · exact K ct1 (by rw [← hF, e1]; exact (ska_n (by omega)).symm) e2 e3
        · refine aw_aload_n dX8_next_53 rfl ?_
          refine aw_dup dX8_next_54 rfl ?_
          refine g_X8_29_8 rfl dX8_next_55 ha ?_
          rw [e1]
          refine aw_iconst dX8_next_58 (by decide) ?_
          refine aw_iaddr dX8_next_59 (by omega) ?_
          refine p_X8_29_8 rfl dX8_next_60 ha ?_
          refine aw_goto (tgt := 8) dX8_next_63 (by decide) ?_
          refine ih (q + 1) _ (by omega) (by omega) (by rw [aup_s]) (fun x hx => by rw [aup_rn hx]; exact e2 x hx) (fun j hj => by rw [aup_n (by omega)]; exact e3 j hj) ?_
          rw [← hF]
          exact (ska_y (by omega)).symm
theorem L_x_nx2 {sz : Int} {im : Int → aIm} {ct : Int → Int → Int} {a : Int} {tp : Int → Int} {n : Int} {F : Int} {Q : aPost} {d kc ks : Nat} (hd : 2 ≤ d) (hX : RX sz im ct a tp n) (K : ∀ ct1 : Int → Int → Int, ct1 a 2 = F → (∀ x, x ≠ a → ct1 x = ct x) → (∀ j, j ≠ 2 → ct1 a j = ct a j) → AW (mq Q) md_X8_next d kc ks 323 [some (vR a)] [] (sz, im, ct1)) : ∀ (r : Nat) (q : Int) (ct1 : Int → Int → Int), q + r = n → 0 ≤ q → ct1 a 2 = q → (∀ x, x ≠ a → ct1 x = ct x) → (∀ j, j ≠ 2 → ct1 a j = ct a j) → ska ltr tp r q = F → AW (mq Q) md_X8_next d kc ks 107 [some (vR a)] [] (sz, im, ct1) := by
  obtain ⟨⟨ha, hsz, h60⟩, ⟨hB, hB1, hB5, hT, hBad⟩, hn, htp0⟩ := id hX
  have hne := hX.ne
  intro r
  induction r with
  | zero =>
    intro q ct1 h1 h2 e1 e2 e3 hF
    have hF : q = F := hF
    subst hF
    have hX1 := hX.fa e2
    have htp := hX1.2.2.2
    refine aw_aload_n dX8_next_107 rfl ?_
    refine aw_aload_n dX8_next_108 rfl ?_
    refine g_X8_26_8 rfl dX8_next_109 ha ?_
    rw [e1]
    refine c_X8_35 rfl dX8_next_112 ha (Nat.le_of_ble_eq_true rfl) (by omega) (C_x_isLetter hX1 h2 (fun hl => ?_) (fun hl => ?_))
    · exfalso; omega
    · refine aK_i ?_
      refine aw_ifeq (tgt := 323) dX8_next_115 (by decide) (fun _ => ?_) (fun h => absurd h (by decide))
      exact K ct1 e1 e2 e3
  | succ r ih =>
    intro q ct1 h1 h2 e1 e2 e3 hF
    have hX1 := hX.fa e2
    have htp := hX1.2.2.2
    refine aw_aload_n dX8_next_107 rfl ?_
    refine aw_aload_n dX8_next_108 rfl ?_
    refine g_X8_26_8 rfl dX8_next_109 ha ?_
    rw [e1]
    refine c_X8_35 rfl dX8_next_112 ha (Nat.le_of_ble_eq_true rfl) (by omega) (C_x_isLetter hX1 h2 (fun hl => ?_) (fun hl => ?_))
    · refine aK_i ?_
      refine aw_ifeq (tgt := 323) dX8_next_115 (by decide) (fun h => absurd h (by decide)) (fun _ => ?_)
      refine aw_aload_n dX8_next_118 rfl ?_
      refine aw_dup dX8_next_119 rfl ?_
      refine g_X8_26_8 rfl dX8_next_120 ha ?_
      rw [e1]
      refine aw_iconst dX8_next_123 (by decide) ?_
      refine aw_iaddr dX8_next_124 (by omega) ?_
      refine p_X8_26_8 rfl dX8_next_125 ha ?_
      refine aw_goto (tgt := 107) dX8_next_128 (by decide) ?_
      refine ih (q + 1) _ (by omega) (by omega) (by rw [aup_s]) (fun x hx => by rw [aup_rn hx]; exact e2 x hx) (fun j hj => by rw [aup_n (by omega)]; exact e3 j hj) ?_
      rw [← hF]
      exact (ska_y hl.2).symm
    · refine aK_i ?_
      refine aw_ifeq (tgt := 323) dX8_next_115 (by decide) (fun _ => ?_) (fun h => absurd h (by decide))
      exact K ct1 (by rw [← hF, e1]; exact (ska_n (by omega)).symm) e2 e3
theorem dV_bd4 {tp : Int → Int} {f q : Int} (h : ∀ j, f ≤ j → j < q → dgt (tp j)) (k : Nat) (hk : k ≤ 4) (hq : f + k ≤ q) : 0 ≤ dV tp f k ∧ dV tp f k ≤ 9999 := by
  have h4 := dV_bd (tp := tp) (f := f) (k := k) fun j j0 j1 => h (f + j) (by omega) (by omega)
  have e : k = 0 ∨ k = 1 ∨ k = 2 ∨ k = 3 ∨ k = 4 := by omega
  rcases e with e | e | e | e | e <;> (subst e; omega)
theorem L_x_nx3 {sz : Int} {im : Int → aIm} {ct : Int → Int → Int} {a : Int} {tp : Int → Int} {n : Int} {F f : Int} {Q : aPost} {d kc ks : Nat} (hd : 2 ≤ d) (hX : RX sz im ct a tp n) (ef : ct a 1 = f) (f0 : 0 ≤ f) (K : ∀ ct1 : Int → Int → Int, ct1 a 2 = F → (F - f ≤ 4 → ct1 a 4 = dV tp f (F - f).toNat) → (∀ x, x ≠ a → ct1 x = ct x) → (∀ j, j ≠ 2 → j ≠ 4 → ct1 a j = ct a j) → AW (mq Q) md_X8_next d kc ks 211 [some (vR a)] [] (sz, im, ct1)) : ∀ (r : Nat) (q : Int) (ct1 : Int → Int → Int), q + r = n → f ≤ q → ct1 a 2 = q → ct1 a 4 = dV tp f (min (q - f) 4).toNat → (∀ j, f ≤ j → j < q → dgt (tp j)) → (∀ x, x ≠ a → ct1 x = ct x) → (∀ j, j ≠ 2 → j ≠ 4 → ct1 a j = ct a j) → ska dgt tp r q = F → AW (mq Q) md_X8_next d kc ks 147 [some (vR a)] [] (sz, im, ct1) := by
  obtain ⟨⟨ha, hsz, h60⟩, ⟨hB, hB1, hB5, hT, hBad⟩, hn, htp0⟩ := id hX
  have hne := hX.ne
  intro r
  induction r with
  | zero =>
    intro q ct1 h1 h2 e1 e4 hg e2 e3 hF
    have hF : q = F := hF
    subst hF
    have hX1 := hX.fa e2
    have htp := hX1.2.2.2
    refine aw_aload_n dX8_next_147 rfl ?_
    refine aw_aload_n dX8_next_148 rfl ?_
    refine g_X8_26_8 rfl dX8_next_149 ha ?_
    rw [e1]
    refine c_X8_39 rfl dX8_next_152 ha (Nat.le_of_ble_eq_true rfl) (by omega) (C_x_isDigit hX1 (by omega) (fun hl => ?_) (fun hl => ?_))
    · exfalso; omega
    · refine aK_i ?_
      refine aw_ifeq (tgt := 211) dX8_next_155 (by decide) (fun _ => ?_) (fun h => absurd h (by decide))
      exact K ct1 e1 (fun z => by rw [e4, show min (q - f) 4 = q - f by omega]) e2 e3
  | succ r ih =>
    intro q ct1 h1 h2 e1 e4 hg e2 e3 hF
    have hX1 := hX.fa e2
    have htp := hX1.2.2.2
    have ea : ct1 a 1 = f := by rw [e3 1 (by decide) (by decide)]; exact ef
    have hv := dV_bd4 hg (min (q - f) 4).toNat (by omega) (by omega)
    refine aw_aload_n dX8_next_147 rfl ?_
    refine aw_aload_n dX8_next_148 rfl ?_
    refine g_X8_26_8 rfl dX8_next_149 ha ?_
    first
      | rw [e1]
      | rw [aup_n (by omega), e1]
    refine c_X8_39 rfl dX8_next_152 ha (Nat.le_of_ble_eq_true rfl) (by omega) (C_x_isDigit hX1 (by omega) (fun hl => ?_) (fun hl => ?_))
    · have hl2 := hl.2
      refine aK_i ?_
      refine aw_ifeq (tgt := 211) dX8_next_155 (by decide) (fun h => absurd h (by decide)) (fun _ => ?_)
      refine aw_aload_n dX8_next_158 rfl ?_
      refine g_X8_26_8 rfl dX8_next_159 ha ?_
      first
        | rw [e1]
        | rw [aup_n (by omega), e1]
      refine aw_aload_n dX8_next_162 rfl ?_
      refine g_X8_29_8 rfl dX8_next_163 ha ?_
      rw [ea]
      refine aw_isubr dX8_next_166 (by omega) ?_
      refine aw_iconst dX8_next_167 (by decide) ?_
      refine aw_icmpge (tgt := 198) dX8_next_168 (by decide) (fun h168 => ?_) (fun h168 => ?_)
      · refine aw_aload_n dX8_next_198 rfl ?_
        refine aw_dup dX8_next_199 rfl ?_
        refine g_X8_26_8 rfl dX8_next_200 ha ?_
        first
          | rw [e1]
          | rw [aup_n (by omega), e1]
        refine aw_iconst dX8_next_203 (by decide) ?_
        refine aw_iaddr dX8_next_204 (by omega) ?_
        refine p_X8_26_8 rfl dX8_next_205 ha ?_
        refine aw_goto (tgt := 147) dX8_next_208 (by decide) ?_
        refine ih (q + 1) _ (by omega) (by omega) (by rw [aup_s]) ?_ (fun j j0 j1 => ?_) (fun x hx => ?_) (fun j j2 j4 => ?_) ?_
        · first
            | (rw [aup_n (by omega), e4, show min (q - f) 4 = 4 by omega, show min (q + 1 - f) 4 = 4 by omega])
            | (rw [aup_n (by omega), aup_s]
               obtain ⟨k, ek⟩ : ∃ k : Nat, q - f = k := ⟨(q - f).toNat, by omega⟩
               have k1 : (min (q - f) 4).toNat = k := by omega
               have k2 : (min (q + 1 - f) 4).toNat = k + 1 := by omega
               rw [k1, k2]
               show _ = 10 * dV tp f k + tp (f + k) - 48
               rw [show f + (k : Int) = q by omega])
        · by_cases z : j = q
          · rw [z]; exact hl2
          · exact hg j j0 (by omega)
        · first
            | (rw [aup_rn hx]; exact e2 x hx)
            | (rw [aup_rn hx, aup_rn hx]; exact e2 x hx)
        · first
            | (rw [aup_n (by omega)]; exact e3 j j2 j4)
            | (rw [aup_n (by omega), aup_n (by omega)]; exact e3 j j2 j4)
        · rw [← hF]
          exact (ska_y hl2).symm
      · refine aw_aload_n dX8_next_171 rfl ?_
        refine aw_bipush dX8_next_172 (by decide) ?_
        refine aw_aload_n dX8_next_174 rfl ?_
        refine g_X8_42_8 rfl dX8_next_175 ha ?_
        rw [e4]
        refine aw_imulr dX8_next_178 (by omega) ?_
        refine aw_aload_n dX8_next_179 rfl ?_
        refine g_X8_3_8 rfl dX8_next_180 ha ?_
        rw [h60]
        refine g_X8_22_0 rfl dX8_next_183 (by assumption) ?_
        rw [hB1]
        refine aw_aload_n dX8_next_186 rfl ?_
        refine g_X8_26_8 rfl dX8_next_187 ha ?_
        first
          | rw [e1]
          | rw [aup_n (by omega), e1]
        refine aw_baload dX8_next_190 (by assumption) (by omega) (by omega) ?_
        rw [(htp q (by omega) (by omega)).1]
        refine aw_iaddr dX8_next_191 (by omega) ?_
        refine aw_bipush dX8_next_192 (by decide) ?_
        refine aw_isubr dX8_next_194 (by omega) ?_
        refine p_X8_42_8 rfl dX8_next_195 ha ?_
        refine aw_aload_n dX8_next_198 rfl ?_
        refine aw_dup dX8_next_199 rfl ?_
        refine g_X8_26_8 rfl dX8_next_200 ha ?_
        first
          | rw [e1]
          | rw [aup_n (by omega), e1]
        refine aw_iconst dX8_next_203 (by decide) ?_
        refine aw_iaddr dX8_next_204 (by omega) ?_
        refine p_X8_26_8 rfl dX8_next_205 ha ?_
        refine aw_goto (tgt := 147) dX8_next_208 (by decide) ?_
        refine ih (q + 1) _ (by omega) (by omega) (by rw [aup_s]) ?_ (fun j j0 j1 => ?_) (fun x hx => ?_) (fun j j2 j4 => ?_) ?_
        · first
            | (rw [aup_n (by omega), e4, show min (q - f) 4 = 4 by omega, show min (q + 1 - f) 4 = 4 by omega])
            | (rw [aup_n (by omega), aup_s]
               obtain ⟨k, ek⟩ : ∃ k : Nat, q - f = k := ⟨(q - f).toNat, by omega⟩
               have k1 : (min (q - f) 4).toNat = k := by omega
               have k2 : (min (q + 1 - f) 4).toNat = k + 1 := by omega
               rw [k1, k2]
               show _ = 10 * dV tp f k + tp (f + k) - 48
               rw [show f + (k : Int) = q by omega])
        · by_cases z : j = q
          · rw [z]; exact hl2
          · exact hg j j0 (by omega)
        · first
            | (rw [aup_rn hx]; exact e2 x hx)
            | (rw [aup_rn hx, aup_rn hx]; exact e2 x hx)
        · first
            | (rw [aup_n (by omega)]; exact e3 j j2 j4)
            | (rw [aup_n (by omega), aup_n (by omega)]; exact e3 j j2 j4)
        · rw [← hF]
          exact (ska_y hl2).symm
    · refine aK_i ?_
      refine aw_ifeq (tgt := 211) dX8_next_155 (by decide) (fun _ => ?_) (fun h => absurd h (by decide))
      exact K ct1 (by rw [← hF, e1]; exact (ska_n (by omega)).symm) (fun z => by rw [e4, show F = q by rw [← hF]; exact ska_n (by omega), show min (q - f) 4 = q - f by rw [← hF, ska_n (by omega)] at z; omega]) e2 e3
theorem C_x_next {sz : Int} {im : Int → aIm} {ct : Int → Int → Int} {a : Int} {tp : Int → Int} {n p : Int} {Q : aPost} (hX : RX sz im ct a tp n) (hp : 0 ≤ p ∧ p ≤ n) (ep : ct a 2 = p) (hQ : ∀ ct1 : Int → Int → Int, RDX sz im ct1 a tp n p → FA a ct ct1 → Q (.inl none) (sz, im, ct1)) : AMet md_X8_next 2 0 0 [vR a] (sz, im, ct) Q := by
  refine AMet.go (L := [some (vR a)]) mok_X8_next (Nat.le_of_ble_eq_true rfl) rfl ?_
  obtain ⟨⟨ha, hsz, h60⟩, ⟨hB, hB1, hB5, hT, hBad⟩, hn, htp⟩ := id hX
  have hne := hX.ne
  have hF := tF_bd (tp := tp) hp.2
  have hE := tE_bd (tp := tp) hp.2
  obtain ⟨F, eF⟩ : ∃ z, tF tp n p = z := ⟨_, rfl⟩
  rw [eF] at hF hE
  refine aw_aload_n dX8_next_0 rfl ?_
  refine aw_aload_n dX8_next_1 rfl ?_
  refine g_X8_26_8 rfl dX8_next_2 ha ?_
  first
    | rw [ep]
    | rw [aup_n (by omega), ep]
  refine p_X8_29_8 rfl dX8_next_5 ha ?_
  refine L_x_nx1 (F := F) (by omega) (hX.fa (ct' := aup ct a 1 p) (fun x hx => aup_rn hx)) (fun ct1 e1 e2 e3 => ?_) (n - p).toNat p _ (by omega) hp.1 aup_s (fun _ _ => rfl) (fun _ _ => rfl) (by rw [← eF]; rfl)
  have e2' : ∀ x, x ≠ a → ct1 x = ct x := fun x hx => by rw [e2 x hx, aup_rn hx]
  have e5 : ct1 a 5 = ct a 5 := by rw [e3 5 (by decide), aup_n (by omega)]
  have hX1 := hX.fa e2'
  refine aw_aload_n dX8_next_66 rfl ?_
  refine aw_aload_n dX8_next_67 rfl ?_
  refine g_X8_29_8 rfl dX8_next_68 ha ?_
  first
    | rw [e1]
    | rw [aup_n (by omega), e1]
    | rw [aup_n (by omega), aup_n (by omega), e1]
  refine p_X8_26_8 rfl dX8_next_71 ha ?_
  refine aw_aload_n dX8_next_74 rfl ?_
  refine aw_iconst dX8_next_75 (by decide) ?_
  refine p_X8_32_8 rfl dX8_next_76 ha ?_
  refine aw_aload_n dX8_next_79 rfl ?_
  refine g_X8_29_8 rfl dX8_next_80 ha ?_
  first
    | rw [e1]
    | rw [aup_n (by omega), e1]
    | rw [aup_n (by omega), aup_n (by omega), e1]
  refine aw_aload_n dX8_next_83 rfl ?_
  refine g_X8_15_8 rfl dX8_next_84 ha ?_
  rw [hsz]
  refine aw_icmplt (tgt := 91) dX8_next_87 (by decide) (fun h87 => ?_) (fun h87 => ?_)
  · obtain ⟨ct2, ec⟩ : ∃ z, aup (aup ct1 a 2 F) a 3 0 = z := ⟨_, rfl⟩
    rw [ec]
    have b1 : ct2 a 1 = F := by rw [← ec, aup_n (by omega), aup_n (by omega)]; exact e1
    have b2 : ct2 a 2 = F := by rw [← ec, aup_n (by omega), aup_s]
    have b5 : ct2 a 5 = ct a 5 := by rw [← ec, aup_n (by omega), aup_n (by omega)]; exact e5
    have b0 : ∀ x, x ≠ a → ct2 x = ct x := fun x hx => by rw [← ec, aup_rn hx, aup_rn hx]; exact e2' x hx
    have hX2 := hX.fa b0
    have htp := hX2.2.2.2
    have hn0 : ¬ n ≤ tF tp n p := by rw [eF]; omega
    refine aw_aload_n dX8_next_91 rfl ?_
    refine aw_aload_n dX8_next_92 rfl ?_
    refine g_X8_29_8 rfl dX8_next_93 ha ?_
    first
      | rw [b1]
      | rw [aup_n (by omega), b1]
    refine c_X8_35 rfl dX8_next_96 ha (Nat.le_of_ble_eq_true rfl) (by omega) (C_x_isLetter hX2 (by omega) (fun hl => ?_) (fun hl => ?_))
    · refine aK_i ?_
      refine aw_ifeq (tgt := 131) dX8_next_99 (by decide) (fun h => absurd h (by decide)) (fun _ => ?_)
      refine aw_aload_n dX8_next_102 rfl ?_
      refine aw_iconst dX8_next_103 (by decide) ?_
      refine p_X8_32_8 rfl dX8_next_104 ha ?_
      have hl' : ltr (tp (tF tp n p)) := by rw [eF]; exact hl.2
      have fx : ∀ ct3 : Int → Int → Int, (∀ x, x ≠ a → ct3 x = aup ct2 a 3 1 x) → ∀ x, x ≠ a → ct3 x = ct x := fun ct3 c2 x hx => by rw [c2 x hx, aup_rn hx]; exact b0 x hx
      refine L_x_nx2 (F := ska ltr tp (n - F).toNat F) (by omega) (hX2.fa (ct' := aup ct2 a 3 1) (fun x hx => aup_rn hx)) (fun ct3 c1 c2 c3 => ?_) (n - F).toNat F _ (by omega) (by omega) (by rw [aup_n (by omega)]; exact b2) (fun _ _ => rfl) (fun _ _ => rfl) rfl
      refine aw_ret dX8_next_323 rfl ?_
      exact hQ _ ⟨hX.fa (fx ct3 c2), hp, by rw [c3 1 (by decide), aup_n (by omega), b1, eF], by rw [c1, tE_1 hn0 hl', eF], by rw [c3 3 (by decide), aup_s, tK_1 hn0 hl'], fun z => by rw [tK_1 hn0 hl'] at z; omega⟩ ⟨(fx ct3 c2), by rw [c3 5 (by decide), aup_n (by omega)]; exact b5⟩
    · refine aK_i ?_
      refine aw_ifeq (tgt := 131) dX8_next_99 (by decide) (fun _ => ?_) (fun h => absurd h (by decide))
      refine aw_aload_n dX8_next_131 rfl ?_
      refine aw_aload_n dX8_next_132 rfl ?_
      refine g_X8_29_8 rfl dX8_next_133 ha ?_
      first
        | rw [b1]
        | rw [aup_n (by omega), b1]
      refine c_X8_39 rfl dX8_next_136 ha (Nat.le_of_ble_eq_true rfl) (by omega) (C_x_isDigit hX2 (by omega) (fun hg => ?_) (fun hg => ?_))
      · refine aK_i ?_
        refine aw_ifeq (tgt := 236) dX8_next_139 (by decide) (fun h => absurd h (by decide)) (fun _ => ?_)
        refine aw_aload_n dX8_next_142 rfl ?_
        refine aw_iconst dX8_next_143 (by decide) ?_
        refine p_X8_42_8 rfl dX8_next_144 ha ?_
        have hl' : ¬ ltr (tp (tF tp n p)) := by rw [eF]; exact fun z => hl ⟨by omega, z⟩
        have hd' : dgt (tp (tF tp n p)) := by rw [eF]; exact hg.2
        have fx : ∀ ct3 : Int → Int → Int, (∀ x, x ≠ a → ct3 x = aup ct2 a 4 0 x) → ∀ x, x ≠ a → ct3 x = ct x := fun ct3 c2 x hx => by rw [c2 x hx, aup_rn hx]; exact b0 x hx
        have eE : tE tp n p = ska dgt tp (n - F).toNat F := by rw [tE_2 hn0 hl' hd', eF]
        obtain ⟨E, hEE⟩ : ∃ z, ska dgt tp (n - F).toNat F = z := ⟨_, rfl⟩
        have eK := tK_2 hn0 hl' hd'
        rw [eE, eF, hEE] at eK
        have hb9 := ska_bd (g := dgt) (tp := tp) (r := (n - F).toNat) (p := F)
        rw [hEE] at hb9 eE
        refine L_x_nx3 (F := E) (f := F) (by omega) (hX2.fa (ct' := aup ct2 a 4 0) (fun x hx => aup_rn hx)) (by rw [aup_n (by omega)]; exact b1) (by omega) (fun ct3 c1 c4 c2 c3 => ?_) (n - F).toNat F _ (by omega) (by omega) (by rw [aup_n (by omega)]; exact b2) (by rw [aup_s, show (min (F - F) 4).toNat = 0 by omega]; rfl) (fun j j0 j1 => by omega) (fun _ _ => rfl) (fun _ _ _ => rfl) hEE
        refine aw_aload_n dX8_next_211 rfl ?_
        refine aw_aload_n dX8_next_212 rfl ?_
        refine g_X8_26_8 rfl dX8_next_213 ha ?_
        rw [c1]
        refine aw_aload_n dX8_next_216 rfl ?_
        refine g_X8_29_8 rfl dX8_next_217 ha ?_
        rw [c3 1 (by decide) (by decide), aup_n (by omega), b1]
        refine aw_isubr dX8_next_220 (by omega) ?_
        refine aw_iconst dX8_next_221 (by decide) ?_
        refine aw_icmple (tgt := 229) dX8_next_222 (by decide) (fun h222 => ?_) (fun h222 => ?_)
        · refine aw_iconst dX8_next_229 (by decide) ?_
          refine p_X8_32_8 rfl dX8_next_230 ha ?_
          refine aw_goto (tgt := 323) dX8_next_233 (by decide) ?_
          first
            | (rw [if_pos (by omega)] at eK
               refine aw_ret dX8_next_323 rfl ?_
               exact hQ _ ⟨hX.fa (fun x hx => by rw [aup_rn hx]; exact fx ct3 c2 x hx), hp, by rw [aup_n (by omega), c3 1 (by decide) (by decide), aup_n (by omega), b1, eF], by rw [aup_n (by omega), c1, eE], by rw [aup_s, eK], fun z => by rw [eK] at z; omega⟩ ⟨(fun x hx => by rw [aup_rn hx]; exact fx ct3 c2 x hx), by rw [aup_n (by omega), c3 5 (by decide) (by decide), aup_n (by omega)]; exact b5⟩)
            | (rw [if_neg (by omega)] at eK
               refine aw_ret dX8_next_323 rfl ?_
               exact hQ _ ⟨hX.fa (fun x hx => by rw [aup_rn hx]; exact fx ct3 c2 x hx), hp, by rw [aup_n (by omega), c3 1 (by decide) (by decide), aup_n (by omega), b1, eF], by rw [aup_n (by omega), c1, eE], by rw [aup_s, eK], fun _ => by rw [aup_n (by omega), c4 (by omega)]; unfold tV; rw [eE, eF]⟩ ⟨(fun x hx => by rw [aup_rn hx]; exact fx ct3 c2 x hx), by rw [aup_n (by omega), c3 5 (by decide) (by decide), aup_n (by omega)]; exact b5⟩)
        · refine aw_iconst dX8_next_225 (by decide) ?_
          refine aw_goto (tgt := 230) dX8_next_226 (by decide) ?_
          refine p_X8_32_8 rfl dX8_next_230 ha ?_
          refine aw_goto (tgt := 323) dX8_next_233 (by decide) ?_
          first
            | (rw [if_pos (by omega)] at eK
               refine aw_ret dX8_next_323 rfl ?_
               exact hQ _ ⟨hX.fa (fun x hx => by rw [aup_rn hx]; exact fx ct3 c2 x hx), hp, by rw [aup_n (by omega), c3 1 (by decide) (by decide), aup_n (by omega), b1, eF], by rw [aup_n (by omega), c1, eE], by rw [aup_s, eK], fun z => by rw [eK] at z; omega⟩ ⟨(fun x hx => by rw [aup_rn hx]; exact fx ct3 c2 x hx), by rw [aup_n (by omega), c3 5 (by decide) (by decide), aup_n (by omega)]; exact b5⟩)
            | (rw [if_neg (by omega)] at eK
               refine aw_ret dX8_next_323 rfl ?_
               exact hQ _ ⟨hX.fa (fun x hx => by rw [aup_rn hx]; exact fx ct3 c2 x hx), hp, by rw [aup_n (by omega), c3 1 (by decide) (by decide), aup_n (by omega), b1, eF], by rw [aup_n (by omega), c1, eE], by rw [aup_s, eK], fun _ => by rw [aup_n (by omega), c4 (by omega)]; unfold tV; rw [eE, eF]⟩ ⟨(fun x hx => by rw [aup_rn hx]; exact fx ct3 c2 x hx), by rw [aup_n (by omega), c3 5 (by decide) (by decide), aup_n (by omega)]; exact b5⟩)
      · refine aK_i ?_
        refine aw_ifeq (tgt := 236) dX8_next_139 (by decide) (fun _ => ?_) (fun h => absurd h (by decide))
        refine aw_aload_n dX8_next_236 rfl ?_
        refine aw_aload_n dX8_next_237 rfl ?_
        refine g_X8_29_8 rfl dX8_next_238 ha ?_
        first
          | rw [b1]
          | rw [aup_n (by omega), b1]
        refine aw_iconst dX8_next_241 (by decide) ?_
        refine aw_iaddr dX8_next_242 (by omega) ?_
        refine p_X8_26_8 rfl dX8_next_243 ha ?_
        refine aw_aload_n dX8_next_246 rfl ?_
        refine aw_aload_n dX8_next_247 rfl ?_
        refine g_X8_3_8 rfl dX8_next_248 ha ?_
        rw [h60]
        refine g_X8_22_0 rfl dX8_next_251 (by assumption) ?_
        rw [hB1]
        refine aw_aload_n dX8_next_254 rfl ?_
        refine g_X8_29_8 rfl dX8_next_255 ha ?_
        first
          | rw [b1]
          | rw [aup_n (by omega), b1]
        refine aw_baload dX8_next_258 (by assumption) (by omega) (by omega) ?_
        rw [aup_rn (Ne.symm hne.2.1), (htp F (by omega) (by omega)).1]
        refine aw_bipush dX8_next_259 (by decide) ?_
        refine aw_icmpeq (tgt := 315) dX8_next_261 (by decide) (fun h261 => ?_) (fun h261 => ?_)
        · refine aw_iconst dX8_next_315 (by decide) ?_
          refine aw_goto (tgt := 320) dX8_next_316 (by decide) ?_
          refine p_X8_32_8 rfl dX8_next_320 ha ?_
          have hl' : ¬ ltr (tp (tF tp n p)) := by rw [eF]; exact fun z => hl ⟨by omega, z⟩
          have hd' : ¬ dgt (tp (tF tp n p)) := by rw [eF]; exact fun z => hg ⟨by omega, z⟩
          have fx : ∀ v : Int, ∀ x, x ≠ a → aup (aup ct2 a 2 (F + 1)) a 3 v x = ct x := fun v x hx => by rw [aup_rn hx, aup_rn hx]; exact b0 x hx
          first
            | (have eK := tK_3 hn0 hl' hd' (by rw [eF]; omega)
               refine aw_ret dX8_next_323 rfl ?_
               exact hQ _ ⟨hX.fa (fx 3), hp, by rw [aup_n (by omega), aup_n (by omega), b1, eF], by rw [aup_n (by omega), aup_s, tE_3 hn0 hl' hd', eF], by rw [aup_s, eK], fun z => by rw [eK] at z; omega⟩ ⟨(fx 3), by rw [aup_n (by omega), aup_n (by omega)]; exact b5⟩)
            | (have eK := tK_4 hn0 hl' hd' (by rw [eF]; omega)
               refine aw_ret dX8_next_323 rfl ?_
               exact hQ _ ⟨hX.fa (fx 4), hp, by rw [aup_n (by omega), aup_n (by omega), b1, eF], by rw [aup_n (by omega), aup_s, tE_3 hn0 hl' hd', eF], by rw [aup_s, eK], fun z => by rw [eK] at z; omega⟩ ⟨(fx 4), by rw [aup_n (by omega), aup_n (by omega)]; exact b5⟩)
        · refine aw_aload_n dX8_next_264 rfl ?_
          refine g_X8_3_8 rfl dX8_next_265 ha ?_
          rw [h60]
          refine g_X8_22_0 rfl dX8_next_268 (by assumption) ?_
          rw [hB1]
          refine aw_aload_n dX8_next_271 rfl ?_
          refine g_X8_29_8 rfl dX8_next_272 ha ?_
          first
            | rw [b1]
            | rw [aup_n (by omega), b1]
          refine aw_baload dX8_next_275 (by assumption) (by omega) (by omega) ?_
          rw [aup_rn (Ne.symm hne.2.1), (htp F (by omega) (by omega)).1]
          refine aw_bipush dX8_next_276 (by decide) ?_
          refine aw_icmpeq (tgt := 315) dX8_next_278 (by decide) (fun h278 => ?_) (fun h278 => ?_)
          · refine aw_iconst dX8_next_315 (by decide) ?_
            refine aw_goto (tgt := 320) dX8_next_316 (by decide) ?_
            refine p_X8_32_8 rfl dX8_next_320 ha ?_
            have hl' : ¬ ltr (tp (tF tp n p)) := by rw [eF]; exact fun z => hl ⟨by omega, z⟩
            have hd' : ¬ dgt (tp (tF tp n p)) := by rw [eF]; exact fun z => hg ⟨by omega, z⟩
            have fx : ∀ v : Int, ∀ x, x ≠ a → aup (aup ct2 a 2 (F + 1)) a 3 v x = ct x := fun v x hx => by rw [aup_rn hx, aup_rn hx]; exact b0 x hx
            first
              | (have eK := tK_3 hn0 hl' hd' (by rw [eF]; omega)
                 refine aw_ret dX8_next_323 rfl ?_
                 exact hQ _ ⟨hX.fa (fx 3), hp, by rw [aup_n (by omega), aup_n (by omega), b1, eF], by rw [aup_n (by omega), aup_s, tE_3 hn0 hl' hd', eF], by rw [aup_s, eK], fun z => by rw [eK] at z; omega⟩ ⟨(fx 3), by rw [aup_n (by omega), aup_n (by omega)]; exact b5⟩)
              | (have eK := tK_4 hn0 hl' hd' (by rw [eF]; omega)
                 refine aw_ret dX8_next_323 rfl ?_
                 exact hQ _ ⟨hX.fa (fx 4), hp, by rw [aup_n (by omega), aup_n (by omega), b1, eF], by rw [aup_n (by omega), aup_s, tE_3 hn0 hl' hd', eF], by rw [aup_s, eK], fun z => by rw [eK] at z; omega⟩ ⟨(fx 4), by rw [aup_n (by omega), aup_n (by omega)]; exact b5⟩)
          · refine aw_aload_n dX8_next_281 rfl ?_
            refine g_X8_3_8 rfl dX8_next_282 ha ?_
            rw [h60]
            refine g_X8_22_0 rfl dX8_next_285 (by assumption) ?_
            rw [hB1]
            refine aw_aload_n dX8_next_288 rfl ?_
            refine g_X8_29_8 rfl dX8_next_289 ha ?_
            first
              | rw [b1]
              | rw [aup_n (by omega), b1]
            refine aw_baload dX8_next_292 (by assumption) (by omega) (by omega) ?_
            rw [aup_rn (Ne.symm hne.2.1), (htp F (by omega) (by omega)).1]
            refine aw_bipush dX8_next_293 (by decide) ?_
            refine aw_icmpeq (tgt := 315) dX8_next_295 (by decide) (fun h295 => ?_) (fun h295 => ?_)
            · refine aw_iconst dX8_next_315 (by decide) ?_
              refine aw_goto (tgt := 320) dX8_next_316 (by decide) ?_
              refine p_X8_32_8 rfl dX8_next_320 ha ?_
              have hl' : ¬ ltr (tp (tF tp n p)) := by rw [eF]; exact fun z => hl ⟨by omega, z⟩
              have hd' : ¬ dgt (tp (tF tp n p)) := by rw [eF]; exact fun z => hg ⟨by omega, z⟩
              have fx : ∀ v : Int, ∀ x, x ≠ a → aup (aup ct2 a 2 (F + 1)) a 3 v x = ct x := fun v x hx => by rw [aup_rn hx, aup_rn hx]; exact b0 x hx
              first
                | (have eK := tK_3 hn0 hl' hd' (by rw [eF]; omega)
                   refine aw_ret dX8_next_323 rfl ?_
                   exact hQ _ ⟨hX.fa (fx 3), hp, by rw [aup_n (by omega), aup_n (by omega), b1, eF], by rw [aup_n (by omega), aup_s, tE_3 hn0 hl' hd', eF], by rw [aup_s, eK], fun z => by rw [eK] at z; omega⟩ ⟨(fx 3), by rw [aup_n (by omega), aup_n (by omega)]; exact b5⟩)
                | (have eK := tK_4 hn0 hl' hd' (by rw [eF]; omega)
                   refine aw_ret dX8_next_323 rfl ?_
                   exact hQ _ ⟨hX.fa (fx 4), hp, by rw [aup_n (by omega), aup_n (by omega), b1, eF], by rw [aup_n (by omega), aup_s, tE_3 hn0 hl' hd', eF], by rw [aup_s, eK], fun z => by rw [eK] at z; omega⟩ ⟨(fx 4), by rw [aup_n (by omega), aup_n (by omega)]; exact b5⟩)
            · refine aw_aload_n dX8_next_298 rfl ?_
              refine g_X8_3_8 rfl dX8_next_299 ha ?_
              rw [h60]
              refine g_X8_22_0 rfl dX8_next_302 (by assumption) ?_
              rw [hB1]
              refine aw_aload_n dX8_next_305 rfl ?_
              refine g_X8_29_8 rfl dX8_next_306 ha ?_
              first
                | rw [b1]
                | rw [aup_n (by omega), b1]
              refine aw_baload dX8_next_309 (by assumption) (by omega) (by omega) ?_
              rw [aup_rn (Ne.symm hne.2.1), (htp F (by omega) (by omega)).1]
              refine aw_bipush dX8_next_310 (by decide) ?_
              refine aw_icmpne (tgt := 319) dX8_next_312 (by decide) (fun h312 => ?_) (fun h312 => ?_)
              · refine aw_iconst dX8_next_319 (by decide) ?_
                refine p_X8_32_8 rfl dX8_next_320 ha ?_
                have hl' : ¬ ltr (tp (tF tp n p)) := by rw [eF]; exact fun z => hl ⟨by omega, z⟩
                have hd' : ¬ dgt (tp (tF tp n p)) := by rw [eF]; exact fun z => hg ⟨by omega, z⟩
                have fx : ∀ v : Int, ∀ x, x ≠ a → aup (aup ct2 a 2 (F + 1)) a 3 v x = ct x := fun v x hx => by rw [aup_rn hx, aup_rn hx]; exact b0 x hx
                first
                  | (have eK := tK_3 hn0 hl' hd' (by rw [eF]; omega)
                     refine aw_ret dX8_next_323 rfl ?_
                     exact hQ _ ⟨hX.fa (fx 3), hp, by rw [aup_n (by omega), aup_n (by omega), b1, eF], by rw [aup_n (by omega), aup_s, tE_3 hn0 hl' hd', eF], by rw [aup_s, eK], fun z => by rw [eK] at z; omega⟩ ⟨(fx 3), by rw [aup_n (by omega), aup_n (by omega)]; exact b5⟩)
                  | (have eK := tK_4 hn0 hl' hd' (by rw [eF]; omega)
                     refine aw_ret dX8_next_323 rfl ?_
                     exact hQ _ ⟨hX.fa (fx 4), hp, by rw [aup_n (by omega), aup_n (by omega), b1, eF], by rw [aup_n (by omega), aup_s, tE_3 hn0 hl' hd', eF], by rw [aup_s, eK], fun z => by rw [eK] at z; omega⟩ ⟨(fx 4), by rw [aup_n (by omega), aup_n (by omega)]; exact b5⟩)
              · refine aw_iconst dX8_next_315 (by decide) ?_
                refine aw_goto (tgt := 320) dX8_next_316 (by decide) ?_
                refine p_X8_32_8 rfl dX8_next_320 ha ?_
                have hl' : ¬ ltr (tp (tF tp n p)) := by rw [eF]; exact fun z => hl ⟨by omega, z⟩
                have hd' : ¬ dgt (tp (tF tp n p)) := by rw [eF]; exact fun z => hg ⟨by omega, z⟩
                have fx : ∀ v : Int, ∀ x, x ≠ a → aup (aup ct2 a 2 (F + 1)) a 3 v x = ct x := fun v x hx => by rw [aup_rn hx, aup_rn hx]; exact b0 x hx
                first
                  | (have eK := tK_3 hn0 hl' hd' (by rw [eF]; omega)
                     refine aw_ret dX8_next_323 rfl ?_
                     exact hQ _ ⟨hX.fa (fx 3), hp, by rw [aup_n (by omega), aup_n (by omega), b1, eF], by rw [aup_n (by omega), aup_s, tE_3 hn0 hl' hd', eF], by rw [aup_s, eK], fun z => by rw [eK] at z; omega⟩ ⟨(fx 3), by rw [aup_n (by omega), aup_n (by omega)]; exact b5⟩)
                  | (have eK := tK_4 hn0 hl' hd' (by rw [eF]; omega)
                     refine aw_ret dX8_next_323 rfl ?_
                     exact hQ _ ⟨hX.fa (fx 4), hp, by rw [aup_n (by omega), aup_n (by omega), b1, eF], by rw [aup_n (by omega), aup_s, tE_3 hn0 hl' hd', eF], by rw [aup_s, eK], fun z => by rw [eK] at z; omega⟩ ⟨(fx 4), by rw [aup_n (by omega), aup_n (by omega)]; exact b5⟩)
  · refine aw_ret dX8_next_90 rfl ?_
    exact hQ _ ⟨hX1.fa (fun x hx => by rw [aup_rn hx, aup_rn hx]), hp, by rw [aup_n (by omega), aup_n (by omega), e1, eF], by rw [aup_n (by omega), aup_s, tE_0 (by omega), eF], by rw [aup_s, tK_0 (by omega)], fun z => by rw [tK_0 (by omega)] at z; omega⟩ ⟨fun x hx => by rw [aup_rn hx, aup_rn hx]; exact e2' x hx, by rw [aup_n (by omega), aup_n (by omega)]; exact e5⟩
