set_option maxRecDepth 100000
/-! operations, 27: odds, the reference -/
theorem L_m_od84 {ct : Int → Int → Int} {a b sd w : Int} {Q : aPost} {d kc ks : Nat} (K : ∀ ct1 : Int → Int → Int, ct1 1 = cpR 0 6150 860 (ct 1) → (∀ b, b ≠ 1 → ct1 b = ct b) → AW (mq Q) md_X7_odds d kc ks 116 [some (vR 0), some (vI a), some (vI b), some (vI sd), some (vI w), some (vI 860), none, none] [] (gM ct1)) : ∀ (r j : Nat) (ct1 : Int → Int → Int), j + r = 860 → ct1 1 = cpR 0 6150 j (ct 1) → (∀ b, b ≠ 1 → ct1 b = ct b) → AW (mq Q) md_X7_odds d kc ks 84 [some (vR 0), some (vI a), some (vI b), some (vI sd), some (vI w), some (vI j), none, none] [] (gM ct1) := by
  intro r
  induction r with
  | zero =>
    intro j ct1 g1 g2 g3
    have ej : j = 860 := by omega
    subst ej
    refine aw_iload dX7_odds_84 rfl ?_
    refine aw_sipush dX7_odds_86 (by decide) ?_
    refine aw_icmpge (tgt := 116) dX7_odds_89 (by decide) (fun h89 => ?_) (fun h89 => ?_)
    · exact K ct1 g2 g3
    · exfalso; omega
  | succ r ih =>
    intro j ct1 g1 g2 g3
    have ea : ct1 1 j = ct 1 (0 + j) := by
      have q := cpR_at (f := 0) (t := 6150) (n := j) (j := j) (s := ct 1) (by omega)
      rw [Int.zero_add] at q ⊢
      rw [g2]; exact q
    refine aw_iload dX7_odds_84 rfl ?_
    refine aw_sipush dX7_odds_86 (by decide) ?_
    refine aw_icmpge (tgt := 116) dX7_odds_89 (by decide) (fun h89 => ?_) (fun h89 => ?_)
    · exfalso; omega
    · refine gm_7 rfl dX7_odds_92 dX7_odds_93 rfl ?_
      refine aw_sipush dX7_odds_96 (by decide) ?_
      refine aw_iload dX7_odds_99 rfl ?_
      refine aw_iaddr dX7_odds_101 (by omega) ?_
      refine gm_7 rfl dX7_odds_102 dX7_odds_103 rfl ?_
      refine aw_iload dX7_odds_106 rfl ?_
      refine aw_iaload dX7_odds_108 m_a1 (by omega) (by omega) ?_
      rw [ea]
      refine aw_iastore dX7_odds_109 m_a1 (by omega) (by omega) ?_
      refine aw_iinc5r dX7_odds_110 (by decide) (by decide) rfl (by omega) ?_
      refine aw_goto (tgt := 84) dX7_odds_113 (by decide) ?_
      refine ih (j + 1) _ (by omega) ?_ (fun b b1 => by rw [aup_rn b1]; exact g3 b b1)
      rw [aup_r, g2, Int.natCast_add, Int.natCast_one]
      exact cpR_put (by omega)
theorem L_m_od163 {ct : Int → Int → Int} {a b sd w n k : Int} {Q : aPost} {d kc ks : Nat} (K : ∀ ct1 : Int → Int → Int, ct1 1 = cpR 6150 0 860 (ct 1) → (∀ b, b ≠ 1 → ct1 b = ct b) → AW (mq Q) md_X7_odds d kc ks 195 [some (vR 0), some (vI a), some (vI b), some (vI sd), some (vI w), some (vI n), some (vI k), some (vI 860)] [] (gM ct1)) : ∀ (r j : Nat) (ct1 : Int → Int → Int), j + r = 860 → ct1 1 = cpR 6150 0 j (ct 1) → (∀ b, b ≠ 1 → ct1 b = ct b) → AW (mq Q) md_X7_odds d kc ks 163 [some (vR 0), some (vI a), some (vI b), some (vI sd), some (vI w), some (vI n), some (vI k), some (vI j)] [] (gM ct1) := by
  intro r
  induction r with
  | zero =>
    intro j ct1 g1 g2 g3
    have ej : j = 860 := by omega
    subst ej
    refine aw_iload dX7_odds_163 rfl ?_
    refine aw_sipush dX7_odds_165 (by decide) ?_
    refine aw_icmpge (tgt := 195) dX7_odds_168 (by decide) (fun h168 => ?_) (fun h168 => ?_)
    · exact K ct1 g2 g3
    · exfalso; omega
  | succ r ih =>
    intro j ct1 g1 g2 g3
    have ea : ct1 1 (6150 + j) = ct 1 (6150 + j) := by rw [g2]; exact cpR_at (by omega)
    refine aw_iload dX7_odds_163 rfl ?_
    refine aw_sipush dX7_odds_165 (by decide) ?_
    refine aw_icmpge (tgt := 195) dX7_odds_168 (by decide) (fun h168 => ?_) (fun h168 => ?_)
    · exfalso; omega
    · refine gm_7 rfl dX7_odds_171 dX7_odds_172 rfl ?_
      refine aw_iload dX7_odds_175 rfl ?_
      refine gm_7 rfl dX7_odds_177 dX7_odds_178 rfl ?_
      refine aw_sipush dX7_odds_181 (by decide) ?_
      refine aw_iload dX7_odds_184 rfl ?_
      refine aw_iaddr dX7_odds_186 (by omega) ?_
      refine aw_iaload dX7_odds_187 m_a1 (by omega) (by omega) ?_
      rw [ea]
      refine aw_iastore dX7_odds_188 m_a1 (by omega) (by omega) ?_
      refine aw_iinc7r dX7_odds_189 (by decide) (by decide) rfl (by omega) ?_
      refine aw_goto (tgt := 163) dX7_odds_192 (by decide) ?_
      refine ih (j + 1) _ (by omega) ?_ (fun b b1 => by rw [aup_rn b1]; exact g3 b b1)
      rw [aup_r, g2, Int.natCast_add, Int.natCast_one]
      have q := cpR_put (f := 6150) (t := 0) (n := j) (s := ct 1) (by omega)
      rw [Int.zero_add] at q
      exact q
def MO (c0 ct : Int → Int → Int) (s : Int → Int) : Prop := Fok ct ∧ ct 1 = s ∧ (∀ b, b ≠ 0 → b ≠ 1 → b ≠ 9 → b ≠ 11 → b ≠ 12 → ct b = c0 b) ∧ ∀ i, i ≠ 24 → i ≠ 25 → i ≠ 26 → i ≠ 27 → i ≠ 29 → i ≠ 30 → ct 0 i = c0 0 i
theorem MO.step {c0 c1 c2 c3 : Int → Int → Int} {s : Int → Int} {q : lvS} (h : MO c0 c1 s) (h2 : MLV c1 c2 q) (hk : sK s q.1) (hs : ∀ i, 0 ≤ i → i < 860 → s (6150 + i) = s i) (e1 : c3 1 = cpR 6150 0 860 (c2 1)) (e3 : ∀ b, b ≠ 1 → c3 b = c2 b) : MO c0 c3 s := by
  obtain ⟨hF, hE, hB, hI⟩ := h
  obtain ⟨kF, kE, -, kB, kI⟩ := h2
  refine ⟨kF.eq (by rw [e3 0 (by decide)]) (e3 9 (by decide)), ?_, fun b b0 b1 b9 b11 b12 => by rw [e3 b b1, kB b b0 b1 b9 b11 b12, hB b b0 b1 b9 b11 b12], fun i i0 i1 i2 i3 i4 i5 => by rw [e3 0 (by decide), kI i i0 i1 i2 i3 i4 i5, hI i i0 i1 i2 i3 i4 i5]⟩
  rw [e1, kE]
  funext i
  unfold cpR
  split
  · rename_i z
    rw [hk.1 _ (by omega), show 6150 + (i - 0) = 6150 + i by omega]
    exact hs i (by omega) (by omega)
  · exact hk.1 i (by omega)
theorem L_m_odds {ct : Int → Int → Int} {own : Int → Int} {sz : Int} {im : Int → aIm} {cx : Int → Int → Int} {s : Int → Int} {a b sd w l : Int} {Q : aPost} {d kc ks : Nat} (hd : 10 ≤ d) (hB : BLK own sz im cx s 4 l 0 (s 10)) (hP : PI s) (hsw : ∀ i, 0 ≤ i → i < 860 → s (6150 + i) = s i) (hs : 0 ≤ sd ∧ sd + w ≤ 10000) (hw : 1 ≤ w ∧ w ≤ 10) (ha : 0 ≤ a ∧ a < s 0) (K : ∀ (ct2 : Int → Int → Int) (e : Option aV), MO ct ct2 s → AW (mq Q) md_X7_odds d kc ks 201 [some (vR 0), some (vI a), some (vI b), some (vI sd), some (vI w), some (vI (oddF s a b sd w.toNat)), some (vI w), e] [] (gM ct2)) : ∀ (r : Nat) (k : Int) (ct1 : Int → Int → Int) (e : Option aV), k + r = w → 0 ≤ k → MO ct ct1 s → AW (mq Q) md_X7_odds d kc ks 122 [some (vR 0), some (vI a), some (vI b), some (vI sd), some (vI w), some (vI (oddF s a b sd k.toNat)), some (vI k), e] [] (gM ct1) := by
  intro r
  induction r with
  | zero =>
    intro k ct1 e h1 h2 hM
    have ek : k = w := by omega
    subst ek
    refine aw_iload dX7_odds_122 rfl ?_
    refine aw_iload dX7_odds_124 rfl ?_
    refine aw_icmpge (tgt := 201) dX7_odds_126 (by decide) (fun h126 => ?_) (fun h126 => ?_)
    · exact K ct1 e hM
    · exfalso; omega
  | succ r ih =>
    intro k ct1 e h1 h2 hM
    have hE := hM.2.1
    have hb0 := hP.1
    have hI := lvR_in (sd := sd + k) hB hP (by omega)
    have e00 := hI.2.1 0 (Or.inl rfl)
    have gk := hI.1.1.2.2.1 a ha.1 (by omega)
    have gk1 := gk.1
    have ob := oddF_bd (s := s) (a := a) (b := b) (sd := sd) (k := k.toNat)
    refine aw_iload dX7_odds_122 rfl ?_
    refine aw_iload dX7_odds_124 rfl ?_
    refine aw_icmpge (tgt := 201) dX7_odds_126 (by decide) (fun h126 => ?_) (fun h126 => ?_)
    · exfalso; omega
    · refine aw_aload_n dX7_odds_129 rfl ?_
      refine aw_iload_n dX7_odds_130 rfl ?_
      refine aw_iload dX7_odds_131 rfl ?_
      refine aw_iaddr dX7_odds_133 (by omega) ?_
      refine c_X7_392 rfl dX7_odds_134 m_ob (Nat.le_of_ble_eq_true rfl) (by omega) (C_m_lives (sd := sd + k) hM.1 (by rw [hE]; exact hP) (by rw [hE]; exact hB) (by omega) (fun ct2 hL => ?_))
      rw [hE] at hL
      have ec := hL.2.1
      refine aK_v ?_
      refine aw_iload dX7_odds_137 rfl ?_
      refine aw_aload_n dX7_odds_139 rfl ?_
      refine aw_iload_n dX7_odds_140 rfl ?_
      refine c_X7_217 rfl dX7_odds_141  (Nat.le_of_ble_eq_true rfl) (by omega) (C_m_hiveRow (by omega) ?_)
      refine aK_i ?_
      refine aw_iconst dX7_odds_144 (by decide) ?_
      refine c_X7_283 rfl dX7_odds_145 m_ob (Nat.le_of_ble_eq_true rfl) (by omega) (C_m_sumOf rfl (by rw [ec]; exact gk.1) (by rw [ec]; omega) (by rw [ec]; exact gk.2.1) ?_)
      rw [ec]
      refine aK_i ?_
      refine aw_iload_n dX7_odds_148 rfl ?_
      refine aw_icmplt (tgt := 156) dX7_odds_149 (by decide) (fun h149 => ?_) (fun h149 => ?_)
      · refine aw_iconst dX7_odds_156 (by decide) ?_
        refine aw_iaddr dX7_odds_157 (by omega) ?_
        refine aw_istore5 dX7_odds_158 (by decide) rfl ?_
        refine aw_iconst dX7_odds_160 (by decide) ?_
        refine aw_istore7 dX7_odds_161 (by decide) rfl ?_
        refine L_m_od163 (ct := ct2) (fun ct3 f1 f3 => ?_) 860 0 ct2 (by decide) (cpR_0 (f := 6150) (t := 0) (s := ct2 1)).symm (fun _ _ => rfl)
        refine aw_iinc6r dX7_odds_195 (by decide) (by decide) rfl (by omega) ?_
        refine aw_goto (tgt := 122) dX7_odds_198 (by decide) ?_
        have ih2 := ih (k + 1) ct3 (some (vI 860)) (by omega) (by omega) (hM.step hL hI.2 hsw f1 f3)
        rw [show (k + 1).toNat = k.toNat + 1 by omega] at ih2
        rw [show oddF s a b sd (k.toNat + 1) = oddF s a b sd k.toNat + (if b ≤ hoK (lvR s (sd + k)).1 a then 1 else 0) by simp only [oddF]; rw [show ((k.toNat : Nat) : Int) = k by omega]] at ih2
        first
          | (rw [if_neg (show ¬ b ≤ hoK (lvR s (sd + k)).1 a from by unfold hoK; omega)] at ih2; exact ih2)
          | (rw [if_pos (show b ≤ hoK (lvR s (sd + k)).1 a from by unfold hoK; omega)] at ih2; exact ih2)
      · refine aw_iconst dX7_odds_152 (by decide) ?_
        refine aw_goto (tgt := 157) dX7_odds_153 (by decide) ?_
        refine aw_iaddr dX7_odds_157 (by omega) ?_
        refine aw_istore5 dX7_odds_158 (by decide) rfl ?_
        refine aw_iconst dX7_odds_160 (by decide) ?_
        refine aw_istore7 dX7_odds_161 (by decide) rfl ?_
        refine L_m_od163 (ct := ct2) (fun ct3 f1 f3 => ?_) 860 0 ct2 (by decide) (cpR_0 (f := 6150) (t := 0) (s := ct2 1)).symm (fun _ _ => rfl)
        refine aw_iinc6r dX7_odds_195 (by decide) (by decide) rfl (by omega) ?_
        refine aw_goto (tgt := 122) dX7_odds_198 (by decide) ?_
        have ih2 := ih (k + 1) ct3 (some (vI 860)) (by omega) (by omega) (hM.step hL hI.2 hsw f1 f3)
        rw [show (k + 1).toNat = k.toNat + 1 by omega] at ih2
        rw [show oddF s a b sd (k.toNat + 1) = oddF s a b sd k.toNat + (if b ≤ hoK (lvR s (sd + k)).1 a then 1 else 0) by simp only [oddF]; rw [show ((k.toNat : Nat) : Int) = k by omega]] at ih2
        first
          | (rw [if_neg (show ¬ b ≤ hoK (lvR s (sd + k)).1 a from by unfold hoK; omega)] at ih2; exact ih2)
          | (rw [if_pos (show b ≤ hoK (lvR s (sd + k)).1 a from by unfold hoK; omega)] at ih2; exact ih2)
