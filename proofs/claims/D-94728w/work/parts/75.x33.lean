set_option maxRecDepth 100000
/-! join: its pieces -/
theorem C_x_jstores {own : Int → Int} {sz : Int} {im : Int → aIm} {ct : Int → Int → Int} {s N : Int → Int} {dd k a t : Int} {Q : aPost} (H : YR own 0 sz im ct 10 s dd N) (k0 : 0 ≤ k) (k1 : k < s 0) (ea : ct ((im 10).2.2 1) k = a) (h12 : 1 ≤ s (64 + 198 * k) ∧ s (64 + 198 * k) ≤ 12) (rg : rgF (s (64 + 198 * k)) (sh (64 + 198 * k) s)) (ht : 0 ≤ t ∧ t < 2147483648)
    (hQ : ∀ ct' : Int → Int → Int, YR own 0 sz im ct' 10 (stK s (64 + 198 * k) t) dd N → (∀ x j, own x ≠ k → ct' x j = ct x j) → Q (.inl (some (vI (stL s (64 + 198 * k) t)))) (sz, im, ct')) : AMet md_X9_stores 3 0 0 [vR a, vI t] (sz, im, ct) Q := by
  have hYH := H.2.2.2.2.2.2.2 k k0 k1
  rw [ea] at hYH
  refine C_x_stores hYH.1 hYH.2.1 rg ht (fun ct2 c2 hC2 ec hs hg => ?_)
  exact hQ ct2 (H.cells k0 k1 ea h12 hC2 hs hg (fun i hi => stK_o (by omega) (by omega)) (fun i i0 i1 => by rw [ec i i0 i1, stK_f])) (fun x j hx => hs x j (hYH.own (x := x) (by omega)).2)
theorem C_x_jclears {own : Int → Int} {sz : Int} {im : Int → aIm} {ct : Int → Int → Int} {s N : Int → Int} {dd k a : Int} {Q : aPost} (H : YR own 0 sz im ct 10 s dd N) (k0 : 0 ≤ k) (k1 : k < s 0) (ea : ct ((im 10).2.2 1) k = a) (h12 : 1 ≤ s (64 + 198 * k) ∧ s (64 + 198 * k) ≤ 12)
    (hQ : ∀ ct' : Int → Int → Int, YR own 0 sz im ct' 10 (clK s k) dd N → (∀ x j, own x ≠ k → ct' x j = ct x j) → Q (.inl none) (sz, im, ct')) : AMet md_X9_clears 1 0 0 [vR a] (sz, im, ct) Q := by
  have hYH := H.2.2.2.2.2.2.2 k k0 k1
  rw [ea] at hYH
  refine C_x_clears hYH.1 hYH.2.1 (fun ct2 hC2 hs hg => ?_)
  refine hQ ct2 (H.cells k0 k1 ea h12 hC2 hs hg (fun i hi => ?_) (fun i i0 i1 => ?_)) (fun x j hx => hs x j (hYH.own (x := x) (by omega)).2)
  · unfold clK
    rw [if_neg (by omega)]
  · unfold sh clK
    rw [if_pos (by omega)]
theorem L_m_jclr {ct : Int → Int → Int} {a b n : Int} {Q : aPost} {d kc ks : Nat} (ha : 0 ≤ a ∧ a < 4) (e : ct 1 (64 + 198 * a) = n) (hn : 1 ≤ n ∧ n ≤ 12) (K : ∀ (ct1 : Int → Int → Int) (x5 : Int), ct1 1 = clK (ct 1) a → (∀ i, i ≠ 1 → ct1 i = ct i) → AW (mq Q) md_X7_join d kc ks 166 [some (vR 0), some (vI a), some (vI b), some (vI (64 + 198 * a)), some (vI (64 + 198 * b)), some (vI x5)] [] (gM ct1)) : ∀ (r j : Nat) (ct1 : Int → Int → Int), (j : Int) + r = 16 * n → (∀ i, ct1 1 i = if 64 + 198 * a + 6 ≤ i ∧ i < 64 + 198 * a + 6 + j then 0 else ct 1 i) → (∀ i, i ≠ 1 → ct1 i = ct i) → AW (mq Q) md_X7_join d kc ks 133 [some (vR 0), some (vI a), some (vI b), some (vI (64 + 198 * a)), some (vI (64 + 198 * b)), some (vI j)] [] (gM ct1) := by
  intro r
  induction r with
  | zero =>
    intro j ct1 h1 g1 g2
    have e0 : ct1 1 (64 + 198 * a) = n := by rw [g1, if_neg (by omega)]; exact e
    refine aw_iload dX7_join_133 rfl ?_
    refine aw_bipush dX7_join_135 (by decide) ?_
    refine gm_7 rfl dX7_join_137 dX7_join_138 rfl ?_
    refine aw_iload_n dX7_join_141 rfl ?_
    refine aw_iaload dX7_join_142 m_a1 (by omega) (by omega) ?_
    rw [e0]
    refine aw_imulr dX7_join_143 (by omega) ?_
    refine aw_icmpge (tgt := 166) dX7_join_144 (by decide) (fun h144 => ?_) (fun h144 => ?_)
    · refine K _ _ (funext fun i => ?_) g2
      rw [g1]
      unfold clK
      rw [e]
      by_cases z : 64 + 198 * a + 6 ≤ i ∧ i < 64 + 198 * a + 6 + j
      · rw [if_pos z, if_pos (by omega)]
      · rw [if_neg z, if_neg (by omega)]
    · exfalso; omega
  | succ r ih =>
    intro j ct1 h1 g1 g2
    have e0 : ct1 1 (64 + 198 * a) = n := by rw [g1, if_neg (by omega)]; exact e
    refine aw_iload dX7_join_133 rfl ?_
    refine aw_bipush dX7_join_135 (by decide) ?_
    refine gm_7 rfl dX7_join_137 dX7_join_138 rfl ?_
    refine aw_iload_n dX7_join_141 rfl ?_
    refine aw_iaload dX7_join_142 m_a1 (by omega) (by omega) ?_
    rw [e0]
    refine aw_imulr dX7_join_143 (by omega) ?_
    refine aw_icmpge (tgt := 166) dX7_join_144 (by decide) (fun h144 => ?_) (fun h144 => ?_)
    · exfalso; omega
    · refine gm_7 rfl dX7_join_147 dX7_join_148 rfl ?_
      refine aw_iload_n dX7_join_151 rfl ?_
      refine aw_bipush dX7_join_152 (by decide) ?_
      refine aw_iaddr dX7_join_154 (by omega) ?_
      refine aw_iload dX7_join_155 rfl ?_
      refine aw_iaddr dX7_join_157 (by omega) ?_
      refine aw_iconst dX7_join_158 (by decide) ?_
      refine aw_iastore dX7_join_159 m_a1 (by omega) (by omega) ?_
      refine aw_iinc5r dX7_join_160 (by decide) (by decide) rfl (by omega) ?_
      refine aw_goto (tgt := 133) dX7_join_163 (by decide) ?_
      refine ih (j + 1) _ (by omega) (fun i => ?_) (fun i hi => by rw [aup_rn hi]; exact g2 i hi)
      by_cases y : i = 64 + 198 * a + 6 + j
      · subst y
        rw [aup_s, if_pos (by omega)]
      · rw [aup_n (fun z => y z.2), g1]
        by_cases z : 64 + 198 * a + 6 ≤ i ∧ i < 64 + 198 * a + 6 + j
        · rw [if_pos z, if_pos (by omega)]
        · rw [if_neg z, if_neg (by omega)]
