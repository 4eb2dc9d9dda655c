set_option maxRecDepth 100000
/-! BeeYardModel reads: a season is copied -/
theorem L_m_sc {ct : Int → Int → Int} {a1 a2 : Int} {Q : aPost} {d kc ks : Nat} (hd : 1 ≤ d) (K : ∀ (ct' : Int → Int → Int) (x3 : Option aV), (∀ i, 860 ≤ i → i < 1225 → ct' 1 i = ct 1 (4920 + i)) → (∀ i, i < 860 ∨ 1225 ≤ i → ct' 1 i = ct 1 i) → (∀ b, b ≠ 1 → ct' b = ct b) → AW (mq Q) md_X7_season d kc ks 132 [some (vR 0), some (vI a1), some (vI a2), x3] [] (gM ct')) : ∀ (r : Nat) (j : Int) (ct1 : Int → Int → Int), j + r = 1225 → 860 ≤ j → (∀ i, 860 ≤ i → i < j → ct1 1 i = ct 1 (4920 + i)) → (∀ i, i < 860 ∨ j ≤ i → ct1 1 i = ct 1 i) → (∀ b, b ≠ 1 → ct1 b = ct b) → AW (mq Q) md_X7_season d kc ks 103 [some (vR 0), some (vI a1), some (vI a2), some (vI j)] [] (gM ct1) := by
  intro r
  induction r with
  | zero =>
    intro j ct1 h1 h2 h3 h4 h5
    refine aw_iload_n dX7_season_103 rfl ?_
    refine aw_sipush dX7_season_104 (by decide) ?_
    refine aw_icmpge (tgt := 132) dX7_season_107 (by decide) (fun h107 => ?_) (fun h107 => ?_)
    · exact K _ _ (fun i i0 i1 => h3 i i0 (by omega)) (fun i hi => h4 i (by omega)) h5
    · exfalso; omega
  | succ r ih =>
    intro j ct1 h1 h2 h3 h4 h5
    have ea : ct1 1 (4920 + j) = ct 1 (4920 + j) := h4 _ (by omega)
    refine aw_iload_n dX7_season_103 rfl ?_
    refine aw_sipush dX7_season_104 (by decide) ?_
    refine aw_icmpge (tgt := 132) dX7_season_107 (by decide) (fun h107 => ?_) (fun h107 => ?_)
    · exfalso; omega
    · refine gm_7 rfl dX7_season_110 dX7_season_111 rfl ?_
      refine aw_iload_n dX7_season_114 rfl ?_
      refine gm_7 rfl dX7_season_115 dX7_season_116 rfl ?_
      refine aw_sipush dX7_season_119 (by decide) ?_
      refine aw_iload_n dX7_season_122 rfl ?_
      refine aw_iaddr dX7_season_123 (by omega) ?_
      refine aw_iaload dX7_season_124 m_a1 (by omega) (by omega) ?_
      rw [ea]
      refine aw_iastore dX7_season_125 m_a1 (by omega) (by omega) ?_
      refine aw_iinc3r dX7_season_126 (by decide) (by decide) rfl (by omega) ?_
      refine aw_goto (tgt := 103) dX7_season_129 (by decide) ?_
      refine ih (j + 1) _ (by omega) (by omega) (fun i i0 i1 => ?_) (fun i hi => by rw [aup_n (by omega)]; exact h4 i (by omega)) (fun b hb => by rw [aup_rn hb]; exact h5 b hb)
      by_cases z : i = j
      · subst z; exact aup_s
      · rw [aup_n (by omega)]; exact h3 i i0 (by omega)
