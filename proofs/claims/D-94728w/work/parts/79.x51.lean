set_option maxRecDepth 100000
/-! seasons: an act, BeeYardModel, 2 -/
theorem C_m_act {c0 ct : Int → Int → Int} {q : lvS} {Q : aPost} {r : Int} (hX : MLV c0 ct q) (hLq : LQ q) (hrow : ROW q.1 r) (h20 : q.1 r ≠ 20) (hr : 860 ≤ r ∧ r ≤ 1220) (K : ∀ ct2 : Int → Int → Int, MLV c0 ct2 (canQ q r) → (∀ u, ct2 11 u = ct 11 u) → Q (.inl (some (vI (canB q r)))) (gM ct2)) : AMet md_X7_does 8 0 0 [vR 0, vI r] (gM ct) Q := by
  have ec := hX.2.1
  obtain ⟨hP, hs, hm, hb, hov, hlf⟩ := id hLq
  have b0 := hP.1
  have b3 := hP.2.1
  rcases hrow with ⟨e, a1, a2⟩ | ⟨e, a1, a2⟩ | ⟨e, a1, a2, a3⟩ | ⟨e, ⟨a1, a2, a3⟩, a4, a5, a6⟩ | ⟨e, a1, a2⟩ | ⟨e, a1, a2⟩ | e
  all_goals refine AMet.go (L := [some (vR 0), some (vI r), none, none, none, none]) mok_X7_does (Nat.le_of_ble_eq_true rfl) rfl ?_
  · by_cases z : q.1 3 + q.1 (r + 1) ≤ 9999
    · have eA : actF q.1 r q.2.1 q.2.2.2.2.1 = (paD (q.1 (r + 1)).toNat q.1, q.2.1, q.2.2.2.2.1, 1) := by
        unfold actF
        rw [if_pos e, if_pos z]
      rw [canB, if_neg (by omega), eA] at K
      rw [canQ, if_neg (by omega), eA] at K
      refine gm_7 rfl dX7_does_0 dX7_does_1 rfl ?_
      refine aw_iload_n dX7_does_4 rfl ?_
      refine aw_iconst dX7_does_5 (by decide) ?_
      refine aw_iaddr dX7_does_6 (by omega) ?_
      refine aw_iaload dX7_does_7 m_a1 (by omega) (by omega) ?_
      rw [ec]
      refine aw_istore2 dX7_does_8 (by decide) rfl ?_
      refine gm_7 rfl dX7_does_9 dX7_does_10 rfl ?_
      refine aw_iload_n dX7_does_13 rfl ?_
      refine aw_iconst dX7_does_14 (by decide) ?_
      refine aw_iaddr dX7_does_15 (by omega) ?_
      refine aw_iaload dX7_does_16 m_a1 (by omega) (by omega) ?_
      rw [ec]
      refine aw_istore3 dX7_does_17 (by decide) rfl ?_
      refine gm_7 rfl dX7_does_18 dX7_does_19 rfl ?_
      refine aw_iload_n dX7_does_22 rfl ?_
      refine aw_iaload dX7_does_23 m_a1 (by omega) (by omega) ?_
      rw [ec, e]
      refine aw_tabIn (tgt := 64) dX7_does_24 (by decide) (by decide) (off := 40) (by rfl) (by decide) ?_
      refine gm_7 rfl dX7_does_64 dX7_does_65 rfl ?_
      refine aw_iconst dX7_does_68 (by decide) ?_
      refine aw_iaload dX7_does_69 m_a1 (by omega) (by omega) ?_
      rw [ec]
      refine aw_iload_n dX7_does_70 rfl ?_
      refine aw_iaddr dX7_does_71 (by omega) ?_
      refine aw_sipush dX7_does_72 (by decide) ?_
      refine aw_icmple (tgt := 80) dX7_does_75 (by decide) (fun h75 => ?_) (fun h75 => ?_)
      · refine aw_iconst dX7_does_80 (by decide) ?_
        refine aw_istore4 dX7_does_81 (by decide) rfl ?_
        exact L_m_ldays (c9 := ct) (by omega) hP (by omega) (fun ct2 h2 hr => K ct2 h2 hr) (q.1 (r + 1)).toNat 0 ct (by omega) hX (fun _ => rfl)
      · exfalso; omega
    · have eA : actF q.1 r q.2.1 q.2.2.2.2.1 = (q.1, q.2.1, q.2.2.2.2.1, 0) := by
        unfold actF
        rw [if_pos e, if_neg z]
      rw [canB, if_neg (by omega), eA] at K
      rw [canQ, if_neg (by omega), eA] at K
      refine gm_7 rfl dX7_does_0 dX7_does_1 rfl ?_
      refine aw_iload_n dX7_does_4 rfl ?_
      refine aw_iconst dX7_does_5 (by decide) ?_
      refine aw_iaddr dX7_does_6 (by omega) ?_
      refine aw_iaload dX7_does_7 m_a1 (by omega) (by omega) ?_
      rw [ec]
      refine aw_istore2 dX7_does_8 (by decide) rfl ?_
      refine gm_7 rfl dX7_does_9 dX7_does_10 rfl ?_
      refine aw_iload_n dX7_does_13 rfl ?_
      refine aw_iconst dX7_does_14 (by decide) ?_
      refine aw_iaddr dX7_does_15 (by omega) ?_
      refine aw_iaload dX7_does_16 m_a1 (by omega) (by omega) ?_
      rw [ec]
      refine aw_istore3 dX7_does_17 (by decide) rfl ?_
      refine gm_7 rfl dX7_does_18 dX7_does_19 rfl ?_
      refine aw_iload_n dX7_does_22 rfl ?_
      refine aw_iaload dX7_does_23 m_a1 (by omega) (by omega) ?_
      rw [ec, e]
      refine aw_tabIn (tgt := 64) dX7_does_24 (by decide) (by decide) (off := 40) (by rfl) (by decide) ?_
      refine gm_7 rfl dX7_does_64 dX7_does_65 rfl ?_
      refine aw_iconst dX7_does_68 (by decide) ?_
      refine aw_iaload dX7_does_69 m_a1 (by omega) (by omega) ?_
      rw [ec]
      refine aw_iload_n dX7_does_70 rfl ?_
      refine aw_iaddr dX7_does_71 (by omega) ?_
      refine aw_sipush dX7_does_72 (by decide) ?_
      refine aw_icmple (tgt := 80) dX7_does_75 (by decide) (fun h75 => ?_) (fun h75 => ?_)
      · exfalso; omega
      · refine aw_iconst dX7_does_78 (by decide) ?_
        refine aw_zreturn dX7_does_79 rfl (Or.inl rfl) ?_
        exact K ct hX (fun _ => rfl)
  · have gk := hP.2.2.1 (q.1 (r + 1)) a1.1 a1.2
    have eA : actF q.1 r q.2.1 q.2.2.2.2.1 = (brK q.1 (q.1 (r + 1)) (q.1 (r + 2)), q.2.1, q.2.2.2.2.1, 1) := by
      unfold actF
      rw [if_neg (by omega), if_pos e]
    rw [canB, if_neg (by omega), eA] at K
    rw [canQ, if_neg (by omega), eA] at K
    have gl := (stor_rg (n := q.1 (64 + 198 * q.1 (r + 1))) (k := nF (q.1 (64 + 198 * q.1 (r + 1)))) (c := sh (64 + 198 * q.1 (r + 1)) q.1) (l := q.1 (r + 2)) (by unfold nF; have := gk.1; omega) gk.2.1 a2.1).2.1
    have gl2 : 0 ≤ stL q.1 (64 + 198 * q.1 (r + 1)) (q.1 (r + 2)) := gl
    refine gm_7 rfl dX7_does_0 dX7_does_1 rfl ?_
    refine aw_iload_n dX7_does_4 rfl ?_
    refine aw_iconst dX7_does_5 (by decide) ?_
    refine aw_iaddr dX7_does_6 (by omega) ?_
    refine aw_iaload dX7_does_7 m_a1 (by omega) (by omega) ?_
    rw [ec]
    refine aw_istore2 dX7_does_8 (by decide) rfl ?_
    refine gm_7 rfl dX7_does_9 dX7_does_10 rfl ?_
    refine aw_iload_n dX7_does_13 rfl ?_
    refine aw_iconst dX7_does_14 (by decide) ?_
    refine aw_iaddr dX7_does_15 (by omega) ?_
    refine aw_iaload dX7_does_16 m_a1 (by omega) (by omega) ?_
    rw [ec]
    refine aw_istore3 dX7_does_17 (by decide) rfl ?_
    refine gm_7 rfl dX7_does_18 dX7_does_19 rfl ?_
    refine aw_iload_n dX7_does_22 rfl ?_
    refine aw_iaload dX7_does_23 m_a1 (by omega) (by omega) ?_
    rw [ec, e]
    refine aw_tabIn (tgt := 101) dX7_does_24 (by decide) (by decide) (off := 77) (by rfl) (by decide) ?_
    refine aw_aload_n dX7_does_101 rfl ?_
    refine aw_iload_n dX7_does_102 rfl ?_
    refine aw_iload_n dX7_does_103 rfl ?_
    refine c_X7_317 rfl dX7_does_104 m_ob (Nat.le_of_ble_eq_true rfl) (by omega) (C_m_brings hX.1 (by omega) (by rw [ec]; exact gk.1) (by rw [ec]; exact gk.2.1) (by omega) (fun ct2 hF2 e2 f2 => ?_))
    rw [ec] at e2
    rw [ec]
    refine aK_i ?_
    refine aw_iflt (tgt := 114) dX7_does_107 (by decide) (fun h107 => ?_) (fun h107 => ?_)
    · exfalso; omega
    · refine aw_iconst dX7_does_110 (by decide) ?_
      refine aw_goto (tgt := 115) dX7_does_111 (by decide) ?_
      refine aw_zreturn dX7_does_115 rfl (Or.inr rfl) ?_
      exact K ct2 (hX.df hF2 e2 f2.d) (fun u => by rw [f2.1 11 (by decide) (by decide) (by decide)])
  · have gk := hP.2.2.1 (q.1 (r + 1)) a1.1 a1.2
    have gk1 := gk.1
    have eA : actF q.1 r q.2.1 q.2.2.2.2.1 = (haK q.1 (q.1 (r + 1)) (q.1 (r + 2)), q.2.1, q.2.2.2.2.1, 1) := by
      unfold actF
      rw [if_neg (by omega), if_neg (by omega), if_pos e]
    rw [canB, if_neg (by omega), eA] at K
    rw [canQ, if_neg (by omega), eA] at K
    have gh := harN_bd (k := 16) gk.2.1 a2 a3 (Nat.le_refl _)
    refine gm_7 rfl dX7_does_0 dX7_does_1 rfl ?_
    refine aw_iload_n dX7_does_4 rfl ?_
    refine aw_iconst dX7_does_5 (by decide) ?_
    refine aw_iaddr dX7_does_6 (by omega) ?_
    refine aw_iaload dX7_does_7 m_a1 (by omega) (by omega) ?_
    rw [ec]
    refine aw_istore2 dX7_does_8 (by decide) rfl ?_
    refine gm_7 rfl dX7_does_9 dX7_does_10 rfl ?_
    refine aw_iload_n dX7_does_13 rfl ?_
    refine aw_iconst dX7_does_14 (by decide) ?_
    refine aw_iaddr dX7_does_15 (by omega) ?_
    refine aw_iaload dX7_does_16 m_a1 (by omega) (by omega) ?_
    rw [ec]
    refine aw_istore3 dX7_does_17 (by decide) rfl ?_
    refine gm_7 rfl dX7_does_18 dX7_does_19 rfl ?_
    refine aw_iload_n dX7_does_22 rfl ?_
    refine aw_iaload dX7_does_23 m_a1 (by omega) (by omega) ?_
    rw [ec, e]
    refine aw_tabIn (tgt := 116) dX7_does_24 (by decide) (by decide) (off := 92) (by rfl) (by decide) ?_
    refine aw_aload_n dX7_does_116 rfl ?_
    refine aw_iload_n dX7_does_117 rfl ?_
    refine aw_iload_n dX7_does_118 rfl ?_
    refine c_X7_298 rfl dX7_does_119 m_ob (Nat.le_of_ble_eq_true rfl) (by omega) (C_m_isFrame (by rw [ec]; omega) (fun hh => ?_) (fun hh => ?_))
    · refine aK_i ?_
      refine aw_ifeq (tgt := 138) dX7_does_122 (by decide) (fun h => absurd h (by decide)) (fun _ => ?_)
      refine aw_aload_n dX7_does_125 rfl ?_
      refine aw_iload_n dX7_does_126 rfl ?_
      refine aw_iload_n dX7_does_127 rfl ?_
      refine c_X7_320 rfl dX7_does_128 m_ob (Nat.le_of_ble_eq_true rfl) (by omega) (C_m_harvests hX.1 (by omega) (by rw [ec]; exact gk.1) (by rw [ec]; exact gk.2.1) a2 (by rw [ec]; exact a3) (fun ct2 hF2 e2 f2 => ?_))
      rw [ec] at e2
      rw [ec]
      refine aK_i ?_
      refine aw_iflt (tgt := 138) dX7_does_131 (by decide) (fun h131 => ?_) (fun h131 => ?_)
      · exfalso; omega
      · refine aw_iconst dX7_does_134 (by decide) ?_
        refine aw_goto (tgt := 139) dX7_does_135 (by decide) ?_
        refine aw_zreturn dX7_does_139 rfl (Or.inr rfl) ?_
        exact K ct2 (hX.df hF2 e2 f2.d) (fun u => by rw [f2.1 11 (by decide) (by decide) (by decide)])
    · rw [ec] at hh
      exact absurd ⟨a1, a2, a3⟩ hh
  · by_cases z : q.1 (r + 1) = q.1 (r + 3) ∧ q.1 (r + 2) = q.1 (r + 5)
    · have eA : actF q.1 r q.2.1 q.2.2.2.2.1 = (q.1, q.2.1, q.2.2.2.2.1, 0) := by
        unfold actF
        rw [if_neg (by omega), if_neg (by omega), if_neg (by omega), if_pos e, if_pos z]
      rw [canB, if_neg (by omega), eA] at K
      rw [canQ, if_neg (by omega), eA] at K
      refine gm_7 rfl dX7_does_0 dX7_does_1 rfl ?_
      refine aw_iload_n dX7_does_4 rfl ?_
      refine aw_iconst dX7_does_5 (by decide) ?_
      refine aw_iaddr dX7_does_6 (by omega) ?_
      refine aw_iaload dX7_does_7 m_a1 (by omega) (by omega) ?_
      rw [ec]
      refine aw_istore2 dX7_does_8 (by decide) rfl ?_
      refine gm_7 rfl dX7_does_9 dX7_does_10 rfl ?_
      refine aw_iload_n dX7_does_13 rfl ?_
      refine aw_iconst dX7_does_14 (by decide) ?_
      refine aw_iaddr dX7_does_15 (by omega) ?_
      refine aw_iaload dX7_does_16 m_a1 (by omega) (by omega) ?_
      rw [ec]
      refine aw_istore3 dX7_does_17 (by decide) rfl ?_
      refine gm_7 rfl dX7_does_18 dX7_does_19 rfl ?_
      refine aw_iload_n dX7_does_22 rfl ?_
      refine aw_iaload dX7_does_23 m_a1 (by omega) (by omega) ?_
      rw [ec, e]
      refine aw_tabIn (tgt := 140) dX7_does_24 (by decide) (by decide) (off := 116) (by rfl) (by decide) ?_
      refine aw_aload_n dX7_does_140 rfl ?_
      refine aw_iload_n dX7_does_141 rfl ?_
      refine aw_iload_n dX7_does_142 rfl ?_
      refine gm_7 rfl dX7_does_143 dX7_does_144 rfl ?_
      refine aw_iload_n dX7_does_147 rfl ?_
      refine aw_iconst dX7_does_148 (by decide) ?_
      refine aw_iaddr dX7_does_149 (by omega) ?_
      refine aw_iaload dX7_does_150 m_a1 (by omega) (by omega) ?_
      rw [ec]
      refine gm_7 rfl dX7_does_151 dX7_does_152 rfl ?_
      refine aw_iload_n dX7_does_155 rfl ?_
      refine aw_iconst dX7_does_156 (by decide) ?_
      refine aw_iaddr dX7_does_157 (by omega) ?_
      refine aw_iaload dX7_does_158 m_a1 (by omega) (by omega) ?_
      rw [ec]
      refine c_X7_323 rfl dX7_does_159 m_ob (Nat.le_of_ble_eq_true rfl) (by omega) (C_m_mayMove (by rw [ec]; omega) (fun hm => ?_) (fun hm => ?_))
      · have := hm.2.2
        exfalso; omega
      · refine aK_i ?_
        refine aw_ifne (tgt := 167) dX7_does_162 (by decide) (fun h => absurd h (by decide)) (fun _ => ?_)
        refine aw_iconst dX7_does_165 (by decide) ?_
        refine aw_zreturn dX7_does_166 rfl (Or.inl rfl) ?_
        exact K ct hX (fun _ => rfl)
    · have eA : actF q.1 r q.2.1 q.2.2.2.2.1 = ((mvS (64 + 198 * q.1 (r + 1) + 6 + 16 * q.1 (r + 2)) (64 + 198 * q.1 (r + 3) + 6 + 16 * q.1 (r + 5)) 16 q.1), q.2.1, q.2.2.2.2.1, 1) := by
        unfold actF
        rw [if_neg (by omega), if_neg (by omega), if_neg (by omega), if_pos e, if_neg z]
      rw [canB, if_neg (by omega), eA] at K
      rw [canQ, if_neg (by omega), eA] at K
      have n1 := (hP.2.2.1 _ a1.1 a1.2).1
      have n2 := (hP.2.2.1 _ a4.1 a4.2).1
      refine gm_7 rfl dX7_does_0 dX7_does_1 rfl ?_
      refine aw_iload_n dX7_does_4 rfl ?_
      refine aw_iconst dX7_does_5 (by decide) ?_
      refine aw_iaddr dX7_does_6 (by omega) ?_
      refine aw_iaload dX7_does_7 m_a1 (by omega) (by omega) ?_
      rw [ec]
      refine aw_istore2 dX7_does_8 (by decide) rfl ?_
      refine gm_7 rfl dX7_does_9 dX7_does_10 rfl ?_
      refine aw_iload_n dX7_does_13 rfl ?_
      refine aw_iconst dX7_does_14 (by decide) ?_
      refine aw_iaddr dX7_does_15 (by omega) ?_
      refine aw_iaload dX7_does_16 m_a1 (by omega) (by omega) ?_
      rw [ec]
      refine aw_istore3 dX7_does_17 (by decide) rfl ?_
      refine gm_7 rfl dX7_does_18 dX7_does_19 rfl ?_
      refine aw_iload_n dX7_does_22 rfl ?_
      refine aw_iaload dX7_does_23 m_a1 (by omega) (by omega) ?_
      rw [ec, e]
      refine aw_tabIn (tgt := 140) dX7_does_24 (by decide) (by decide) (off := 116) (by rfl) (by decide) ?_
      refine aw_aload_n dX7_does_140 rfl ?_
      refine aw_iload_n dX7_does_141 rfl ?_
      refine aw_iload_n dX7_does_142 rfl ?_
      refine gm_7 rfl dX7_does_143 dX7_does_144 rfl ?_
      refine aw_iload_n dX7_does_147 rfl ?_
      refine aw_iconst dX7_does_148 (by decide) ?_
      refine aw_iaddr dX7_does_149 (by omega) ?_
      refine aw_iaload dX7_does_150 m_a1 (by omega) (by omega) ?_
      rw [ec]
      refine gm_7 rfl dX7_does_151 dX7_does_152 rfl ?_
      refine aw_iload_n dX7_does_155 rfl ?_
      refine aw_iconst dX7_does_156 (by decide) ?_
      refine aw_iaddr dX7_does_157 (by omega) ?_
      refine aw_iaload dX7_does_158 m_a1 (by omega) (by omega) ?_
      rw [ec]
      refine c_X7_323 rfl dX7_does_159 m_ob (Nat.le_of_ble_eq_true rfl) (by omega) (C_m_mayMove (by rw [ec]; omega) (fun hm => ?_) (fun hm => ?_))
      · refine aK_i ?_
        refine aw_ifne (tgt := 167) dX7_does_162 (by decide) (fun _ => ?_) (fun h => absurd h (by decide))
        refine aw_aload_n dX7_does_167 rfl ?_
        refine aw_aload_n dX7_does_168 rfl ?_
        refine aw_iload_n dX7_does_169 rfl ?_
        refine aw_iload_n dX7_does_170 rfl ?_
        refine c_X7_301 rfl dX7_does_171 m_ob (Nat.le_of_ble_eq_true rfl) (by omega) (C_m_frameRow (by omega) (by omega) ?_)
        refine aK_i ?_
        refine aw_aload_n dX7_does_174 rfl ?_
        refine gm_7 rfl dX7_does_175 dX7_does_176 rfl ?_
        refine aw_iload_n dX7_does_179 rfl ?_
        refine aw_iconst dX7_does_180 (by decide) ?_
        refine aw_iaddr dX7_does_181 (by omega) ?_
        refine aw_iaload dX7_does_182 m_a1 (by omega) (by omega) ?_
        rw [ec]
        refine gm_7 rfl dX7_does_183 dX7_does_184 rfl ?_
        refine aw_iload_n dX7_does_187 rfl ?_
        refine aw_iconst dX7_does_188 (by decide) ?_
        refine aw_iaddr dX7_does_189 (by omega) ?_
        refine aw_iaload dX7_does_190 m_a1 (by omega) (by omega) ?_
        rw [ec]
        refine c_X7_301 rfl dX7_does_191 m_ob (Nat.le_of_ble_eq_true rfl) (by omega) (C_m_frameRow (by omega) (by omega) ?_)
        refine aK_i ?_
        refine c_X7_327 rfl dX7_does_194 m_ob (Nat.le_of_ble_eq_true rfl) (by omega) (C_m_moves (by omega) (by omega) (by rcases (by omega : q.1 (r + 1) < q.1 (r + 3) ∨ q.1 (r + 1) = q.1 (r + 3) ∨ q.1 (r + 3) < q.1 (r + 1)) with y | y | y <;> omega) (fun ct2 t1 t2 => ?_))
        rw [ec] at t1
        refine aK_v ?_
        refine aw_iconst dX7_does_197 (by decide) ?_
        refine aw_zreturn dX7_does_198 rfl (Or.inr rfl) ?_
        exact K ct2 (hX.df (hX.1.eq (by rw [t2 0 (by decide)]) (t2 9 (by decide))) t1 (dfr.o1 t2)) (fun u => by rw [t2 11 (by decide)])
      · rw [ec] at hm
        exact absurd ⟨⟨a1, a2, a3⟩, ⟨a4, a5, a6⟩, by omega⟩ hm
  · have eA : actF q.1 r q.2.1 q.2.2.2.2.1 = ((bloF (q.1 (r + 1)) (q.1, q.2.1, q.2.2.2.2.1) (q.1 0).toNat).1, (bloF (q.1 (r + 1)) (q.1, q.2.1, q.2.2.2.2.1) (q.1 0).toNat).2.1, (bloF (q.1 (r + 1)) (q.1, q.2.1, q.2.2.2.2.1) (q.1 0).toNat).2.2, 1) := by
      unfold actF
      rw [if_neg (by omega), if_neg (by omega), if_neg (by omega), if_neg (by omega), if_pos e]
    rw [canB, if_neg (by omega), eA] at K
    rw [canQ, if_neg (by omega), eA] at K
    refine gm_7 rfl dX7_does_0 dX7_does_1 rfl ?_
    refine aw_iload_n dX7_does_4 rfl ?_
    refine aw_iconst dX7_does_5 (by decide) ?_
    refine aw_iaddr dX7_does_6 (by omega) ?_
    refine aw_iaload dX7_does_7 m_a1 (by omega) (by omega) ?_
    rw [ec]
    refine aw_istore2 dX7_does_8 (by decide) rfl ?_
    refine gm_7 rfl dX7_does_9 dX7_does_10 rfl ?_
    refine aw_iload_n dX7_does_13 rfl ?_
    refine aw_iconst dX7_does_14 (by decide) ?_
    refine aw_iaddr dX7_does_15 (by omega) ?_
    refine aw_iaload dX7_does_16 m_a1 (by omega) (by omega) ?_
    rw [ec]
    refine aw_istore3 dX7_does_17 (by decide) rfl ?_
    refine gm_7 rfl dX7_does_18 dX7_does_19 rfl ?_
    refine aw_iload_n dX7_does_22 rfl ?_
    refine aw_iaload dX7_does_23 m_a1 (by omega) (by omega) ?_
    rw [ec, e]
    refine aw_tabIn (tgt := 199) dX7_does_24 (by decide) (by decide) (off := 175) (by rfl) (by decide) ?_
    refine aw_iconst dX7_does_199 (by decide) ?_
    refine aw_istore4 dX7_does_200 (by decide) rfl ?_
    exact L_m_bloom (c9 := ct) (by omega) ⟨a1, a2⟩ hLq (fun ct2 h2 hr => K ct2 h2 hr) (q.1 0).toNat 0 ct _ (by omega) hX (fun _ => rfl)
  · by_cases z : mst q.1 (q.1 (r + 1)) (q.1 (r + 2))
    · have eA : actF q.1 r q.2.1 q.2.2.2.2.1 = (upA q.1 (64 + 198 * q.1 (r + 2) + 3) (q.1 (r + 1)), q.2.1, q.2.2.2.2.1, 1) := by
        unfold actF
        rw [if_neg (by omega), if_neg (by omega), if_neg (by omega), if_neg (by omega), if_neg (by omega), if_pos z]
      rw [canB, if_neg (by omega), eA] at K
      rw [canQ, if_neg (by omega), eA] at K
      refine gm_7 rfl dX7_does_0 dX7_does_1 rfl ?_
      refine aw_iload_n dX7_does_4 rfl ?_
      refine aw_iconst dX7_does_5 (by decide) ?_
      refine aw_iaddr dX7_does_6 (by omega) ?_
      refine aw_iaload dX7_does_7 m_a1 (by omega) (by omega) ?_
      rw [ec]
      refine aw_istore2 dX7_does_8 (by decide) rfl ?_
      refine gm_7 rfl dX7_does_9 dX7_does_10 rfl ?_
      refine aw_iload_n dX7_does_13 rfl ?_
      refine aw_iconst dX7_does_14 (by decide) ?_
      refine aw_iaddr dX7_does_15 (by omega) ?_
      refine aw_iaload dX7_does_16 m_a1 (by omega) (by omega) ?_
      rw [ec]
      refine aw_istore3 dX7_does_17 (by decide) rfl ?_
      refine gm_7 rfl dX7_does_18 dX7_does_19 rfl ?_
      refine aw_iload_n dX7_does_22 rfl ?_
      refine aw_iaload dX7_does_23 m_a1 (by omega) (by omega) ?_
      rw [ec, e]
      refine aw_tabIn (tgt := 264) dX7_does_24 (by decide) (by decide) (off := 240) (by rfl) (by decide) ?_
      refine aw_aload_n dX7_does_264 rfl ?_
      refine aw_iload_n dX7_does_265 rfl ?_
      refine aw_iload_n dX7_does_266 rfl ?_
      refine c_X7_331 rfl dX7_does_267 m_ob (Nat.le_of_ble_eq_true rfl) (by omega) (C_m_maySeat (by rw [ec]; exact b0) (by omega) (fun hm => ?_) (fun hm => ?_))
      · refine aK_i ?_
        refine aw_ifne (tgt := 275) dX7_does_270 (by decide) (fun _ => ?_) (fun h => absurd h (by decide))
        refine gm_7 rfl dX7_does_275 dX7_does_276 rfl ?_
        refine aw_iload_n dX7_does_279 rfl ?_
        refine c_X7_217 rfl dX7_does_280  (Nat.le_of_ble_eq_true rfl) (by omega) (C_m_hiveRow (by omega) ?_)
        refine aK_i ?_
        refine aw_iconst dX7_does_283 (by decide) ?_
        refine aw_iaddr dX7_does_284 (by omega) ?_
        refine aw_iload_n dX7_does_285 rfl ?_
        refine aw_iastore dX7_does_286 m_a1 (by omega) (by omega) ?_
        refine aw_iconst dX7_does_287 (by decide) ?_
        refine aw_zreturn dX7_does_288 rfl (Or.inr rfl) ?_
        exact K _ (hX.df (hX.1.eq (by rw [aup_rn (by decide)]) (aup_rn (by decide))) (by rw [aup_r, ec]) (dfr.o1 fun i hi => aup_rn hi)) (fun u => by rw [aup_rn (by decide)])
      · rw [ec] at hm
        exact absurd z hm
    · have eA : actF q.1 r q.2.1 q.2.2.2.2.1 = (q.1, q.2.1, q.2.2.2.2.1, 0) := by
        unfold actF
        rw [if_neg (by omega), if_neg (by omega), if_neg (by omega), if_neg (by omega), if_neg (by omega), if_neg z]
      rw [canB, if_neg (by omega), eA] at K
      rw [canQ, if_neg (by omega), eA] at K
      refine gm_7 rfl dX7_does_0 dX7_does_1 rfl ?_
      refine aw_iload_n dX7_does_4 rfl ?_
      refine aw_iconst dX7_does_5 (by decide) ?_
      refine aw_iaddr dX7_does_6 (by omega) ?_
      refine aw_iaload dX7_does_7 m_a1 (by omega) (by omega) ?_
      rw [ec]
      refine aw_istore2 dX7_does_8 (by decide) rfl ?_
      refine gm_7 rfl dX7_does_9 dX7_does_10 rfl ?_
      refine aw_iload_n dX7_does_13 rfl ?_
      refine aw_iconst dX7_does_14 (by decide) ?_
      refine aw_iaddr dX7_does_15 (by omega) ?_
      refine aw_iaload dX7_does_16 m_a1 (by omega) (by omega) ?_
      rw [ec]
      refine aw_istore3 dX7_does_17 (by decide) rfl ?_
      refine gm_7 rfl dX7_does_18 dX7_does_19 rfl ?_
      refine aw_iload_n dX7_does_22 rfl ?_
      refine aw_iaload dX7_does_23 m_a1 (by omega) (by omega) ?_
      rw [ec, e]
      refine aw_tabIn (tgt := 264) dX7_does_24 (by decide) (by decide) (off := 240) (by rfl) (by decide) ?_
      refine aw_aload_n dX7_does_264 rfl ?_
      refine aw_iload_n dX7_does_265 rfl ?_
      refine aw_iload_n dX7_does_266 rfl ?_
      refine c_X7_331 rfl dX7_does_267 m_ob (Nat.le_of_ble_eq_true rfl) (by omega) (C_m_maySeat (by rw [ec]; exact b0) (by omega) (fun hm => ?_) (fun hm => ?_))
      · rw [ec] at hm
        exact absurd hm z
      · refine aK_i ?_
        refine aw_ifne (tgt := 275) dX7_does_270 (by decide) (fun h => absurd h (by decide)) (fun _ => ?_)
        refine aw_iconst dX7_does_273 (by decide) ?_
        refine aw_zreturn dX7_does_274 rfl (Or.inl rfl) ?_
        exact K ct hX (fun _ => rfl)
  · exact absurd e h20
theorem C_m_actB {c0 ct : Int → Int → Int} {q : lvS} {Q : aPost} {r : Int} (hX : MLV c0 ct q) (hr : 860 ≤ r ∧ r ≤ 1220) (hb : q.1 r = 18 ∨ 1700 ≤ q.1 r) (K : Q (.inl (some (vI 1))) (gM ct)) : AMet md_X7_does 8 0 0 [vR 0, vI r] (gM ct) Q := by
  have ec := hX.2.1
  refine AMet.go (L := [some (vR 0), some (vI r), none, none, none, none]) mok_X7_does (Nat.le_of_ble_eq_true rfl) rfl ?_
  refine gm_7 rfl dX7_does_0 dX7_does_1 rfl ?_
  refine aw_iload_n dX7_does_4 rfl ?_
  refine aw_iconst dX7_does_5 (by decide) ?_
  refine aw_iaddr dX7_does_6 (by omega) ?_
  refine aw_iaload dX7_does_7 m_a1 (by omega) (by omega) ?_
  rw [ec]
  refine aw_istore2 dX7_does_8 (by decide) rfl ?_
  refine gm_7 rfl dX7_does_9 dX7_does_10 rfl ?_
  refine aw_iload_n dX7_does_13 rfl ?_
  refine aw_iconst dX7_does_14 (by decide) ?_
  refine aw_iaddr dX7_does_15 (by omega) ?_
  refine aw_iaload dX7_does_16 m_a1 (by omega) (by omega) ?_
  rw [ec]
  refine aw_istore3 dX7_does_17 (by decide) rfl ?_
  refine gm_7 rfl dX7_does_18 dX7_does_19 rfl ?_
  refine aw_iload_n dX7_does_22 rfl ?_
  refine aw_iaload dX7_does_23 m_a1 (by omega) (by omega) ?_
  rw [ec]
  refine aw_tabOut (tgt := 289) dX7_does_24 (by omega) (by decide) ?_
  refine aw_iconst dX7_does_289 (by decide) ?_
  refine aw_zreturn dX7_does_290 rfl (Or.inr rfl) ?_
  exact K
