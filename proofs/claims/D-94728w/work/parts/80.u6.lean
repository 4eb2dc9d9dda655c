set_option maxRecDepth 100000
/-! BeeYardModel reads: queens -/
theorem L_m_aq235 {cm cm9 : Int → Int → Int} {tp s N : Int → Int} {n h q x m l b m1 : Int} {Q : aPost} {d kc ks : Nat} {x3 : Option aV} (hd : 1 ≤ d) (hS : SM cm s N) (hy : YI s) (h8 : s 1 ≠ 8) (hnx : NE x m1) (H9 : RM cm9 tp n q) (f9 : MF cm cm9) (hl : 0 ≤ l ∧ l ≤ 16) (hm : m = -1 ∨ (0 ≤ m ∧ m < s 1)) (hb : b = -1 ∨ (0 ≤ b ∧ b < s 2)) (a0 : cm9 1 (4934 + 4 * s 1) = l) (a1 : cm9 1 (4934 + 4 * s 1 + 1) = m) (a2 : cm9 1 (4934 + 4 * s 1 + 2) = b) (g2 : cm9 2 = upA (cm 2) (80 + (12 + s 1)) m1) (hh : h = -1 ∨ (0 ≤ h ∧ h < s 0)) (ah : h ≠ -1 → cm9 1 (4987 + 198 * h) = s 1) (az : ∀ i, i ≠ 4934 + 4 * s 1 → i ≠ 4934 + 4 * s 1 + 1 → i ≠ 4934 + 4 * s 1 + 2 → (h = -1 ∨ i ≠ 4987 + 198 * h) → i ≠ 6145 → cm9 1 i = cm 1 i) (hQ : ∀ cm1 : Int → Int → Int, RM cm1 tp n q → MF cm cm1 → SM cm1 (addQ s l m b h) (upA N (12 + s 1) x) → Q (.inl (some (vI 1))) (gM cm1)) : AW (mq Q) md_X7_aQueen d kc ks 235 [some (vR 0), some (vI (s 1)), some (vI (4934 + 4 * s 1)), x3] [] (gM cm9) := by
  have P0 := hy.1.1
  have PQ1 := hy.1.2.2.2.1
  have PQ0 := PQ1.1
  have e1 : cm 1 4921 = s 1 := by rw [show (4921 : Int) = 4920 + 1 by decide]; exact hS.1 1 (by decide) (by decide)
  have e13 : cm 1 4933 = s 13 := by rw [show (4933 : Int) = 4920 + 13 by decide]; exact hS.1 13 (by decide) (by decide)
  have e1s := PQ1.2.1
  refine gm_7 rfl dX7_aQueen_235 dX7_aQueen_236 rfl ?_
  refine aw_iload_n dX7_aQueen_239 rfl ?_
  refine aw_iconst dX7_aQueen_240 (by decide) ?_
  refine aw_iaddr dX7_aQueen_241 (by omega) ?_
  refine gm_7 rfl dX7_aQueen_242 dX7_aQueen_243 rfl ?_
  refine aw_sipush dX7_aQueen_246 (by decide) ?_
  refine aw_iaload dX7_aQueen_249 m_a1 (by omega) (by omega) ?_
  rw [az _ (by omega) (by omega) (by omega) (by omega) (by omega), e13]
  refine aw_iastore dX7_aQueen_250 m_a1 (by omega) (by omega) ?_
  refine gm_7 rfl dX7_aQueen_251 dX7_aQueen_252 rfl ?_
  refine aw_sipush dX7_aQueen_255 (by decide) ?_
  refine aw_dup2 dX7_aQueen_258 rfl rfl ?_
  refine aw_iaload dX7_aQueen_259 m_a1 (by omega) (by omega) ?_
  rw [aup_n (by omega), az _ (by omega) (by omega) (by omega) (by omega) (by omega), e13]
  refine aw_iconst dX7_aQueen_260 (by decide) ?_
  refine aw_iaddr dX7_aQueen_261 (by omega) ?_
  refine aw_iastore dX7_aQueen_262 m_a1 (by omega) (by omega) ?_
  refine gm_7 rfl dX7_aQueen_263 dX7_aQueen_264 rfl ?_
  refine aw_sipush dX7_aQueen_267 (by decide) ?_
  refine aw_dup2 dX7_aQueen_270 rfl rfl ?_
  refine aw_iaload dX7_aQueen_271 m_a1 (by omega) (by omega) ?_
  rw [aup_n (by omega), aup_n (by omega), az _ (by omega) (by omega) (by omega) (by omega) (by omega), e1]
  refine aw_iconst dX7_aQueen_272 (by decide) ?_
  refine aw_iaddr dX7_aQueen_273 (by omega) ?_
  refine aw_iastore dX7_aQueen_274 m_a1 (by omega) (by omega) ?_
  refine aw_iconst dX7_aQueen_275 (by decide) ?_
  refine aw_zreturn dX7_aQueen_276 rfl (Or.inr rfl) ?_
  refine hQ _ (((H9.up (by decide) (by decide)).up (by decide) (by decide)).up (by decide) (by decide)) (((f9.up1 (by omega)).up1 (by omega)).up1 (by omega)) (SM_up hS hnx ⟨P0, PQ0⟩ (Or.inr (Or.inr ⟨rfl, by omega, addQ_n (by omega) (by omega) (by omega) (by omega), upA_s, addQ_n (by omega) (by omega) (by omega) (by omega)⟩)) (by rw [aup_rn (by decide), aup_rn (by decide), aup_rn (by decide)]; exact g2) (fun i i0 i1 => ?_))
  have hi := hS.1 i i0 i1
  unfold addQ
  by_cases z1 : i = 1
  · subst z1; rw [upA_s]; exact aup_s
  rw [upA_n z1, aup_n (by omega)]
  by_cases z13 : i = 13
  · subst z13; rw [upA_s]; exact aup_s
  rw [upA_n z13, aup_n (by omega)]
  by_cases z3 : i = 17 + 4 * s 1
  · rw [z3, upA_s, show 4920 + (17 + 4 * s 1) = 4934 + 4 * s 1 + 3 by omega]; exact aup_s
  rw [upA_n z3, aup_n (by omega)]
  by_cases z2 : i = 16 + 4 * s 1
  · rw [z2, upA_s, show 4920 + (16 + 4 * s 1) = 4934 + 4 * s 1 + 2 by omega]; exact a2
  rw [upA_n z2]
  by_cases zm : i = 15 + 4 * s 1
  · rw [zm, upA_s, show 4920 + (15 + 4 * s 1) = 4934 + 4 * s 1 + 1 by omega]; exact a1
  rw [upA_n zm]
  by_cases zl : i = 14 + 4 * s 1
  · rw [zl, upA_s, show 4920 + (14 + 4 * s 1) = 4934 + 4 * s 1 by omega]; exact a0
  rw [upA_n zl]
  by_cases zh : h = -1
  · rw [if_pos zh, az _ (by omega) (by omega) (by omega) (by omega) (by omega)]; exact hi
  rw [if_neg zh]
  by_cases zq : i = 67 + 198 * h
  · rw [zq, upA_s, show 4920 + (67 + 198 * h) = 4987 + 198 * h by omega]; exact ah zh
  rw [upA_n zq, az _ (by omega) (by omega) (by omega) (by omega) (by omega)]
  exact hi
theorem L_m_aq128 {cm cm9 : Int → Int → Int} {tp s N : Int → Int} {n p q x m l b m1 : Int} {Q : aPost} {d kc ks : Nat} (hd : 8 ≤ d) (hS : SM cm s N) (hy : YI s) (h8 : s 1 ≠ 8) (hnx : NE x m1) (H9 : RM cm9 tp n q) (f9 : MF cm cm9) (hl : 0 ≤ l ∧ l ≤ 16) (hm : m = -1 ∨ (0 ≤ m ∧ m < s 1)) (hb : b = -1 ∨ (0 ≤ b ∧ b < s 2)) (a0 : cm9 1 (4934 + 4 * s 1) = l) (a1 : cm9 1 (4934 + 4 * s 1 + 1) = m) (a2 : cm9 1 (4934 + 4 * s 1 + 2) = b) (g2 : cm9 2 = upA (cm 2) (80 + (12 + s 1)) m1) (az : ∀ i, i ≠ 4934 + 4 * s 1 → i ≠ 4934 + 4 * s 1 + 1 → i ≠ 4934 + 4 * s 1 + 2 → cm9 1 i = cm 1 i) (hEq : queenP tp n p s N = bnd (if tW tp n q = 10 then homeP tp n (tE tp n q) s N else .inr (-1, q)) fun h => .inr (h.2, addQ s l m b h.1, upA N (12 + s 1) x)) (hF : ∀ (k pl : Int) (cm1 : Int → Int → Int), queenP tp n p s N = .inl (k, pl) → MB cm cm1 k pl → Q (.inl (some (vI 0))) (gM cm1)) (hQ : ∀ (q : Int) (s1 N1 : Int → Int) (cm1 : Int → Int → Int), queenP tp n p s N = .inr (q, s1, N1) → RM cm1 tp n q → MF cm cm1 → SM cm1 s1 N1 → YI s1 → Q (.inl (some (vI 1))) (gM cm1)) : AW (mq Q) md_X7_aQueen d kc ks 128 [some (vR 0), some (vI (s 1)), some (vI (4934 + 4 * s 1)), none] [] (gM cm9) := by
  have P0 := hy.1.1
  have PQ1 := hy.1.2.2.2.1
  have PQ0 := PQ1.1
  have e0 : cm 1 4920 = s 0 := by rw [show (4920 : Int) = 4920 + 0 by decide]; exact hS.1 0 (by decide) (by decide)
  refine aw_aload_n dX7_aQueen_128 rfl ?_
  refine aw_bipush dX7_aQueen_129 (by decide) ?_
  refine c_X7_185 rfl dX7_aQueen_131 m_ob (Nat.le_of_ble_eq_true rfl) (by omega) (C_m_isThere H9 (fun hw => ?_) (fun cm2 hw H2 f2 => ?_))
  · refine aK_i ?_
    refine aw_ifeq (tgt := 235) dX7_aQueen_134 (by decide) (fun _ => ?_) (fun h => absurd h (by decide))
    exact L_m_aq235 (h := -1) (by omega) hS hy h8 hnx H9 f9 hl hm hb a0 a1 a2 g2 (Or.inl rfl) (fun z => absurd rfl z) (fun i i0 i1 i2 _ _ => az i i0 i1 i2) (fun cm5 k1 k2 k3 => hQ _ _ _ cm5 (by rw [hEq, if_neg hw]; rfl) k1 k2 k3 (YI_addQ hy (by omega) (Or.inl rfl) hl hm hb))
  · have b1 : cm2 1 = cm9 1 := f2.2 1 (by decide)
    have c22 : cm2 2 = upA (cm 2) (80 + (12 + s 1)) m1 := by rw [f2.2 2 (by decide), g2]
    refine aK_i ?_
    refine aw_ifeq (tgt := 235) dX7_aQueen_134 (by decide) (fun h => absurd h (by decide)) (fun _ => ?_)
    refine aw_aload_n dX7_aQueen_137 rfl ?_
    refine aw_ldcS (k9 := 23) dX7_aQueen_138 rfl rfl (by decide) ?_
    refine c_X7_167 rfl dX7_aQueen_140 m_ob (Nat.le_of_ble_eq_true rfl) (by omega) (C_m_isName H2 (fun hi => ?_) (fun hi => ?_))
    · have hne := nmNE H2.2.1.2 hi
      have hk9 := hi.1
      have nm9 : nameP tp n (tE tp n q) = .inr (nmX tp n (tE tp n q)) := if_pos hi
      have q0 : fnd N 0 (s 0) (nmX tp n (tE tp n q)) = fnd (cm2 2) 80 (s 0) (nmM tp n (tE tp n q)) := fnd_eq hne fun j j0 j1 => by rw [c22, upA_n (by omega), Int.zero_add]; exact hS.2.1 j j0 j1
      have hb9 := fnd_bd (N := N) (b := 0) (c := s 0) (x := nmX tp n (tE tp n q)) P0.1
      refine aK_i ?_
      refine aw_ifeq (tgt := 163) dX7_aQueen_143 (by decide) (fun h => absurd h (by decide)) (fun _ => ?_)
      refine aw_aload_n dX7_aQueen_146 rfl ?_
      refine aw_bipush dX7_aQueen_147 (by decide) ?_
      refine gm_7 rfl dX7_aQueen_149 dX7_aQueen_150 rfl ?_
      refine aw_sipush dX7_aQueen_153 (by decide) ?_
      refine aw_iaload dX7_aQueen_156 m_a1 (by omega) (by omega) ?_
      rw [b1, az _ (by omega) (by omega) (by omega), e0]
      refine c_X7_171 rfl dX7_aQueen_157 m_ob (Nat.le_of_ble_eq_true rfl) (by omega) (C_m_findHere H2 hi (by omega) (by omega) ?_)
      refine aK_i ?_
      rw [← q0]
      obtain ⟨h, eh⟩ : ∃ h, h = fnd N 0 (s 0) (nmX tp n (tE tp n q)) := ⟨_, rfl⟩
      rw [← eh]
      rw [← eh] at hb9
      refine aw_goto (tgt := 164) dX7_aQueen_160 (by decide) ?_
      refine aw_istore3 dX7_aQueen_164 (by decide) rfl ?_
      refine aw_iload_n dX7_aQueen_165 rfl ?_
      refine aw_iconst dX7_aQueen_166 (by decide) ?_
      refine aw_icmpeq (tgt := 196) dX7_aQueen_167 (by decide) (fun h167 => ?_) (fun h167 => ?_)
      · refine aw_aload_n dX7_aQueen_196 rfl ?_
        refine aw_bipush dX7_aQueen_197 (by decide) ?_
        refine gm_7 rfl dX7_aQueen_199 dX7_aQueen_200 rfl ?_
        refine aw_sipush dX7_aQueen_203 (by decide) ?_
        refine aw_iaload dX7_aQueen_206 m_a1 (by omega) (by omega) ?_
        rw [b1, az _ (by omega) (by omega) (by omega), e0]
        refine aw_sipush dX7_aQueen_207 (by decide) ?_
        refine c_X7_191 rfl dX7_aQueen_210 m_ob (Nat.le_of_ble_eq_true rfl) (by omega) (C_m_oldOne (N := N) (b := 0) H2 (fun j j0 j1 => by rw [c22, upA_n (by omega), Int.zero_add]; exact hS.2.1 j j0 j1) (by omega) (by omega) (by omega) (fun k pl cm3 e8 hb8 => ?_) (fun x8 q8 cm3 e8 H3 f3 g3 g4 _ _ => ?_))
        · have eo : homeP tp n (tE tp n q) s N = .inl (k, pl) := by
            first
            | (have e7 : oldP tp n (tE tp n q) N 0 (s 0) = .inr (fnd N 0 (s 0) (nmX tp n (tE tp n q)), tE tp n (tE tp n q)) := by
                 unfold oldP; rw [bnd_r nm9]; exact if_neg (by omega)
               rw [e7] at e8
               cases e8)
            | (have e7 : oldP tp n (tE tp n q) N 0 (s 0) = .inl (3, tF tp n (tE tp n q)) := by
                 unfold oldP; rw [bnd_r nm9]; exact if_pos (by omega)
               rw [e7] at e8
               rw [← e8]
               unfold homeP; rw [bnd_r nm9]; exact if_pos (by omega))
          have Z := hF _ _ cm3 (by rw [hEq, if_pos hw]; exact bnd_l eo) ((f9.trans f2.mf).b hb8)
          refine aK_i ?_
          refine aw_ifne (tgt := 218) dX7_aQueen_213 (by decide) (fun h => absurd h (by decide)) (fun _ => ?_)
          refine aw_iconst dX7_aQueen_216 (by decide) ?_
          refine aw_zreturn dX7_aQueen_217 rfl (Or.inl rfl) ?_
          exact Z
        · refine aK_i ?_
          refine aw_ifne (tgt := 218) dX7_aQueen_213 (by decide) (fun _ => ?_) (fun h => absurd h (by decide))
          first
          | (have e7 : oldP tp n (tE tp n q) N 0 (s 0) = .inl (3, tF tp n (tE tp n q)) := by
               unfold oldP; rw [bnd_r nm9]; exact if_pos (by omega)
             rw [e7] at e8
             cases e8)
          | (have e7 : oldP tp n (tE tp n q) N 0 (s 0) = .inr (h, tE tp n (tE tp n q)) := by
               unfold oldP; rw [bnd_r nm9, ← eh]; exact if_neg (by omega)
             rw [e7] at e8
             cases e8
             have eo : homeP tp n (tE tp n q) s N = .inr (h, tE tp n (tE tp n q)) := by
               unfold homeP; rw [bnd_r nm9, ← eh, if_neg (by omega)]; exact if_neg (by omega)
             refine gm_7 rfl dX7_aQueen_218 dX7_aQueen_219 rfl ?_
             refine aw_sipush dX7_aQueen_222 (by decide) ?_
             refine aw_sipush dX7_aQueen_225 (by decide) ?_
             refine aw_iload_n dX7_aQueen_228 rfl ?_
             refine aw_imulr dX7_aQueen_229 (by omega) ?_
             refine aw_iaddr dX7_aQueen_230 (by omega) ?_
             refine aw_iconst dX7_aQueen_231 (by decide) ?_
             refine aw_iaddr dX7_aQueen_232 (by omega) ?_
             refine aw_iload_n dX7_aQueen_233 rfl ?_
             refine aw_iastore dX7_aQueen_234 m_a1 (by omega) (by omega) ?_
             exact L_m_aq235 (h := h) (by omega) hS hy h8 hnx (H3.up (by decide) (by decide)) (((f9.trans f2.mf).trans f3).up1 (by omega)) hl hm hb (by rw [aup_n (by omega), g3, upA_n (by omega), b1]; exact a0) (by rw [aup_n (by omega), g3, upA_n (by omega), b1]; exact a1) (by rw [aup_n (by omega), g3, upA_n (by omega), b1]; exact a2) (by rw [aup_rn (by decide), g4, c22]) (Or.inr ⟨by omega, by omega⟩) (fun _ => by rw [show 4987 + 198 * h = 4984 + 198 * h + 3 by omega]; exact aup_s) (fun i i0 i1 i2 i3 i4 => by rw [aup_n (by omega), g3, upA_n (by omega), b1]; exact az i i0 i1 i2) (fun cm5 k1 k2 k3 => hQ _ _ _ cm5 (by rw [hEq, if_pos hw]; exact bnd_r eo) k1 k2 k3 (YI_addQ hy (by omega) (Or.inr ⟨by omega, by omega⟩) hl hm hb)))
      · have eh3 : cm 1 (4984 + 198 * h + 3) = s (67 + 198 * h) := by
          rw [show 4984 + 198 * h + 3 = 4920 + (67 + 198 * h) by omega]; exact hS.1 _ (by omega) (by omega)
        refine gm_7 rfl dX7_aQueen_170 dX7_aQueen_171 rfl ?_
        refine aw_sipush dX7_aQueen_174 (by decide) ?_
        refine aw_sipush dX7_aQueen_177 (by decide) ?_
        refine aw_iload_n dX7_aQueen_180 rfl ?_
        refine aw_imulr dX7_aQueen_181 (by omega) ?_
        refine aw_iaddr dX7_aQueen_182 (by omega) ?_
        refine aw_iconst dX7_aQueen_183 (by decide) ?_
        refine aw_iaddr dX7_aQueen_184 (by omega) ?_
        refine aw_iaload dX7_aQueen_185 m_a1 (by omega) (by omega) ?_
        rw [b1, az _ (by omega) (by omega) (by omega), eh3]
        refine aw_iconst dX7_aQueen_186 (by decide) ?_
        refine aw_icmpeq (tgt := 196) dX7_aQueen_187 (by decide) (fun h187 => ?_) (fun h187 => ?_)
        · refine aw_aload_n dX7_aQueen_196 rfl ?_
          refine aw_bipush dX7_aQueen_197 (by decide) ?_
          refine gm_7 rfl dX7_aQueen_199 dX7_aQueen_200 rfl ?_
          refine aw_sipush dX7_aQueen_203 (by decide) ?_
          refine aw_iaload dX7_aQueen_206 m_a1 (by omega) (by omega) ?_
          rw [b1, az _ (by omega) (by omega) (by omega), e0]
          refine aw_sipush dX7_aQueen_207 (by decide) ?_
          refine c_X7_191 rfl dX7_aQueen_210 m_ob (Nat.le_of_ble_eq_true rfl) (by omega) (C_m_oldOne (N := N) (b := 0) H2 (fun j j0 j1 => by rw [c22, upA_n (by omega), Int.zero_add]; exact hS.2.1 j j0 j1) (by omega) (by omega) (by omega) (fun k pl cm3 e8 hb8 => ?_) (fun x8 q8 cm3 e8 H3 f3 g3 g4 _ _ => ?_))
          · have eo : homeP tp n (tE tp n q) s N = .inl (k, pl) := by
              first
              | (have e7 : oldP tp n (tE tp n q) N 0 (s 0) = .inr (fnd N 0 (s 0) (nmX tp n (tE tp n q)), tE tp n (tE tp n q)) := by
                   unfold oldP; rw [bnd_r nm9]; exact if_neg (by omega)
                 rw [e7] at e8
                 cases e8)
              | (have e7 : oldP tp n (tE tp n q) N 0 (s 0) = .inl (3, tF tp n (tE tp n q)) := by
                   unfold oldP; rw [bnd_r nm9]; exact if_pos (by omega)
                 rw [e7] at e8
                 rw [← e8]
                 unfold homeP; rw [bnd_r nm9]; exact if_pos (by omega))
            have Z := hF _ _ cm3 (by rw [hEq, if_pos hw]; exact bnd_l eo) ((f9.trans f2.mf).b hb8)
            refine aK_i ?_
            refine aw_ifne (tgt := 218) dX7_aQueen_213 (by decide) (fun h => absurd h (by decide)) (fun _ => ?_)
            refine aw_iconst dX7_aQueen_216 (by decide) ?_
            refine aw_zreturn dX7_aQueen_217 rfl (Or.inl rfl) ?_
            exact Z
          · refine aK_i ?_
            refine aw_ifne (tgt := 218) dX7_aQueen_213 (by decide) (fun _ => ?_) (fun h => absurd h (by decide))
            first
            | (have e7 : oldP tp n (tE tp n q) N 0 (s 0) = .inl (3, tF tp n (tE tp n q)) := by
                 unfold oldP; rw [bnd_r nm9]; exact if_pos (by omega)
               rw [e7] at e8
               cases e8)
            | (have e7 : oldP tp n (tE tp n q) N 0 (s 0) = .inr (h, tE tp n (tE tp n q)) := by
                 unfold oldP; rw [bnd_r nm9, ← eh]; exact if_neg (by omega)
               rw [e7] at e8
               cases e8
               have eo : homeP tp n (tE tp n q) s N = .inr (h, tE tp n (tE tp n q)) := by
                 unfold homeP; rw [bnd_r nm9, ← eh, if_neg (by omega)]; exact if_neg (by omega)
               refine gm_7 rfl dX7_aQueen_218 dX7_aQueen_219 rfl ?_
               refine aw_sipush dX7_aQueen_222 (by decide) ?_
               refine aw_sipush dX7_aQueen_225 (by decide) ?_
               refine aw_iload_n dX7_aQueen_228 rfl ?_
               refine aw_imulr dX7_aQueen_229 (by omega) ?_
               refine aw_iaddr dX7_aQueen_230 (by omega) ?_
               refine aw_iconst dX7_aQueen_231 (by decide) ?_
               refine aw_iaddr dX7_aQueen_232 (by omega) ?_
               refine aw_iload_n dX7_aQueen_233 rfl ?_
               refine aw_iastore dX7_aQueen_234 m_a1 (by omega) (by omega) ?_
               exact L_m_aq235 (h := h) (by omega) hS hy h8 hnx (H3.up (by decide) (by decide)) (((f9.trans f2.mf).trans f3).up1 (by omega)) hl hm hb (by rw [aup_n (by omega), g3, upA_n (by omega), b1]; exact a0) (by rw [aup_n (by omega), g3, upA_n (by omega), b1]; exact a1) (by rw [aup_n (by omega), g3, upA_n (by omega), b1]; exact a2) (by rw [aup_rn (by decide), g4, c22]) (Or.inr ⟨by omega, by omega⟩) (fun _ => by rw [show 4987 + 198 * h = 4984 + 198 * h + 3 by omega]; exact aup_s) (fun i i0 i1 i2 i3 i4 => by rw [aup_n (by omega), g3, upA_n (by omega), b1]; exact az i i0 i1 i2) (fun cm5 k1 k2 k3 => hQ _ _ _ cm5 (by rw [hEq, if_pos hw]; exact bnd_r eo) k1 k2 k3 (YI_addQ hy (by omega) (Or.inr ⟨by omega, by omega⟩) hl hm hb)))
        · refine aw_aload_n dX7_aQueen_190 rfl ?_
          refine aw_iconst dX7_aQueen_191 (by decide) ?_
          refine c_X7_154 rfl dX7_aQueen_192 m_ob (Nat.le_of_ble_eq_true rfl) (by omega) (C_m_fails H2 (k := 5) (by decide) (fun cm3 hb8 => ?_))
          refine aK_i ?_
          refine aw_zreturn dX7_aQueen_195 rfl (Or.inl rfl) ?_
          rw [if_neg (by omega)] at hb8
          exact hF _ _ _ (by rw [hEq, if_pos hw]; exact bnd_l (by unfold homeP; rw [bnd_r nm9, ← eh, if_neg (by omega)]; exact if_pos (by omega))) ((f9.trans f2.mf).b hb8)
    · refine aK_i ?_
      refine aw_ifeq (tgt := 163) dX7_aQueen_143 (by decide) (fun _ => ?_) (fun h => absurd h (by decide))
      refine aw_iconst dX7_aQueen_163 (by decide) ?_
      refine aw_istore3 dX7_aQueen_164 (by decide) rfl ?_
      refine aw_iload_n dX7_aQueen_165 rfl ?_
      refine aw_iconst dX7_aQueen_166 (by decide) ?_
      refine aw_icmpeq (tgt := 196) dX7_aQueen_167 (by decide) (fun h167 => ?_) (fun h167 => ?_)
      · refine aw_aload_n dX7_aQueen_196 rfl ?_
        refine aw_bipush dX7_aQueen_197 (by decide) ?_
        refine gm_7 rfl dX7_aQueen_199 dX7_aQueen_200 rfl ?_
        refine aw_sipush dX7_aQueen_203 (by decide) ?_
        refine aw_iaload dX7_aQueen_206 m_a1 (by omega) (by omega) ?_
        rw [b1, az _ (by omega) (by omega) (by omega), e0]
        refine aw_sipush dX7_aQueen_207 (by decide) ?_
        refine c_X7_191 rfl dX7_aQueen_210 m_ob (Nat.le_of_ble_eq_true rfl) (by omega) (C_m_oldOne (N := N) (b := 0) H2 (fun j j0 j1 => by rw [c22, upA_n (by omega), Int.zero_add]; exact hS.2.1 j j0 j1) (by omega) (by omega) (by omega) (fun k pl cm3 e8 hb8 => ?_) (fun x8 q8 cm3 e8 H3 f3 g3 g4 _ _ => ?_))
        · have eo : homeP tp n (tE tp n q) s N = .inl (k, pl) := by
            first
            | (have e7 : oldP tp n (tE tp n q) N 0 (s 0) = .inl (wr tp n (tE tp n q), tF tp n (tE tp n q)) := bnd_l (if_neg hi)
               rw [e7] at e8
               rw [← e8]
               exact bnd_l (if_neg hi))
          have Z := hF _ _ cm3 (by rw [hEq, if_pos hw]; exact bnd_l eo) ((f9.trans f2.mf).b hb8)
          refine aK_i ?_
          refine aw_ifne (tgt := 218) dX7_aQueen_213 (by decide) (fun h => absurd h (by decide)) (fun _ => ?_)
          refine aw_iconst dX7_aQueen_216 (by decide) ?_
          refine aw_zreturn dX7_aQueen_217 rfl (Or.inl rfl) ?_
          exact Z
        · refine aK_i ?_
          refine aw_ifne (tgt := 218) dX7_aQueen_213 (by decide) (fun _ => ?_) (fun h => absurd h (by decide))
          exfalso
          first
          | (have e7 : oldP tp n (tE tp n q) N 0 (s 0) = .inl (wr tp n (tE tp n q), tF tp n (tE tp n q)) := bnd_l (if_neg hi)
             rw [e7] at e8
             cases e8)
      · exfalso; omega
theorem C_m_aQueen {cm : Int → Int → Int} {tp : Int → Int} {n p : Int} {s N : Int → Int} {Q : aPost} (H : RM cm tp n p) (hK : tK tp n p = 1) (hS : SM cm s N) (hy : YI s) (hF : ∀ (k pl : Int) (cm1 : Int → Int → Int), queenP tp n p s N = .inl (k, pl) → MB cm cm1 k pl → Q (.inl (some (vI 0))) (gM cm1)) (hQ : ∀ (q : Int) (s1 N1 : Int → Int) (cm1 : Int → Int → Int), queenP tp n p s N = .inr (q, s1, N1) → RM cm1 tp n q → MF cm cm1 → SM cm1 s1 N1 → YI s1 → Q (.inl (some (vI 1))) (gM cm1)) : AMet md_X7_aQueen 8 0 0 [vR 0] (gM cm) Q := by
  refine AMet.go (L := [some (vR 0), none, none, none]) mok_X7_aQueen (Nat.le_of_ble_eq_true rfl) rfl ?_
  have P0 := hy.1.1
  have PQ1 := hy.1.2.2.2.1
  have PQ0 := PQ1.1
  have e1 : cm 1 4921 = s 1 := by rw [show (4921 : Int) = 4920 + 1 by decide]; exact hS.1 1 (by decide) (by decide)
  have e2 : cm 1 4922 = s 2 := by rw [show (4922 : Int) = 4920 + 2 by decide]; exact hS.1 2 (by decide) (by decide)
  refine gm_7 rfl dX7_aQueen_0 dX7_aQueen_1 rfl ?_
  refine aw_sipush dX7_aQueen_4 (by decide) ?_
  refine aw_iaload dX7_aQueen_7 m_a1 (by omega) (by omega) ?_
  rw [e1]
  refine aw_istore1 dX7_aQueen_8 (by decide) rfl ?_
  refine aw_sipush dX7_aQueen_9 (by decide) ?_
  refine aw_iconst dX7_aQueen_12 (by decide) ?_
  refine aw_iload_n dX7_aQueen_13 rfl ?_
  refine aw_imulr dX7_aQueen_14 (by omega) ?_
  refine aw_iaddr dX7_aQueen_15 (by omega) ?_
  refine aw_istore2 dX7_aQueen_16 (by decide) rfl ?_
  refine aw_aload_n dX7_aQueen_17 rfl ?_
  refine aw_iconst dX7_aQueen_18 (by decide) ?_
  refine aw_bipush dX7_aQueen_19 (by decide) ?_
  refine aw_bipush dX7_aQueen_21 (by decide) ?_
  refine c_X7_174 rfl dX7_aQueen_23 m_ob (Nat.le_of_ble_eq_true rfl) (by omega) (C_m_newOne (j := 1) (most := 8) (srt := 12) H hK hS hy (by omega) (fun k pl cm1 e9 hb => ?_) (fun x q m1 cm1 h8 e9 hnx H1 f1 c1 c2 => ?_))
  · have Z := hF k pl cm1 (by
      unfold queenP
      rcases e9 with ⟨a, b, c⟩ | ⟨a, b⟩
      · rw [if_pos a, b, c]
      · rw [if_neg a]; exact bnd_l b) hb
    refine aK_i ?_
    refine aw_ifne (tgt := 31) dX7_aQueen_26 (by decide) (fun h => absurd h (by decide)) (fun _ => ?_)
    refine aw_iconst dX7_aQueen_29 (by decide) ?_
    refine aw_zreturn dX7_aQueen_30 rfl (Or.inl rfl) ?_
    exact Z
  · refine aK_i ?_
    refine aw_ifne (tgt := 31) dX7_aQueen_26 (by decide) (fun _ => ?_) (fun h => absurd h (by decide))
    refine gm_7 rfl dX7_aQueen_31 dX7_aQueen_32 rfl ?_
    refine aw_iload_n dX7_aQueen_35 rfl ?_
    refine aw_iconst dX7_aQueen_36 (by decide) ?_
    refine aw_iaddr dX7_aQueen_37 (by omega) ?_
    refine aw_iconst dX7_aQueen_38 (by decide) ?_
    refine aw_iastore dX7_aQueen_39 m_a1 (by omega) (by omega) ?_
    refine gm_7 rfl dX7_aQueen_40 dX7_aQueen_41 rfl ?_
    refine aw_iload_n dX7_aQueen_44 rfl ?_
    refine aw_iconst dX7_aQueen_45 (by decide) ?_
    refine aw_iaddr dX7_aQueen_46 (by omega) ?_
    refine aw_iconst dX7_aQueen_47 (by decide) ?_
    refine aw_iastore dX7_aQueen_48 m_a1 (by omega) (by omega) ?_
    have HA : RM (aup (aup cm1 1 (4934 + 4 * s 1 + 1) (-1)) 1 (4934 + 4 * s 1 + 2) (-1)) tp n q := (H1.up (by decide) (by decide)).up (by decide) (by decide)
    have fA : MF cm (aup (aup cm1 1 (4934 + 4 * s 1 + 1) (-1)) 1 (4934 + 4 * s 1 + 2) (-1)) := (f1.up1 (by omega)).up1 (by omega)
    refine aw_aload_n dX7_aQueen_49 rfl ?_
    refine aw_ldcS (k9 := 23) dX7_aQueen_50 rfl rfl (by decide) ?_
    refine aw_bipush dX7_aQueen_52 (by decide) ?_
    refine c_X7_178 rfl dX7_aQueen_54 m_ob (Nat.le_of_ble_eq_true rfl) (by omega) (C_m_wantWord (w := 8) HA (fun cm8 hw hb => ?_) (fun cm2 hw2 H2 f2 => ?_))
    · have Z := hF _ _ cm8 (by unfold queenP; rw [if_neg h8, bnd_r e9]; exact bnd_l (if_pos hw)) (fA.b (show MB _ _ (wr tp n _) (tF tp n _) from hb))
      refine aK_i ?_
      refine aw_ifeq (tgt := 71) dX7_aQueen_57 (by decide) (fun _ => ?_) (fun h => absurd h (by decide))
      refine aw_iconst dX7_aQueen_71 (by decide) ?_
      refine aw_zreturn dX7_aQueen_72 rfl (Or.inl rfl) ?_
      exact Z
    · refine aK_i ?_
      refine aw_ifeq (tgt := 71) dX7_aQueen_57 (by decide) (fun h => absurd h (by decide)) (fun _ => ?_)
      refine aw_aload_n dX7_aQueen_60 rfl ?_
      refine aw_iload_n dX7_aQueen_61 rfl ?_
      refine aw_iconst dX7_aQueen_62 (by decide) ?_
      refine aw_bipush dX7_aQueen_63 (by decide) ?_
      refine c_X7_182 rfl dX7_aQueen_65 m_ob (Nat.le_of_ble_eq_true rfl) (by omega) (C_m_number (t := 4934 + 4 * s 1) H2 (by omega) (fun k pl cm8 z1 hb => ?_) (fun v1 q3 cm5 z1 H5 f5 f5a f5b _ _ => ?_))
      · have Z := hF _ _ cm8 (by unfold queenP; rw [if_neg h8, bnd_r e9]; exact bnd_l (show wnumP tp n q 8 0 16 = _ from (if_neg (by omega)).trans z1)) ((fA.trans f2.mf).b hb)
        refine aK_i ?_
        refine aw_ifne (tgt := 73) dX7_aQueen_68 (by decide) (fun h => absurd h (by decide)) (fun _ => ?_)
        refine aw_iconst dX7_aQueen_71 (by decide) ?_
        refine aw_zreturn dX7_aQueen_72 rfl (Or.inl rfl) ?_
        exact Z
      · have w1 : wnumP tp n q 8 0 16 = .inr (v1, q3) := (if_neg (by omega)).trans z1
        have w1b := (wnumP_p HA.2.1.2 w1).2
        have fC : MF cm cm5 := (fA.trans f2.mf).trans f5
        have d5 : cm5 1 = upA (upA (upA (cm 1) (4934 + 4 * s 1 + 1) (-1)) (4934 + 4 * s 1 + 2) (-1)) (4934 + 4 * s 1) v1 := by rw [f5a, f2.2 1 (by decide), aup_r, aup_r, c1]
        have d52 : cm5 2 = upA (cm 2) (80 + (12 + s 1)) m1 := by rw [f5b, f2.2 2 (by decide), aup_rn (by decide), aup_rn (by decide), c2]
        refine aK_i ?_
        refine aw_ifne (tgt := 73) dX7_aQueen_68 (by decide) (fun _ => ?_) (fun h => absurd h (by decide))
        refine aw_aload_n dX7_aQueen_73 rfl ?_
        refine aw_bipush dX7_aQueen_74 (by decide) ?_
        refine c_X7_185 rfl dX7_aQueen_76 m_ob (Nat.le_of_ble_eq_true rfl) (by omega) (C_m_isThere H5 (fun hw => ?_) (fun cm6 hw H6 f6 => ?_))
        · have hm : momP tp n q3 s N = .inr (-1, q3) := if_neg hw
          have hb7 : (if (-1 : Int) ≠ -1 ∧ tW tp n q3 = 9 then oldP tp n (tE tp n q3) N 4 (s 2) else .inr (-1, q3)) = .inr (-1, q3) := if_neg (fun z => z.1 rfl)
          have eQ : queenP tp n p s N = bnd (if tW tp n q3 = 10 then homeP tp n (tE tp n q3) s N else .inr (-1, q3)) fun h => .inr (h.2, addQ s v1 (-1) (-1) h.1, upA N (12 + s 1) x) := by
            unfold queenP; rw [if_neg h8, bnd_r e9, bnd_r w1, bnd_r hm]; exact bnd_r hb7
          refine aK_i ?_
          refine aw_ifeq (tgt := 128) dX7_aQueen_79 (by decide) (fun _ => ?_) (fun h => absurd h (by decide))
          first
            | exact L_m_aq128 (by decide) hS hy h8 hnx H5 fC w1b (Or.inl rfl) (Or.inl rfl) (by rw [d5, upA_s]) (by rw [d5, upA_n (by omega), upA_n (by omega), upA_s]) (by rw [d5, upA_n (by omega), upA_s]) d52 (fun i i0 i1 i2 => by rw [d5, upA_n (by omega), upA_n (by omega), upA_n (by omega)]) eQ hF hQ
            | exact L_m_aq128 (by decide) hS hy h8 hnx H7 fG w1b hm9 (Or.inl rfl) (by rw [d7, upA_n (by omega), d5, upA_s]) (by rw [d7, upA_s]) (by rw [d7, upA_n (by omega), d5, upA_n (by omega), upA_s]) d72 (fun i i0 i1 i2 => by rw [d7, upA_n (by omega), d5, upA_n (by omega), upA_n (by omega), upA_n (by omega)]) eQ hF hQ
            | exact L_m_aq128 (by decide) hS hy h8 hnx H9 ((fG.trans f8.mf).trans f9) w1b hm9 (Or.inr hb9) (by rw [g5, upA_n (by omega), d8, d7, upA_n (by omega), d5, upA_s]) (by rw [g5, upA_n (by omega), d8, d7, upA_s]) (by rw [g5, upA_s]) (by rw [g6, d82]) (fun i i0 i1 i2 => by rw [g5, upA_n (by omega), d8, d7, upA_n (by omega), d5, upA_n (by omega), upA_n (by omega), upA_n (by omega)]) eQ hF hQ
        · have d6 : cm6 1 = cm5 1 := f6.2 1 (by decide)
          have d62 : cm6 2 = upA (cm 2) (80 + (12 + s 1)) m1 := by rw [f6.2 2 (by decide), d52]
          refine aK_i ?_
          refine aw_ifeq (tgt := 128) dX7_aQueen_79 (by decide) (fun h => absurd h (by decide)) (fun _ => ?_)
          refine aw_aload_n dX7_aQueen_82 rfl ?_
          refine aw_bipush dX7_aQueen_83 (by decide) ?_
          refine aw_iload_n dX7_aQueen_85 rfl ?_
          refine aw_iload_n dX7_aQueen_86 rfl ?_
          refine aw_iconst dX7_aQueen_87 (by decide) ?_
          refine aw_iaddr dX7_aQueen_88 (by omega) ?_
          refine c_X7_191 rfl dX7_aQueen_89 m_ob (Nat.le_of_ble_eq_true rfl) (by omega) (C_m_oldOne (N := N) (b := 12) H6 (fun j j0 j1 => by rw [d62, upA_n (by omega), show (92 : Int) + j = 80 + (12 + j) by omega]; exact hS.2.2.2 j j0 j1) (by omega) (by omega) (by omega) (fun k pl cm8 e8 hb => ?_) (fun m q5 cm7 e8 H7 f7 g3 g4 _ _ => ?_))
          · have hm : momP tp n q3 s N = .inl (k, pl) := (if_pos hw).trans e8
            have Z := hF k pl cm8 (by unfold queenP; rw [if_neg h8, bnd_r e9]; rw [bnd_r w1]; exact bnd_l hm) ((fC.trans f6.mf).b hb)
            refine aK_i ?_
            refine aw_ifne (tgt := 97) dX7_aQueen_92 (by decide) (fun h => absurd h (by decide)) (fun _ => ?_)
            refine aw_iconst dX7_aQueen_95 (by decide) ?_
            refine aw_zreturn dX7_aQueen_96 rfl (Or.inl rfl) ?_
            exact Z
          · have hm : momP tp n q3 s N = .inr (m, q5) := (if_pos hw).trans e8
            have hm9 := (momP_r (s := s) (N := N) H5.2.1.2 PQ0.1.1 hm).1
            have hm8 := (oldP_r (tE_bd H5.2.1.2).2 PQ0.1.1 e8).1
            have fG : MF cm cm7 := (fC.trans f6.mf).trans f7
            have d7 : cm7 1 = upA (cm5 1) (4934 + 4 * s 1 + 1) m := by rw [g3, d6]
            have d72 : cm7 2 = upA (cm 2) (80 + (12 + s 1)) m1 := by rw [g4, d62]
            refine aK_i ?_
            refine aw_ifne (tgt := 97) dX7_aQueen_92 (by decide) (fun _ => ?_) (fun h => absurd h (by decide))
            refine aw_aload_n dX7_aQueen_97 rfl ?_
            refine aw_bipush dX7_aQueen_98 (by decide) ?_
            refine c_X7_185 rfl dX7_aQueen_100 m_ob (Nat.le_of_ble_eq_true rfl) (by omega) (C_m_isThere H7 (fun hv => ?_) (fun cm8 hv H8 f8 => ?_))
            · have hb7 : (if m ≠ -1 ∧ tW tp n q5 = 9 then oldP tp n (tE tp n q5) N 4 (s 2) else .inr (-1, q5)) = .inr (-1, q5) := if_neg (fun z => hv z.2)
              have eQ : queenP tp n p s N = bnd (if tW tp n q5 = 10 then homeP tp n (tE tp n q5) s N else .inr (-1, q5)) fun h => .inr (h.2, addQ s v1 m (-1) h.1, upA N (12 + s 1) x) := by
                unfold queenP; rw [if_neg h8, bnd_r e9, bnd_r w1, bnd_r hm]; exact bnd_r hb7
              refine aK_i ?_
              refine aw_ifeq (tgt := 128) dX7_aQueen_103 (by decide) (fun _ => ?_) (fun h => absurd h (by decide))
              first
                | exact L_m_aq128 (by decide) hS hy h8 hnx H5 fC w1b (Or.inl rfl) (Or.inl rfl) (by rw [d5, upA_s]) (by rw [d5, upA_n (by omega), upA_n (by omega), upA_s]) (by rw [d5, upA_n (by omega), upA_s]) d52 (fun i i0 i1 i2 => by rw [d5, upA_n (by omega), upA_n (by omega), upA_n (by omega)]) eQ hF hQ
                | exact L_m_aq128 (by decide) hS hy h8 hnx H7 fG w1b hm9 (Or.inl rfl) (by rw [d7, upA_n (by omega), d5, upA_s]) (by rw [d7, upA_s]) (by rw [d7, upA_n (by omega), d5, upA_n (by omega), upA_s]) d72 (fun i i0 i1 i2 => by rw [d7, upA_n (by omega), d5, upA_n (by omega), upA_n (by omega), upA_n (by omega)]) eQ hF hQ
                | exact L_m_aq128 (by decide) hS hy h8 hnx H9 ((fG.trans f8.mf).trans f9) w1b hm9 (Or.inr hb9) (by rw [g5, upA_n (by omega), d8, d7, upA_n (by omega), d5, upA_s]) (by rw [g5, upA_n (by omega), d8, d7, upA_s]) (by rw [g5, upA_s]) (by rw [g6, d82]) (fun i i0 i1 i2 => by rw [g5, upA_n (by omega), d8, d7, upA_n (by omega), d5, upA_n (by omega), upA_n (by omega), upA_n (by omega)]) eQ hF hQ
            · have d8 : cm8 1 = cm7 1 := f8.2 1 (by decide)
              have d82 : cm8 2 = upA (cm 2) (80 + (12 + s 1)) m1 := by rw [f8.2 2 (by decide), d72]
              refine aK_i ?_
              refine aw_ifeq (tgt := 128) dX7_aQueen_103 (by decide) (fun h => absurd h (by decide)) (fun _ => ?_)
              refine aw_aload_n dX7_aQueen_106 rfl ?_
              refine aw_bipush dX7_aQueen_107 (by decide) ?_
              refine gm_7 rfl dX7_aQueen_109 dX7_aQueen_110 rfl ?_
              refine aw_sipush dX7_aQueen_113 (by decide) ?_
              refine aw_iaload dX7_aQueen_116 m_a1 (by omega) (by omega) ?_
              rw [d8, d7, upA_n (by omega), d5, upA_n (by omega), upA_n (by omega), upA_n (by omega), e2]
              refine aw_iload_n dX7_aQueen_117 rfl ?_
              refine aw_iconst dX7_aQueen_118 (by decide) ?_
              refine aw_iaddr dX7_aQueen_119 (by omega) ?_
              refine c_X7_191 rfl dX7_aQueen_120 m_ob (Nat.le_of_ble_eq_true rfl) (by omega) (C_m_oldOne (N := N) (b := 4) H8 (fun j j0 j1 => by rw [d82, upA_n (by omega), show (84 : Int) + j = 80 + (4 + j) by omega]; exact hS.2.2.1 j j0 j1) (by omega) (by omega) (by omega) (fun k pl cm9 e6 hb => ?_) (fun b q7 cm9 e6 H9 f9 g5 g6 _ _ => ?_))
              · have hb7 : (if m ≠ -1 ∧ tW tp n q5 = 9 then oldP tp n (tE tp n q5) N 4 (s 2) else .inr (-1, q5)) = .inl (k, pl) := (if_pos ⟨by omega, hv⟩).trans e6
                have Z := hF k pl cm9 (by unfold queenP; rw [if_neg h8, bnd_r e9]; rw [bnd_r w1, bnd_r hm]; exact bnd_l hb7) ((fG.trans f8.mf).b hb)
                refine aK_i ?_
                refine aw_ifne (tgt := 128) dX7_aQueen_123 (by decide) (fun h => absurd h (by decide)) (fun _ => ?_)
                refine aw_iconst dX7_aQueen_126 (by decide) ?_
                refine aw_zreturn dX7_aQueen_127 rfl (Or.inl rfl) ?_
                exact Z
              · have hb7 : (if m ≠ -1 ∧ tW tp n q5 = 9 then oldP tp n (tE tp n q5) N 4 (s 2) else .inr (-1, q5)) = .inr (b, q7) := (if_pos ⟨by omega, hv⟩).trans e6
                have hb9 := (oldP_r (tE_bd H7.2.1.2).2 PQ0.2.1 e6).1
                have eQ : queenP tp n p s N = bnd (if tW tp n q7 = 10 then homeP tp n (tE tp n q7) s N else .inr (-1, q7)) fun h => .inr (h.2, addQ s v1 m b h.1, upA N (12 + s 1) x) := by
                  unfold queenP; rw [if_neg h8, bnd_r e9, bnd_r w1, bnd_r hm]; exact bnd_r hb7
                refine aK_i ?_
                refine aw_ifne (tgt := 128) dX7_aQueen_123 (by decide) (fun _ => ?_) (fun h => absurd h (by decide))
                first
                  | exact L_m_aq128 (by decide) hS hy h8 hnx H5 fC w1b (Or.inl rfl) (Or.inl rfl) (by rw [d5, upA_s]) (by rw [d5, upA_n (by omega), upA_n (by omega), upA_s]) (by rw [d5, upA_n (by omega), upA_s]) d52 (fun i i0 i1 i2 => by rw [d5, upA_n (by omega), upA_n (by omega), upA_n (by omega)]) eQ hF hQ
                  | exact L_m_aq128 (by decide) hS hy h8 hnx H7 fG w1b hm9 (Or.inl rfl) (by rw [d7, upA_n (by omega), d5, upA_s]) (by rw [d7, upA_s]) (by rw [d7, upA_n (by omega), d5, upA_n (by omega), upA_s]) d72 (fun i i0 i1 i2 => by rw [d7, upA_n (by omega), d5, upA_n (by omega), upA_n (by omega), upA_n (by omega)]) eQ hF hQ
                  | exact L_m_aq128 (by decide) hS hy h8 hnx H9 ((fG.trans f8.mf).trans f9) w1b hm9 (Or.inr hb9) (by rw [g5, upA_n (by omega), d8, d7, upA_n (by omega), d5, upA_s]) (by rw [g5, upA_n (by omega), d8, d7, upA_s]) (by rw [g5, upA_s]) (by rw [g6, d82]) (fun i i0 i1 i2 => by rw [g5, upA_n (by omega), d8, d7, upA_n (by omega), d5, upA_n (by omega), upA_n (by omega), upA_n (by omega)]) eQ hF hQ
