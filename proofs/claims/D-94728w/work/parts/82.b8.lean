set_option maxRecDepth 100000
theorem MF.up8 {a b : Int → Int → Int} {i v : Int} (h : MF a b) : MF a (aup b 8 i v) := h.trans ⟨fun j _ => by rw [aup_rn (by decide)], fun x hx => by rw [aup_rn (by omega)], fun j _ => by rw [aup_rn (by decide)], fun j _ => by rw [aup_rn (by decide)], fun f => f.eq (by rw [aup_rn (by decide)]) (aup_rn (by decide))⟩
theorem L_m_st170 {cm cmA : Int → Int → Int} {R op tp s N : Int → Int} {n p m dep cnt k o : Int} {t : ST} {x5 : Option aV} {Q : aPost} {d kc ks : Nat} (hd : 11 ≤ d) (H : RM cmA tp n p) (hSN : SN cmA s N) (f0 : MF cm cmA) (hr0 : cmA 1 (5780 + 6 * m) = k) (hrz : ∀ i, 5780 + 6 * m < i → i < 5780 + 6 * m + 6 → cmA 1 i = 0) (hR : ∀ i, 860 ≤ i → i < 1225 → (i < 860 + 6 * m ∨ 866 + 6 * m ≤ i) → cmA 1 (4920 + i) = R i)
    (eM : cmA 1 4930 = m) (e21 : cmA 0 21 = dep) (e22 : cmA 0 22 = cnt + (if k = 19 then 0 else 1)) (h8 : ∀ j, 0 ≤ j → j < dep → cmA 8 j = op j ∧ 0 ≤ op j ∧ op j < m) (hk : 11 ≤ k ∧ k ≤ 20) (ho : ((k = 17 ∨ k = 18) ∧ o = 1) ∨ (k ≠ 17 ∧ k ≠ 18 ∧ o = 0)) (hb : 0 ≤ m ∧ (0 ≤ dep ∧ dep ≤ 3) ∧ (0 ≤ cnt ∧ cnt ≤ 30) ∧ m + dep ≤ 2 * cnt) (n1 : ¬ (k = 19 ∧ dep = 0)) (n2 : ¬ (k ≠ 19 ∧ cnt = 30)) (n3 : ¬ ((k = 17 ∨ k = 18) ∧ dep = 3))
    (eS : stepP tp n s N t = bnd (ordP tp n (tE tp n p) s N k) fun o => if sgn tp n o.1 59 then .inr (nxtP k R m dep op cnt (tE tp n o.1) o) else .inl (wr tp n o.1, tF tp n o.1))
    (hF : ∀ (k9 pl : Int) (cm1 : Int → Int → Int), stepP tp n s N t = .inl (k9, pl) → MB cm cm1 k9 pl → Q (.inl (some (vI 0))) (gM cm1)) (hQ : ∀ (t1 : ST) (cm1 : Int → Int → Int), stepP tp n s N t = .inr t1 → RM cm1 tp n t1.1 → MF cm cm1 → SS cm1 t1.2.1 t1.2.2.1 t1.2.2.2.1 t1.2.2.2.2.1 t1.2.2.2.2.2 → Q (.inl (some (vI 1))) (gM cm1)) : AW (mq Q) md_X7_step d kc ks 170 [some (vR 0), some (vI k), some (vI m), some (vI (5780 + 6 * m)), some (vI o), x5] [] (gM cmA) := by
  refine gm_7 rfl dX7_step_170 dX7_step_171 rfl ?_
  refine aw_sipush dX7_step_174 (by decide) ?_
  refine aw_dup2 dX7_step_177 rfl rfl ?_
  refine aw_iaload dX7_step_178 m_a1 (by omega) (by omega) ?_
  rw [eM]
  refine aw_iconst dX7_step_179 (by decide) ?_
  refine aw_iaddr dX7_step_180 (by omega) ?_
  refine aw_iastore dX7_step_181 m_a1 (by omega) (by omega) ?_
  have HB : RM (aup cmA 1 4930 (m + 1)) tp n p := H.up (by decide) (by decide)
  have fB : MF cm (aup cmA 1 4930 (m + 1)) := f0.up1 (by decide)
  refine aw_aload_n dX7_step_182 rfl ?_
  refine c_X7_148 rfl dX7_step_183 m_ob (Nat.le_of_ble_eq_true rfl) (by omega) (C_m_ahead HB.1 HB.goes.1 HB.goes.2 (fun cm1 H1 f1 => ?_))
  have d1 : cm1 1 = upA (cmA 1) 4930 (m + 1) := by rw [f1.2 1 (by decide), aup_r]
  have F1 : MF cmA cm1 := (MF.rf.up1 (by decide)).trans f1.mf
  have S1 := hSN.mf F1
  have hz1 : RWm (cm1 1) (5780 + 6 * m) k 0 0 0 0 := by
    rw [d1]
    exact ⟨by rw [upA_n (by omega)]; exact hr0, by rw [upA_n (by omega)]; exact hrz _ (by omega) (by omega), by rw [upA_n (by omega)]; exact hrz _ (by omega) (by omega), by rw [upA_n (by omega)]; exact hrz _ (by omega) (by omega), by rw [upA_n (by omega)]; exact hrz _ (by omega) (by omega), by rw [upA_n (by omega)]; exact hrz _ (by omega) (by omega)⟩
  refine aK_v ?_
  refine aw_aload_n dX7_step_186 rfl ?_
  refine aw_iload_n dX7_step_187 rfl ?_
  refine aw_iload_n dX7_step_188 rfl ?_
  refine c_X7_235 rfl dX7_step_189 m_ob (Nat.le_of_ble_eq_true rfl) (by omega) (C_m_order (ko := k) H1 S1 ⟨by omega, by omega⟩ hz1 hk (fun k9 pl cm9 y2 hb9 => ?_) (fun q kk a b c e cm2 y2 H2 f2 g1 g2 g3 g4 g5 => ?_))
  · have Zf := hF _ _ cm9 (by rw [eS]; exact bnd_l y2) ((f0.trans F1).b hb9)
    refine aK_i ?_
    refine aw_ifne (tgt := 197) dX7_step_192 (by decide) (fun h => absurd h (by decide)) (fun _ => ?_)
    refine aw_iconst dX7_step_195 (by decide) ?_
    refine aw_zreturn dX7_step_196 rfl (Or.inl rfl) ?_
    exact Zf
  · rw [bnd_r y2] at eS
    dsimp only at eS
    have E21 : cm2 0 21 = dep := by rw [g4 21 (by decide), f1.1 21 (by decide), aup_rn (by decide), e21]
    have E22 : cm2 0 22 = cnt + (if k = 19 then 0 else 1) := by rw [g4 22 (by decide), f1.1 22 (by decide), aup_rn (by decide), e22]
    have E8 : ∀ j, 0 ≤ j → j < dep → cm2 8 j = op j ∧ 0 ≤ op j ∧ op j < m := fun j j0 j1 => by rw [g5, f1.2 8 (by decide), aup_rn (by decide)]; exact h8 j j0 j1
    have EM : cm2 1 4930 = m + 1 := by rw [g2 _ (by omega), d1, upA_s]
    have ER := g1.row (R := R) (fun i i0 i1 ho9 => by rw [g2 _ (by omega), d1, upA_n (by omega)]; exact hR i i0 i1 ho9)
    have F2 : MF cm cm2 := (f0.trans F1).trans f2
    have hT : ∀ (X : ST), nxtP k R m dep op cnt (tE tp n q) (q, kk, a, b, c, e) = X → (∀ cm3 : Int → Int → Int, ¬ sgn tp n q 59 → MB cm cm3 (wr tp n q) (tF tp n q) → Q (.inl (some (vI 0))) (gM cm3)) ∧ (∀ cm3 : Int → Int → Int, sgn tp n q 59 → RM cm3 tp n X.1 → MF cm cm3 → SS cm3 X.2.1 X.2.2.1 X.2.2.2.1 X.2.2.2.2.1 X.2.2.2.2.2 → Q (.inl (some (vI 1))) (gM cm3)) := fun X eX =>
      ⟨fun cm3 hs hb3 => hF _ _ cm3 (by rw [eS]; exact if_neg hs) hb3, fun cm3 hs r1 r2 r3 => hQ X cm3 (by rw [eS, if_pos hs, eX]) r1 r2 r3⟩
    refine aK_i ?_
    refine aw_ifne (tgt := 197) dX7_step_192 (by decide) (fun _ => ?_) (fun h => absurd h (by decide))
    by_cases kO : k = 17 ∨ k = 18
    · refine aw_iload dX7_step_197 rfl ?_
      refine aw_ifeq (tgt := 222) dX7_step_199 (by decide) (fun h199 => ?_) (fun h199 => ?_)
      · exfalso; omega
      · refine gm_44 rfl dX7_step_202 dX7_step_203 rfl ?_
        refine gm_229 rfl dX7_step_206 dX7_step_207 rfl ?_
        rw [E21]
        refine aw_iload_n dX7_step_210 rfl ?_
        refine aw_iastore dX7_step_211 m_a8 (by omega) (by omega) ?_
        refine aw_aload_n dX7_step_212 rfl ?_
        refine aw_dup dX7_step_213 rfl ?_
        refine g_X7_229_7 rfl dX7_step_214 m_ob ?_
        rw [aup_rn (by decide), E21]
        refine aw_iconst dX7_step_217 (by decide) ?_
        refine aw_iaddr dX7_step_218 (by omega) ?_
        refine p_X7_229_7 rfl dX7_step_219 m_ob ?_
        refine aw_iload_n dX7_step_222 rfl ?_
        refine aw_bipush dX7_step_223 (by decide) ?_
        refine aw_icmpne (tgt := 279) dX7_step_225 (by decide) (fun h225 => ?_) (fun h225 => ?_)
        · obtain ⟨Z1, Z2⟩ := hT (tE tp n q, rowW R m kk a b c e, m + 1, dep + 1, upA op dep m, cnt + 1) (by unfold nxtP; rw [if_neg (by omega), if_pos kO])
          dsimp only at Z1 Z2
          refine L_m_stw (by omega) (H2.fr (fun i hi => by rw [aup_n (by omega), aup_rn (by decide)]) (by rw [aup_rn (by decide), aup_rn (by decide)])) ((F2.up8).up0 (by decide)) ⟨fun i i0 i1 => by rw [aup_rn (by decide), aup_rn (by decide)]; exact ER i i0 i1, ⟨by rw [aup_rn (by decide), aup_rn (by decide)]; exact EM, aup_s, by rw [aup_n (by decide), aup_rn (by decide), E22, if_neg (by omega)]⟩, fun j j0 j1 => ?_, by omega, ⟨by omega, by omega⟩, ⟨by omega, by omega⟩, by omega⟩ Z1 Z2
          by_cases z : j = dep
          · subst z; rw [aup_rn (by decide), aup_s, upA_s]; exact ⟨rfl, by omega, by omega⟩
          · rw [aup_rn (by decide), aup_n (by omega), upA_n z]
            have w := E8 j j0 (by omega)
            exact ⟨w.1, w.2.1, by omega⟩
        · exfalso; omega
    · by_cases k19 : k = 19
      · rw [ordP_19 (Or.inr (by omega))] at y2
        cases y2
        have eop := E8 (dep - 1) (by omega) (by omega)
        refine aw_iload dX7_step_197 rfl ?_
        refine aw_ifeq (tgt := 222) dX7_step_199 (by decide) (fun h199 => ?_) (fun h199 => ?_)
        · refine aw_iload_n dX7_step_222 rfl ?_
          refine aw_bipush dX7_step_223 (by decide) ?_
          refine aw_icmpne (tgt := 279) dX7_step_225 (by decide) (fun h225 => ?_) (fun h225 => ?_)
          · exfalso; omega
          · refine aw_aload_n dX7_step_228 rfl ?_
            refine aw_dup dX7_step_229 rfl ?_
            refine g_X7_229_7 rfl dX7_step_230 m_ob ?_
            rw [E21]
            refine aw_iconst dX7_step_233 (by decide) ?_
            refine aw_isubr dX7_step_234 (by omega) ?_
            refine p_X7_229_7 rfl dX7_step_235 m_ob ?_
            refine gm_7 rfl dX7_step_238 dX7_step_239 rfl ?_
            refine aw_iload_n dX7_step_242 rfl ?_
            refine aw_iconst dX7_step_243 (by decide) ?_
            refine aw_iaddr dX7_step_244 (by omega) ?_
            refine gm_44 rfl dX7_step_245 dX7_step_246 rfl ?_
            refine gm_229 rfl dX7_step_249 dX7_step_250 rfl ?_
            rw [aup_s]
            refine aw_iaload dX7_step_253 m_a8 (by omega) (by omega) ?_
            rw [aup_rn (by decide), eop.1]
            refine aw_iastore dX7_step_254 m_a1 (by omega) (by omega) ?_
            refine gm_7 rfl dX7_step_255 dX7_step_256 rfl ?_
            refine aw_sipush dX7_step_259 (by decide) ?_
            refine aw_bipush dX7_step_262 (by decide) ?_
            refine gm_44 rfl dX7_step_264 dX7_step_265 rfl ?_
            refine gm_229 rfl dX7_step_268 dX7_step_269 rfl ?_
            rw [aup_rn (by decide), aup_s]
            refine aw_iaload dX7_step_272 m_a8 (by omega) (by omega) ?_
            rw [aup_rn (by decide), aup_rn (by decide), eop.1]
            refine aw_imulr dX7_step_273 (by omega) ?_
            refine aw_iaddr dX7_step_274 (by omega) ?_
            refine aw_iconst dX7_step_275 (by decide) ?_
            refine aw_iaddr dX7_step_276 (by omega) ?_
            refine aw_iload_n dX7_step_277 rfl ?_
            refine aw_iastore dX7_step_278 m_a1 (by omega) (by omega) ?_
            obtain ⟨Z1, Z2⟩ := hT (tE tp n (tE tp n p), upA (upA (rowW R m 19 0 0 0 0) (864 + 6 * m) (op (dep - 1))) (864 + 6 * op (dep - 1)) m, m + 1, dep - 1, op, cnt) (by unfold nxtP; rw [if_pos k19])
            dsimp only at Z1 Z2
            refine L_m_stw (q := tE tp n p) (R := upA (upA (rowW R m 19 0 0 0 0) (864 + 6 * m) (op (dep - 1))) (864 + 6 * op (dep - 1)) m) (m := m + 1) (dep := dep - 1) (op := op) (cnt := cnt) (by omega) (H2.fr (fun i hi => by rw [aup_rn (by decide), aup_rn (by decide), aup_n (by omega)]) (by rw [aup_rn (by decide), aup_rn (by decide), aup_rn (by decide)])) (((F2.up0 (by decide)).up1 (by omega)).up1 (by omega)) ⟨fun i i0 i1 => ?_, ⟨by rw [aup_n (by omega), aup_n (by omega), aup_rn (by decide)]; exact EM, by rw [aup_rn (by decide), aup_rn (by decide)]; exact aup_s, by rw [aup_rn (by decide), aup_rn (by decide), aup_n (by decide), E22, if_pos k19, Int.add_zero]⟩, fun j j0 j1 => ?_, by omega, ⟨by omega, by omega⟩, ⟨by omega, by omega⟩, by omega⟩ Z1 Z2
            · by_cases z2 : i = 864 + 6 * op (dep - 1)
              · rw [z2, upA_s, show 4920 + (864 + 6 * op (dep - 1)) = 5780 + 6 * op (dep - 1) + 4 by omega]; exact aup_s
              rw [upA_n z2, aup_n (by omega)]
              by_cases z1 : i = 864 + 6 * m
              · rw [z1, upA_s, show 4920 + (864 + 6 * m) = 5780 + 6 * m + 4 by omega]; exact aup_s
              rw [upA_n z1, aup_n (by omega), aup_rn (by decide)]
              have w := ER i i0 i1
              rw [k19] at w
              exact w
            · rw [aup_rn (by decide), aup_rn (by decide), aup_rn (by decide)]
              have w := E8 j j0 (by omega)
              exact ⟨w.1, w.2.1, by omega⟩
        · exfalso; omega
      · refine aw_iload dX7_step_197 rfl ?_
        refine aw_ifeq (tgt := 222) dX7_step_199 (by decide) (fun h199 => ?_) (fun h199 => ?_)
        · refine aw_iload_n dX7_step_222 rfl ?_
          refine aw_bipush dX7_step_223 (by decide) ?_
          refine aw_icmpne (tgt := 279) dX7_step_225 (by decide) (fun h225 => ?_) (fun h225 => ?_)
          · obtain ⟨Z1, Z2⟩ := hT (tE tp n q, rowW R m kk a b c e, m + 1, dep, op, cnt + 1) (by unfold nxtP; rw [if_neg k19, if_neg kO])
            dsimp only at Z1 Z2
            exact L_m_stw (by omega) H2 F2 ⟨ER, ⟨EM, E21, by rw [E22, if_neg k19]⟩, fun j j0 j1 => ⟨(E8 j j0 j1).1, (E8 j j0 j1).2.1, by have := (E8 j j0 j1).2.2; omega⟩, by omega, ⟨by omega, by omega⟩, ⟨by omega, by omega⟩, by omega⟩ Z1 Z2
          · exfalso; omega
        · exfalso; omega
