set_option maxRecDepth 100000
/-! the Reader: queens come in -/
theorem L_x_nq180 {own0 own : Int → Int} {sz0 sz : Int} {im0 im : Int → aIm} {ct0 ct : Int → Int → Int} {ya la a : Int} {s N tp : Int → Int} {n : Int} {x l m b : Int} {h q : Int} {ct6 : Int → Int → Int} {Q : aPost} {d kc ks : Nat} (hd : 4 ≤ d) (HB : XB own0 sz0 im0 ct0 own sz im ct ya la a s N) (HR : RDX sz im ct6 a tp n q) (h8 : s 1 < 8) (hh : h = -1 ∨ (0 ≤ h ∧ h < s 0)) (hl : 0 ≤ l ∧ l ≤ 16) (hm : m = -1 ∨ (0 ≤ m ∧ m < s 1)) (hb : b = -1 ∨ (0 ≤ b ∧ b < s 2))
    (HY6 : YR own 5 sz im ct6 ya (upA (if h = -1 then s else upA s (67 + 198 * h) (s 1)) 4 0) 0 N) (f6 : ∀ y j, own y < 50 ∨ 59 ≤ own y → ct6 y j = ct y j) (g6 : ∀ y, y < sz0 → ct6 y = ct y)
    (hQ : ∀ ct1 : Int → Int → Int, RDX sz im ct1 a tp n q → XB own0 sz0 im0 ct0 own sz im ct1 ya la a (addQ s l m b h) (upA N (12 + s 1) x) → ct1 a 5 = ct a 5 → Q (.inl none) (sz, im, ct1)) : AW (mq Q) md_X8_newQueen d kc ks 180 [some (vR a), some (vR ya), some (vR la), some (vL x), none, some (vI l), some (vI m), some (vI (if b = -1 then -1 else 8 + b)), some (vI h)] [] (sz, im, ct6) := by
  obtain ⟨B1, B2, B3, B4, ⟨B5, B6, B7⟩, ⟨B8, B9, B10, B11, B12, B15⟩, B13, B14⟩ := id HB
  have P0 := B14.1.1
  have PQ1 := B14.1.2.2.2.1
  have PQ0 := PQ1.1
  have y9 := B4.2.1
  have yH := B4.2.2.2.1
  have i0 : (im la).2.2 0 = la + 1 := by rw [B6.2.1 0 (by decide) (by decide)]; omega
  have i1 : (im la).2.2 1 = la + 2 := by rw [B6.2.1 1 (by decide) (by decide)]; omega
  have i2 : (im la).2.2 2 = la + 3 := by rw [B6.2.1 2 (by decide) (by decide)]; omega
  have i3 : (im la).2.2 3 = la + 4 := by rw [B6.2.1 3 (by decide) (by decide)]; omega
  have i4 : (im la).2.2 4 = la + 5 := by rw [B6.2.1 4 (by decide) (by decide)]; omega
  have oL := B7.2.2.1
  rw [i0, i1, i2, i3, i4] at oL
  have hne2 : ∀ y : Int, own y ≠ -1 → y ≠ la ∧ y ≠ la + 1 ∧ y ≠ la + 2 ∧ y ≠ la + 3 ∧ y ≠ la + 4 ∧ y ≠ la + 5 ∧ y ≠ la + 6 := fun y hy => ⟨fun z => hy (by rw [z]; exact oL.1), fun z => hy (by rw [z]; exact oL.2.1), fun z => hy (by rw [z]; exact oL.2.2.1), fun z => hy (by rw [z]; exact oL.2.2.2.1), fun z => hy (by rw [z]; exact oL.2.2.2.2.1), fun z => hy (by rw [z]; exact oL.2.2.2.2.2), fun z => hy (by rw [z]; exact B15)⟩
  have hLR6 : LR own sz im ct6 la s N := B7.frame fun y j hy => f6 y j (by omega)
  have e6q : ct6 la 6 = s 1 := hLR6.2.2.2.1.1
  have e6d : ct6 la 7 = s 2 := hLR6.2.2.2.1.2
  have a5 := B6.2.2.2.2.2.2.1
  rw [show la + 1 + 4 = la + 5 by omega] at a5
  refine aw_aload_n dX8_newQueen_180 rfl ?_
  refine g_X8_226_6 rfl dX8_newQueen_181 B6.1 ?_
  rw [i4]
  refine aw_aload_n dX8_newQueen_184 rfl ?_
  refine g_X8_221_6 rfl dX8_newQueen_185 B6.1 ?_
  first
    | rw [e6q]
    | rw [aup_n (by omega), e6q]
  refine aw_iload dX8_newQueen_188 rfl ?_
  refine aw_iastore dX8_newQueen_190 a5 (by omega) (by omega) ?_
  refine aw_aload_n dX8_newQueen_191 rfl ?_
  refine aw_aload_n dX8_newQueen_192 rfl ?_
  refine g_X8_221_6 rfl dX8_newQueen_193 B6.1 ?_
  first
    | rw [e6q]
    | rw [aup_n (by omega), e6q]
  refine aw_lload_n dX8_newQueen_196 rfl ?_
  refine aw_iload dX8_newQueen_197 rfl ?_
  refine aw_iload dX8_newQueen_199 rfl ?_
  refine c_X8_217 rfl dX8_newQueen_201 B6.1 (Nat.le_of_ble_eq_true rfl) (by omega) (C_x_addsQ (u := s 1) (v := s 2) B6 (by rw [aup_n (by omega)]; exact e6q) (by rw [aup_n (by omega)]; exact e6d) PQ0 (by omega) (by omega) (by omega) ?_)
  refine aK_v ?_
  refine aw_ret dX8_newQueen_204 rfl ?_
  have e13 : s 1 + s 2 = s 13 := PQ1.2.1.symm
  have LL := LR_addQ (l := l) (m := m) (b := b) (h := h) (x := x) (w := s 1 + s 2) hLR6 B6 h8 (by omega)
  rw [← e13] at LL
  have fx : ∀ y j : Int, own y ≠ -1 → aup (aup (aup (aup (aup (aup (aup ct6 (la + 5) (s 1) l) (la + 1) (s 1) x) (la + 2) (s 1) m) (la + 3) (s 1) (if b = -1 then -1 else 8 + b)) (la + 4) (s 1) (s 1 + s 2)) (la + 6) (s 1 + s 2) (s 1)) la 6 (s 1 + 1) y j = ct6 y j := fun y j hy => by
    have := hne2 y hy
    (repeat rw [aup_rn (by omega)])
  have eA : ∀ i, i = 0 ∨ (4 ≤ i ∧ i ≤ 12) ∨ 64 ≤ i → addQ s l m b h i = (if h = -1 then s else upA s (67 + 198 * h) (s 1)) i := fun i hi => by
    unfold addQ
    rw [upA_n (by omega), upA_n (by omega), upA_n (by omega), upA_n (by omega), upA_n (by omega), upA_n (by omega)]
  refine hQ _ ?_ ⟨B1.fa fun y hy _ => ?_, B2, B3, ?_, ⟨?_, B6, LL⟩, ⟨B8, B9, B10, B11, B12, B15⟩, fun k k0 k1 => ?_, YI_addQ B14 h8 hh hl hm hb⟩ ?_
  · exact HR.fr (funext fun j => fx 6 j (by rw [B3.2.2]; decide)) (fun j _ => fx a j (by rw [B12]; decide))
  · rw [← g6 y hy]
    (repeat rw [aup_rn (by omega)])
  · have Y1 : YR own 5 sz im (aup (aup (aup (aup (aup (aup (aup ct6 (la + 5) (s 1) l) (la + 1) (s 1) x) (la + 2) (s 1) m) (la + 3) (s 1) (if b = -1 then -1 else 8 + b)) (la + 4) (s 1) (s 1 + s 2)) (la + 6) (s 1 + s 2) (s 1)) la 6 (s 1 + 1)) ya (upA (if h = -1 then s else upA s (67 + 198 * h) (s 1)) 4 0) 0 N := HY6.frame fun y j y0 y1 => fx y j (by omega)
    refine Y1.lo (fun i hi => ?_) (fun k k0 k1 => upA_n (by have := HY6.2.2.2.2.1; omega))
    by_cases z : i = 4
    · subst z; rw [upA_s, upA_s]
    · rw [upA_n z, upA_n z]; exact eA i hi
  · rw [fx ya 0 (by omega), f6 ya 0 (by omega)]; exact B5
  · rw [addQ_n (by omega) (by omega) (by omega) (by omega)] at k1
    rw [fx _ k (by omega), f6 _ k (by omega)]
    exact B13 k k0 k1
  · rw [fx a 5 (by omega), f6 a 5 (by omega)]
theorem L_x_nq98 {own0 own : Int → Int} {sz0 sz : Int} {im0 im : Int → aIm} {ct0 ct : Int → Int → Int} {ya la a : Int} {s N tp : Int → Int} {n p q5 : Int} {x l m b : Int} {Q : aPost} {d kc ks : Nat} (hd : 11 ≤ d) (HB : XB own0 sz0 im0 ct0 own sz im ct ya la a s N) (HR : RDX sz im ct a tp n q5) (h8 : s 1 < 8) (hl : 0 ≤ l ∧ l ≤ 16) (hm : m = -1 ∨ (0 ≤ m ∧ m < s 1)) (hb : b = -1 ∨ (0 ≤ b ∧ b < s 2)) (hEq : queenP tp n p s N = bnd (if tW tp n q5 = 10 then homeP tp n (tE tp n q5) s N else .inr (-1, q5)) fun h => .inr (h.2, addQ s l m b h.1, upA N (12 + s 1) x)) (hF : ∀ (k pl sz1 : Int) (im1 : Int → aIm) (ct1 : Int → Int → Int), queenP tp n p s N = .inl (k, pl) → OLD sz0 im0 ct0 sz1 im1 ct1 → ct1 7 6 = k → ct1 7 7 = pl → Q (.inr (0, 7)) (sz1, im1, ct1)) (hQ : ∀ (q : Int) (s1 N1 : Int → Int) (ct1 : Int → Int → Int), queenP tp n p s N = .inr (q, s1, N1) → RDX sz im ct1 a tp n q → XB own0 sz0 im0 ct0 own sz im ct1 ya la a s1 N1 → ct1 a 5 = ct a 5 → Q (.inl none) (sz, im, ct1)) : AW (mq Q) md_X8_newQueen d kc ks 98 [some (vR a), some (vR ya), some (vR la), some (vL x), none, some (vI l), some (vI m), some (vI (if b = -1 then -1 else 8 + b)), none] [] (sz, im, ct) := by
  have h5 := HR.1
  have hX := HR.1
  obtain ⟨⟨ha, hsz, h60⟩, ⟨hB, hB1, hB5, hT, hBad⟩, hn, htp⟩ := id hX
  have hne := hX.ne
  have hp := HR.2.1
  have e1 := HR.2.2.1
  have e2 := HR.2.2.2.1
  have e3 := HR.2.2.2.2.1
  have hF9 := tF_bd (tp := tp) hp.2
  have hE := tE_bd (tp := tp) hp.2
  have hK := tK_bd (tp := tp) (n := n) (p := p)
  obtain ⟨B1, B2, B3, B4, ⟨B5, B6, B7⟩, ⟨B8, B9, B10, B11, B12, B15⟩, B13, B14⟩ := id HB
  have P0 := HB.2.2.2.2.2.2.2.1.1
  have PQ1 := HB.2.2.2.2.2.2.2.1.2.2.2.1
  have PQ0 := PQ1.1
  have eu4 : upA s 4 0 0 = s 0 := upA_n (by omega)
  have y9 := B4.2.1
  have nya : ya ≠ a := fun z => by rw [z] at y9; omega
  refine aw_iconst dX8_newQueen_98 (by decide) ?_
  refine aw_istore8 dX8_newQueen_99 (by decide) rfl ?_
  refine aw_aload_n dX8_newQueen_101 rfl ?_
  refine aw_ldcS (k9 := 8) dX8_newQueen_102 rfl rfl (by decide) ?_
  refine c_X8_72 rfl dX8_newQueen_104 ha (Nat.le_of_ble_eq_true rfl) (by omega) (C_x_isWord (k := 8) (w := 10) HR (by decide) rfl (fun hw8 => ?_) (fun hw8 => ?_))
  · refine aK_i ?_
    refine aw_ifeq (tgt := 161) dX8_newQueen_107 (by decide) (fun h => absurd h (by decide)) (fun _ => ?_)
    refine aw_aload_n dX8_newQueen_110 rfl ?_
    refine c_X8_19 rfl dX8_newQueen_111 ha (Nat.le_of_ble_eq_true rfl) (by omega) (C_x_next HR.1 HR.goes.1 HR.goes.2 (fun ct1 HR1 f1 => ?_))
    have HB1 := HB.fa f1.1
    have yA := HB1.2.2.2.1
    refine aK_v ?_
    refine aw_aload_n dX8_newQueen_114 rfl ?_
    refine aw_aload_n dX8_newQueen_115 rfl ?_
    refine aw_aload_n dX8_newQueen_116 rfl ?_
    refine c_X8_139 rfl dX8_newQueen_117 ha (Nat.le_of_ble_eq_true rfl) (by omega) (C_x_name HR1 (fun k2 pl ct2 e9 f2 => ?_) (fun y e9 => ?_))
    · exact aK_x (ax_out rfl (hF _ _ _ _ _ (by rw [hEq, if_pos hw8]; unfold homeP; rw [bnd_l e9]; rfl) (HB1.fault f2) f2.2.1 f2.2.2))
    · have bd := fnd_bd (N := N) (b := 0) (c := s 0) (x := y) (by omega)
      refine aK_i ?_
      refine c_X8_143 rfl dX8_newQueen_120 yA.1 (Nat.le_of_ble_eq_true rfl) (by omega) (C_x_hiveNamed yA ?_)
      rw [eu4]
      refine aK_i ?_
      refine c_X8_161 rfl dX8_newQueen_123 ha (Nat.le_of_ble_eq_true rfl) (by omega) (C_x_known HR1 (fun ct2 hk f2 => ?_) (fun hk => ?_))
      · exact aK_x (ax_out rfl (hF _ _ _ _ _ (by rw [hEq, if_pos hw8]; unfold homeP; rw [bnd_r e9, if_pos (by omega)]; rfl) (HB1.fault f2) f2.2.1 f2.2.2))
      · obtain ⟨g, eg⟩ : ∃ z, fnd N 0 (s 0) y = z := ⟨_, rfl⟩
        rw [eg] at bd hk ⊢
        obtain ⟨hv, ehv⟩ : ∃ z, ct1 ((im ya).2.2 1) g = z := ⟨_, rfl⟩
        have Yg := yA.2.2.2.2.2.2.2 g (by omega) (by omega)
        rw [ehv] at Yg
        have pk := B14.1.2.2.1 g (by omega) (by omega)
        have pk5 := pk.2.2.2.2.1
        rw [show 64 + 198 * g + 3 = 67 + 198 * g by omega] at pk5
        have eq5 : ct1 hv 5 = s (67 + 198 * g) := by rw [Yg.2.2.1.2.2.1, upA_n (by omega)]; congr 1; omega
        have ohv := Yg.2.2.2.2.1
        have hvz : sz0 ≤ hv := by rw [← ehv]; exact HB1.2.2.2.2.2.2.1 g (by omega) (by omega)
        refine aK_i ?_
        refine aw_istore8 dX8_newQueen_126 (by decide) rfl ?_
        refine aw_aload_n dX8_newQueen_128 rfl ?_
        refine g_X8_184_5 rfl dX8_newQueen_129 B4.1 ?_
        refine aw_iload dX8_newQueen_132 rfl ?_
        refine aw_aaload dX8_newQueen_134 B4.2.2.1 (by decide) (by omega) (by omega) ?_
        rw [ehv]
        refine g_X8_224_9 rfl dX8_newQueen_135 Yg.1.1 ?_
        rw [eq5]
        refine aw_iflt (tgt := 157) dX8_newQueen_138 (by decide) (fun h138 => ?_) (fun h138 => ?_)
        · refine aw_aload_n dX8_newQueen_157 rfl ?_
          refine c_X8_19 rfl dX8_newQueen_158 ha (Nat.le_of_ble_eq_true rfl) (by omega) (C_x_next HR1.1 HR1.goes.1 HR1.goes.2 (fun ct2 HR2 f2 => ?_))
          have HB2 := HB1.fa f2.1
          refine aK_v ?_
          first
            | (have eN := hEq
               rw [if_neg hw8] at eN
               refine aw_iload dX8_newQueen_161 rfl ?_
               refine aw_iflt (tgt := 180) dX8_newQueen_163 (by decide) (fun h163 => ?_) (fun h163 => (by exfalso; omega))
               exact L_x_nq180 (h := -1) (by omega) HB HR h8 (Or.inl rfl) hl hm hb (by rw [if_pos rfl]; exact B4) (fun _ _ _ => rfl) (fun _ _ => rfl) (fun ct9 g1 g2 g3 => hQ _ _ _ _ eN g1 g2 g3))
            | (have yB := HB2.2.2.2.1
               have ehv2 : ct2 ((im ya).2.2 1) g = hv := by
                 have oH := B4.2.2.2.1
                 rw [f2.1 _ (fun z => by rw [z] at oH; omega)]; exact ehv
               have e2q : ct2 la 6 = s 1 := HB2.2.2.2.2.1.2.2.2.2.2.1.1
               have eN := hEq
               rw [if_pos hw8] at eN
               unfold homeP at eN
               rw [bnd_r e9, eg, if_neg (by omega), if_neg (by omega)] at eN
               have hY := yB.hfld (k := g) (a := hv) (j := 5) (v := s 1) (by omega) (by rw [eu4]; omega) ehv2 (by decide)
               refine aw_iload dX8_newQueen_161 rfl ?_
               refine aw_iflt (tgt := 180) dX8_newQueen_163 (by decide) (fun h163 => (by exfalso; omega)) (fun h163 => ?_)
               refine aw_aload_n dX8_newQueen_166 rfl ?_
               refine g_X8_184_5 rfl dX8_newQueen_167 B4.1 ?_
               refine aw_iload dX8_newQueen_170 rfl ?_
               refine aw_aaload dX8_newQueen_172 B4.2.2.1 (by decide) (by omega) (by omega) ?_
               rw [ehv2]
               refine aw_aload_n dX8_newQueen_173 rfl ?_
               refine g_X8_221_6 rfl dX8_newQueen_174 B6.1 ?_
               rw [e2q]
               refine p_X8_224_9 rfl dX8_newQueen_177 Yg.1.1 ?_
               refine L_x_nq180 (h := g) (by omega) HB2 (HR2.fr (ct' := aup ct2 hv 5 (s 1)) (aup_rn (fun z => by rw [← z, B3.2.2] at ohv; omega)) (fun j _ => aup_rn_a (fun z => by rw [← z, B12] at ohv; omega))) h8 (by omega) hl hm hb ?_ (fun y j hy => aup_rn_a (fun z => by rw [z, ohv] at hy; omega)) (fun y hy => aup_rn (by omega)) (fun ct9 g1 g2 g3 => hQ _ _ _ _ eN g1 g2 (g3.trans (f2.2.trans f1.2)))
               rw [if_neg (by omega)]
               refine hY.lo (fun i hi => ?_) (fun _ _ _ => rfl)
               unfold upA
               by_cases z4 : i = 4
               · rw [if_pos z4, if_neg (by omega), if_pos z4]
               · by_cases z5 : i = 67 + 198 * g
                 · rw [if_neg z4, if_pos z5, if_pos (by omega)]
                 · rw [if_neg z4, if_neg z5, if_neg (by omega), if_neg z4])
        · refine aw_aload_n dX8_newQueen_141 rfl ?_
          refine g_X8_3_8 rfl dX8_newQueen_142 ha ?_
          rw [h60]
          refine g_X8_55_0 rfl dX8_newQueen_145 (by assumption) ?_
          rw [hB5]
          refine aw_iconst dX8_newQueen_148 (by decide) ?_
          refine aw_aload_n dX8_newQueen_149 rfl ?_
          refine g_X8_29_8 rfl dX8_newQueen_150 ha ?_
          first
            | rw [e1]
            | rw [HR1.2.2.1]
          refine c_X8_59 rfl dX8_newQueen_153 (by assumption) (Nat.le_of_ble_eq_true rfl) (by omega) (C_x_badat HR1.1.2.1.2.2.2.2 ?_)
          refine aK_i ?_
          have fb : FB a ct1 (aup (aup ct1 7 6 5) 7 7 (tF tp n (tE tp n q5))) 5 (tF tp n (tE tp n q5)) := FB.of
          exact aw_athrow (E := 0) dX8_newQueen_156 HR1.1.2.1.2.2.2.2 ⟨_, rfl, rfl⟩ (ax_out rfl (hF _ _ _ _ _ (by rw [hEq, if_pos hw8]; unfold homeP; rw [bnd_r e9, eg, if_neg (by omega), if_pos (by omega)]; rfl) (HB1.fault fb) fb.2.1 fb.2.2))
  · refine aK_i ?_
    refine aw_ifeq (tgt := 161) dX8_newQueen_107 (by decide) (fun _ => ?_) (fun h => absurd h (by decide))
    first
      | (have eN := hEq
         rw [if_neg hw8] at eN
         refine aw_iload dX8_newQueen_161 rfl ?_
         refine aw_iflt (tgt := 180) dX8_newQueen_163 (by decide) (fun h163 => ?_) (fun h163 => (by exfalso; omega))
         exact L_x_nq180 (h := -1) (by omega) HB HR h8 (Or.inl rfl) hl hm hb (by rw [if_pos rfl]; exact B4) (fun _ _ _ => rfl) (fun _ _ => rfl) (fun ct9 g1 g2 g3 => hQ _ _ _ _ eN g1 g2 g3))
      | (have yB := HB2.2.2.2.1
         have ehv2 : ct2 ((im ya).2.2 1) g = hv := by
           have oH := B4.2.2.2.1
           rw [f2.1 _ (fun z => by rw [z] at oH; omega)]; exact ehv
         have e2q : ct2 la 6 = s 1 := HB2.2.2.2.2.1.2.2.2.2.2.1.1
         have eN := hEq
         rw [if_pos hw8] at eN
         unfold homeP at eN
         rw [bnd_r e9, eg, if_neg (by omega), if_neg (by omega)] at eN
         have hY := yB.hfld (k := g) (a := hv) (j := 5) (v := s 1) (by omega) (by rw [eu4]; omega) ehv2 (by decide)
         refine aw_iload dX8_newQueen_161 rfl ?_
         refine aw_iflt (tgt := 180) dX8_newQueen_163 (by decide) (fun h163 => (by exfalso; omega)) (fun h163 => ?_)
         refine aw_aload_n dX8_newQueen_166 rfl ?_
         refine g_X8_184_5 rfl dX8_newQueen_167 B4.1 ?_
         refine aw_iload dX8_newQueen_170 rfl ?_
         refine aw_aaload dX8_newQueen_172 B4.2.2.1 (by decide) (by omega) (by omega) ?_
         rw [ehv2]
         refine aw_aload_n dX8_newQueen_173 rfl ?_
         refine g_X8_221_6 rfl dX8_newQueen_174 B6.1 ?_
         rw [e2q]
         refine p_X8_224_9 rfl dX8_newQueen_177 Yg.1.1 ?_
         refine L_x_nq180 (h := g) (by omega) HB2 (HR2.fr (ct' := aup ct2 hv 5 (s 1)) (aup_rn (fun z => by rw [← z, B3.2.2] at ohv; omega)) (fun j _ => aup_rn_a (fun z => by rw [← z, B12] at ohv; omega))) h8 (by omega) hl hm hb ?_ (fun y j hy => aup_rn_a (fun z => by rw [z, ohv] at hy; omega)) (fun y hy => aup_rn (by omega)) (fun ct9 g1 g2 g3 => hQ _ _ _ _ eN g1 g2 (g3.trans (f2.2.trans f1.2)))
         rw [if_neg (by omega)]
         refine hY.lo (fun i hi => ?_) (fun _ _ _ => rfl)
         unfold upA
         by_cases z4 : i = 4
         · rw [if_pos z4, if_neg (by omega), if_pos z4]
         · by_cases z5 : i = 67 + 198 * g
           · rw [if_neg z4, if_pos z5, if_pos (by omega)]
           · rw [if_neg z4, if_neg z5, if_neg (by omega), if_neg z4])
theorem C_x_newQueen {own0 own : Int → Int} {sz0 sz : Int} {im0 im : Int → aIm} {ct0 ct : Int → Int → Int} {ya la a : Int} {s N tp : Int → Int} {n p : Int} {Q : aPost} (HR : RDX sz im ct a tp n p) (HB : XB own0 sz0 im0 ct0 own sz im ct ya la a s N) (hF : ∀ (k pl sz1 : Int) (im1 : Int → aIm) (ct1 : Int → Int → Int), queenP tp n p s N = .inl (k, pl) → OLD sz0 im0 ct0 sz1 im1 ct1 → ct1 7 6 = k → ct1 7 7 = pl → Q (.inr (0, 7)) (sz1, im1, ct1)) (hQ : ∀ (q : Int) (s1 N1 : Int → Int) (ct1 : Int → Int → Int), queenP tp n p s N = .inr (q, s1, N1) → RDX sz im ct1 a tp n q → XB own0 sz0 im0 ct0 own sz im ct1 ya la a s1 N1 → ct1 a 5 = ct a 5 → Q (.inl none) (sz, im, ct1)) : AMet md_X8_newQueen 12 0 0 [vR a, vR ya] (sz, im, ct) Q := by
  refine AMet.go (L := [some (vR a), some (vR ya), none, none, none, none, none, none, none]) mok_X8_newQueen (Nat.le_of_ble_eq_true rfl) rfl ?_
  have hX := HR.1
  obtain ⟨⟨ha, hsz, h60⟩, ⟨hB, hB1, hB5, hT, hBad⟩, hn, htp⟩ := id hX
  have hne := hX.ne
  have hp := HR.2.1
  have e1 := HR.2.2.1
  have e2 := HR.2.2.2.1
  have e3 := HR.2.2.2.2.1
  have hF9 := tF_bd (tp := tp) hp.2
  have hE := tE_bd (tp := tp) hp.2
  have hK := tK_bd (tp := tp) (n := n) (p := p)
  obtain ⟨B1, B2, B3, B4, ⟨B5, B6, B7⟩, ⟨B8, B9, B10, B11, B12, B15⟩, B13, B14⟩ := id HB
  have P0 := B14.1.1
  have PQ1 := B14.1.2.2.2.1
  have PQ0 := PQ1.1
  have y9 := B4.2.1
  have e20 : ct ya 2 = s 0 := B4.2.2.2.2.2.1.1.trans (upA_n (by omega))
  have eu4 : upA s 4 0 0 = s 0 := upA_n (by omega)
  have nya : ya ≠ a := fun z => by rw [z] at y9; omega
  have e2q : ct la 6 = s 1 := B7.2.2.2.1.1
  have hla : la ≠ a := fun z => by have := B7.2.2.1.1; rw [z] at this; omega
  have yH := B4.2.2.2.1
  refine aw_aload_n dX8_newQueen_0 rfl ?_
  refine g_X8_149_5 rfl dX8_newQueen_1 B4.1 ?_
  rw [B5]
  refine aw_astore2 dX8_newQueen_4 (by decide) rfl ?_
  refine aw_aload_n dX8_newQueen_5 rfl ?_
  refine g_X8_221_6 rfl dX8_newQueen_6 B6.1 ?_
  rw [e2q]
  refine aw_bipush dX8_newQueen_9 (by decide) ?_
  refine aw_icmpne (tgt := 31) dX8_newQueen_11 (by decide) (fun h11 => ?_) (fun h11 => ?_)
  · refine aw_aload_n dX8_newQueen_31 rfl ?_
    refine c_X8_19 rfl dX8_newQueen_32 ha (Nat.le_of_ble_eq_true rfl) (by omega) (C_x_next HR.1 HR.goes.1 HR.goes.2 (fun ct1 HR1 f1 => ?_))
    have HB1 := HB.fa f1.1
    refine aK_v ?_
    refine aw_aload_n dX8_newQueen_35 rfl ?_
    refine aw_aload_n dX8_newQueen_36 rfl ?_
    refine c_X8_192 rfl dX8_newQueen_37 ha (Nat.le_of_ble_eq_true rfl) (by omega) (C_x_fresh (s := s) HR1 HB1.2.2.2.1 eu4 HB1.2.2.2.2.1.1 HB1.2.2.2.2.1.2.2 (fun k2 pl ct2 e9 f2 => ?_) (fun x q ct2 e9 HR2 f2 => ?_))
    · exact aK_x (ax_out rfl (hF _ _ _ _ _ (by unfold queenP; rw [if_neg h11]; exact bnd_l e9) (HB1.fault f2) f2.2.1 f2.2.2))
    · have HB2 := HB1.fa f2.1
      refine aK_i ?_
      refine aw_lstore3 dX8_newQueen_40 (by decide) rfl ?_
      refine aw_aload_n dX8_newQueen_41 rfl ?_
      refine aw_ldcS (k9 := 6) dX8_newQueen_42 rfl rfl (by decide) ?_
      refine aw_iconst dX8_newQueen_44 (by decide) ?_
      refine aw_bipush dX8_newQueen_45 (by decide) ?_
      refine c_X8_196 rfl dX8_newQueen_47 ha (Nat.le_of_ble_eq_true rfl) (by omega) (C_x_behind (k := 6) (w := 8) HR2 (by decide) rfl (fun k3 pl ct3 e8 f3 => ?_) (fun l q3 ct3 e8 HR3 f3 => ?_))
      · exact aK_x (ax_out rfl (hF _ _ _ _ _ (by unfold queenP; rw [if_neg (by omega), bnd_r e9]; exact bnd_l e8) (HB2.fault f3) f3.2.1 f3.2.2))
      · have HB3 := HB2.fa f3.1
        refine aK_i ?_
        refine aw_istore5 dX8_newQueen_50 (by decide) rfl ?_
        refine aw_aload_n dX8_newQueen_52 rfl ?_
        refine aw_aload_n dX8_newQueen_53 rfl ?_
        refine c_X8_213 rfl dX8_newQueen_54 ha (Nat.le_of_ble_eq_true rfl) (by omega) (C_x_mother HR3 HB3.2.2.2.1 eu4 HB3.2.2.2.2.1.1 HB3.2.2.2.2.1.2.2 nya B12 (fun k4 pl ct4 e7 f4 => ?_) (fun m q4 ct4 e7 HR4 f4 => ?_))
        · exact aK_x (ax_out rfl (hF _ _ _ _ _ (by unfold queenP; rw [if_neg (by omega), bnd_r e9, bnd_r e8]; exact bnd_l e7) (HB3.fault f4) f4.2.1 f4.2.2))
        · have HB4 := HB3.fa f4.1
          have hl9 := (wnumP_p (by have := HR2.2.1; omega) e8).2
          have hm9 := (momP_r (s := s) (N := N) (by have := HR3.2.1; omega) PQ0.1.1 e7).1
          have hE0 : queenP tp n p s N = bnd (if m ≠ -1 ∧ tW tp n q4 = 9 then oldP tp n (tE tp n q4) N 4 (s 2) else .inr (-1, q4)) fun b => bnd (if tW tp n b.2 = 10 then homeP tp n (tE tp n b.2) s N else .inr (-1, b.2)) fun h => .inr (h.2, addQ s l m b.1 h.1, upA N (12 + s 1) x) := by
            unfold queenP; rw [if_neg (by omega), bnd_r e9, bnd_r e8, bnd_r e7]
          have f14 : ct4 a 5 = ct a 5 := by rw [f4.2, f3.2, f2.2, f1.2]
          refine aK_i ?_
          refine aw_istore6 dX8_newQueen_57 (by decide) rfl ?_
          refine aw_iconst dX8_newQueen_59 (by decide) ?_
          refine aw_istore7 dX8_newQueen_60 (by decide) rfl ?_
          refine aw_iload dX8_newQueen_62 rfl ?_
          refine aw_iflt (tgt := 98) dX8_newQueen_64 (by decide) (fun h64 => ?_) (fun h64 => ?_)
          · first
              | exact L_x_nq98 (b := fnd N 4 (s 2) y) (by omega) HB7 HR7 (by omega) hl9 hm9 (Or.inr (by omega)) hE1 hF (fun q s1 N1 ct9 g0 g1 g2 g3 => hQ q s1 N1 ct9 g0 g1 g2 (by rw [g3, f7.2, f5.2]; exact f14))
              | (rw [if_neg (by omega)] at hE0
                 exact L_x_nq98 (b := -1) (by omega) HB4 HR4 (by omega) hl9 hm9 (Or.inl rfl) hE0 hF (fun q s1 N1 ct9 g0 g1 g2 g3 => hQ q s1 N1 ct9 g0 g1 g2 (g3.trans f14)))
          · refine aw_aload_n dX8_newQueen_67 rfl ?_
            refine aw_ldcS (k9 := 7) dX8_newQueen_68 rfl rfl (by decide) ?_
            refine c_X8_72 rfl dX8_newQueen_70 ha (Nat.le_of_ble_eq_true rfl) (by omega) (C_x_isWord (k := 7) (w := 9) HR4 (by decide) rfl (fun hw7 => ?_) (fun hw7 => ?_))
            · refine aK_i ?_
              refine aw_ifeq (tgt := 98) dX8_newQueen_73 (by decide) (fun h => absurd h (by decide)) (fun _ => ?_)
              refine aw_aload_n dX8_newQueen_76 rfl ?_
              refine c_X8_19 rfl dX8_newQueen_77 ha (Nat.le_of_ble_eq_true rfl) (by omega) (C_x_next HR4.1 HR4.goes.1 HR4.goes.2 (fun ct5 HR5 f5 => ?_))
              have HB5 := HB4.fa f5.1
              refine aK_v ?_
              refine aw_aload_n dX8_newQueen_80 rfl ?_
              refine aw_aload_n dX8_newQueen_81 rfl ?_
              refine aw_aload_n dX8_newQueen_82 rfl ?_
              refine c_X8_139 rfl dX8_newQueen_83 ha (Nat.le_of_ble_eq_true rfl) (by omega) (C_x_name HR5 (fun k6 pl ct6 e6 f6 => ?_) (fun y e6 => ?_))
              · exact aK_x (ax_out rfl (hF _ _ _ _ _ (by rw [hE0, if_pos ⟨by omega, hw7⟩]; unfold oldP; rw [bnd_l e6]; rfl) (HB5.fault f6) f6.2.1 f6.2.2))
              · have bd := fnd_bd (N := N) (b := 4) (c := s 2) (x := y) (by omega)
                refine aK_i ?_
                refine c_X8_158 rfl dX8_newQueen_86 B6.1 (Nat.le_of_ble_eq_true rfl) (by omega) (C_x_droneNamed HB5.2.2.2.2.1.2.2 ?_)
                refine aK_i ?_
                refine c_X8_161 rfl dX8_newQueen_89 ha (Nat.le_of_ble_eq_true rfl) (by omega) (C_x_known HR5 (fun ct6 hk f6 => ?_) (fun hk => ?_))
                · have hz : fnd N 4 (s 2) y = -1 := by
                    by_cases z : fnd N 4 (s 2) y = -1
                    · exact z
                    · rw [if_neg z] at hk; omega
                  exact aK_x (ax_out rfl (hF _ _ _ _ _ (by rw [hE0, if_pos ⟨by omega, hw7⟩]; unfold oldP; rw [bnd_r e6, if_pos hz]; rfl) (HB5.fault f6) f6.2.1 f6.2.2))
                · have hz : ¬ fnd N 4 (s 2) y = -1 := fun z => by rw [if_pos z] at hk; omega
                  have hE1 := hE0
                  rw [if_pos ⟨by omega, hw7⟩] at hE1
                  unfold oldP at hE1
                  rw [bnd_r e6, if_neg hz] at hE1
                  refine aK_i ?_
                  refine aw_istore7 dX8_newQueen_92 (by decide) rfl ?_
                  refine aw_aload_n dX8_newQueen_94 rfl ?_
                  refine c_X8_19 rfl dX8_newQueen_95 ha (Nat.le_of_ble_eq_true rfl) (by omega) (C_x_next HR5.1 HR5.goes.1 HR5.goes.2 (fun ct7 HR7 f7 => ?_))
                  have HB7 := HB5.fa f7.1
                  refine aK_v ?_
                  first
                    | exact L_x_nq98 (b := fnd N 4 (s 2) y) (by omega) HB7 HR7 (by omega) hl9 hm9 (Or.inr (by omega)) hE1 hF (fun q s1 N1 ct9 g0 g1 g2 g3 => hQ q s1 N1 ct9 g0 g1 g2 (by rw [g3, f7.2, f5.2]; exact f14))
                    | (rw [if_neg (by omega)] at hE0
                       exact L_x_nq98 (b := -1) (by omega) HB4 HR4 (by omega) hl9 hm9 (Or.inl rfl) hE0 hF (fun q s1 N1 ct9 g0 g1 g2 g3 => hQ q s1 N1 ct9 g0 g1 g2 (g3.trans f14)))
            · refine aK_i ?_
              refine aw_ifeq (tgt := 98) dX8_newQueen_73 (by decide) (fun _ => ?_) (fun h => absurd h (by decide))
              first
                | exact L_x_nq98 (b := fnd N 4 (s 2) y) (by omega) HB7 HR7 (by omega) hl9 hm9 (Or.inr (by omega)) hE1 hF (fun q s1 N1 ct9 g0 g1 g2 g3 => hQ q s1 N1 ct9 g0 g1 g2 (by rw [g3, f7.2, f5.2]; exact f14))
                | (rw [if_neg (by omega)] at hE0
                   exact L_x_nq98 (b := -1) (by omega) HB4 HR4 (by omega) hl9 hm9 (Or.inl rfl) hE0 hF (fun q s1 N1 ct9 g0 g1 g2 g3 => hQ q s1 N1 ct9 g0 g1 g2 (g3.trans f14)))
  · refine aw_aload_n dX8_newQueen_14 rfl ?_
    refine g_X8_3_8 rfl dX8_newQueen_15 ha ?_
    rw [h60]
    refine g_X8_55_0 rfl dX8_newQueen_18 (by assumption) ?_
    rw [hB5]
    refine aw_bipush dX8_newQueen_21 (by decide) ?_
    refine aw_aload_n dX8_newQueen_23 rfl ?_
    refine g_X8_29_8 rfl dX8_newQueen_24 ha ?_
    rw [e1]
    refine c_X8_59 rfl dX8_newQueen_27 (by assumption) (Nat.le_of_ble_eq_true rfl) (by omega) (C_x_badat hBad ?_)
    refine aK_i ?_
    have fb : FB a ct (aup (aup ct 7 6 6) 7 7 (tF tp n p)) 6 (tF tp n p) := FB.of
    exact aw_athrow (E := 0) dX8_newQueen_30 hBad ⟨_, rfl, rfl⟩ (ax_out rfl (hF _ _ _ _ _ (by unfold queenP; rw [if_pos h11]) (HB.fault fb) fb.2.1 fb.2.2))
