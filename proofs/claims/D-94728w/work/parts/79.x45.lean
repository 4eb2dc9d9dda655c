set_option maxRecDepth 100000
/-! seasons: an act, BeeYard -/
def LV (sz : Int) (im : Int → aIm) (ct : Int → Int → Int) (l ya : Int) (q : lvS) : Prop := (aob sz im l 13 ∧ (im l).2.2 0 = ya) ∧ ct l 1 = q.2.1 ∧ ct l 2 = q.2.2.1 ∧ ct l 3 = q.2.2.2.1 ∧ ct l 4 = q.2.2.2.2.1 ∧ ct l 5 = q.2.2.2.2.2.1 ∧ ct l 6 = q.2.2.2.2.2.2
/-- the world of a yard that lives: y its tag, l its Living -/
def XL (own0 own1 : Int → Int) (sz : Int) (im : Int → aIm) (ct0 ct1 : Int → Int → Int) (y ya la l : Int) (s0 N : Int → Int) (q : lvS) : Prop :=
  (0 ≤ y ∧ own0 l = -4 ∧ LR own0 sz im ct0 la s0 N ∧ sK s0 q.1) ∧ ((∀ x, ¬ tgY y (own0 x) → own1 x = own0 x) ∧ ∀ x, tgY y (own0 x) → tgY y (own1 x)) ∧ YR own1 y sz im ct1 ya q.1 (q.1 3) N ∧ (∀ x j, ¬ tgY y (own0 x) → x ≠ l → ct1 x j = ct0 x j) ∧ ct1 ya 0 = la ∧ LV sz im ct1 l ya q ∧ LQ q
theorem tgY_m {y t : Int} (hy : 0 ≤ y) (ht : t < 0) : ¬ tgY y t := fun z => by have := z.1; omega
theorem XL.lr {own0 own1 : Int → Int} {sz : Int} {im : Int → aIm} {ct0 ct1 : Int → Int → Int} {y ya la l : Int} {s0 N : Int → Int} {q : lvS} (h : XL own0 own1 sz im ct0 ct1 y ya la l s0 N q) : LR own1 sz im ct1 la q.1 N := by
  obtain ⟨⟨hy, ol, hL, hk⟩, ⟨h1, h2⟩, hY, hf, -⟩ := h
  have T : TG own0 own1 sz sz im im ct0 ct1 (fun t => tgY y t ∨ t = -4) := ⟨Int.le_refl _, fun _ _ => rfl, fun x _ hF => funext fun j => hf x j (fun z => hF (Or.inl z)) (fun z => hF (Or.inr (by rw [z]; exact ol))), fun x _ hF => h1 x (fun z => hF (Or.inl z))⟩
  exact (LR.tg T (fun z => by rcases z with z | z; exact tgY_m hy (by decide) z; omega) hL).row (hk.1 1 (by omega)) (hk.1 2 (by omega)) (fun i i0 i1 => hk.1 i (by omega))
theorem XL.nl {own0 own1 : Int → Int} {sz : Int} {im : Int → aIm} {ct0 ct1 : Int → Int → Int} {y ya la l : Int} {s0 N : Int → Int} {q : lvS} (h : XL own0 own1 sz im ct0 ct1 y ya la l s0 N q) : own1 l = -4 := by
  rw [h.2.1.1 l (by rw [h.1.2.1]; exact tgY_m h.1.1 (by decide))]; exact h.1.2.1
/-- the yard was changed -/
theorem XL.yard {own0 own1 own2 : Int → Int} {sz : Int} {im : Int → aIm} {ct0 ct1 ct2 : Int → Int → Int} {y ya la l dd : Int} {s0 s2 N : Int → Int} {q : lvS} (h : XL own0 own1 sz im ct0 ct1 y ya la l s0 N q) (ho : (∀ x, ¬ tgY y (own1 x) → own2 x = own1 x) ∧ ∀ x, tgY y (own1 x) → tgY y (own2 x)) (hY : YR own2 y sz im ct2 ya s2 dd N) (e3 : dd = s2 3) (hl : ct2 ya 0 = ct1 ya 0) (hx : ∀ x j, ¬ tgY y (own1 x) → ct2 x j = ct1 x j) (hP : PI s2) (hs : sK q.1 s2) : XL own0 own2 sz im ct0 ct2 y ya la l s0 N (s2, q.2) := by
  have onl := h.nl
  obtain ⟨⟨hy, ol, hL, hk⟩, ⟨h1, h2⟩, -, hf, h0, ⟨v0, v1, v2, v3, v4, v5, v6⟩, hq⟩ := h
  have nt : ∀ x, ¬ tgY y (own0 x) → ¬ tgY y (own1 x) := fun x hx => by rw [h1 x hx]; exact hx
  have cl : ∀ j, ct2 l j = ct1 l j := fun j => hx l j (by rw [onl]; exact tgY_m hy (by decide))
  subst e3
  refine ⟨⟨hy, ol, hL, hk.trans hs⟩, ⟨fun x z => (ho.1 x (nt x z)).trans (h1 x z), fun x z => ho.2 x (h2 x z)⟩, hY, fun x j z z2 => (hx x j (nt x z)).trans (hf x j z z2), hl.trans h0, ⟨v0, ?_⟩, hP, hq.2⟩
  rw [cl, cl, cl, cl, cl, cl]
  exact ⟨v1, v2, v3, v4, v5, v6⟩
/-- the Living was written -/
theorem XL.liv {own0 own1 : Int → Int} {sz : Int} {im : Int → aIm} {ct0 ct1 ct2 : Int → Int → Int} {y ya la l : Int} {s0 N : Int → Int} {q q2 : lvS} (h : XL own0 own1 sz im ct0 ct1 y ya la l s0 N q) (hx : ∀ x j, x ≠ l → ct2 x j = ct1 x j) (hv : ct2 l 1 = q2.2.1 ∧ ct2 l 2 = q2.2.2.1 ∧ ct2 l 3 = q2.2.2.2.1 ∧ ct2 l 4 = q2.2.2.2.2.1 ∧ ct2 l 5 = q2.2.2.2.2.2.1 ∧ ct2 l 6 = q2.2.2.2.2.2.2) (hs : q2.1 = q.1) (hq : LQ q2) : XL own0 own1 sz im ct0 ct2 y ya la l s0 N q2 := by
  have onl := h.nl
  obtain ⟨⟨hy, ol, hL, hk⟩, ho, hY, hf, h0, ⟨v0, -⟩, -⟩ := h
  have hya : ya ≠ l := aob_nec hY.1 v0.1 (by decide)
  refine ⟨⟨hy, ol, hL, by rw [hs]; exact hk⟩, ho, ?_, fun x j z z2 => (hx x j z2).trans (hf x j z z2), by rw [hx ya 0 hya]; exact h0, ⟨v0, hv⟩, hq⟩
  rw [hs]
  exact hY.frame fun x j x0 x1 => hx x j (fun z => by rw [z, onl] at x0; omega)
theorem C_x_draw {sz : Int} {im : Int → aIm} {ct : Int → Int → Int} {l n st : Int} {Q : aPost} (ho : aob sz im l 13) (e1 : ct l 1 = st) (hs : 0 ≤ st ∧ st < 65536) (hn : 1 ≤ n ∧ n ≤ 16) (hQ : Q (.inl (some (vI (drw st / 8 % n)))) (sz, im, aup ct l 1 (drw st))) : AMet md_X15_draw 1 0 0 [vR l, vI n] (sz, im, ct) Q := by
  refine AMet.go (L := [some (vR l), some (vI n)]) mok_X15_draw (Nat.le_of_ble_eq_true rfl) rfl ?_
  have hd := drw_bd (x := st)
  refine aw_aload_n dX15_draw_0 rfl ?_
  refine aw_aload_n dX15_draw_1 rfl ?_
  refine g_X15_13_13 rfl dX15_draw_2 ho ?_
  rw [e1]
  refine aw_sipush dX15_draw_5 (by decide) ?_
  refine aw_imulr dX15_draw_8 (by omega) ?_
  refine aw_sipush dX15_draw_9 (by decide) ?_
  refine aw_iaddr dX15_draw_12 (by omega) ?_
  refine aw_ldc (x := 65536) dX15_draw_13 q1386 (by decide) ?_
  refine aw_iremr dX15_draw_15 (by omega) (by omega) ?_
  rw [show (st * 2789 + 9973) % 65536 = drw st from rfl]
  refine p_X15_13_13 rfl dX15_draw_16 ho ?_
  refine aw_aload_n dX15_draw_19 rfl ?_
  refine g_X15_13_13 rfl dX15_draw_20 ho ?_
  rw [aup_s]
  refine aw_bipush dX15_draw_23 (by decide) ?_
  refine aw_idivr dX15_draw_25 (by omega) (by omega) ?_
  refine aw_iload_n dX15_draw_26 rfl ?_
  refine aw_iremr dX15_draw_27 (by omega) (by omega) ?_
  refine aw_ireturn dX15_draw_28 rfl ?_
  exact hQ
/-- an act and its row -/
def ACT (sz : Int) (im : Int → aIm) (o : Int) (s : Int → Int) (r : Int) : Prop := aob sz im o 12 ∧ ROW s r ∧ (im o).2.2 0 = (if s r = 20 then 6 else s r - 11) ∧ (im o).2.2 1 = s (r + 1) ∧ (im o).2.2 2 = s (r + 2) ∧ (im o).2.2 3 = s (r + 3) ∧ (im o).2.2 4 = s (r + 5)
noncomputable def canQ (q : lvS) (r : Int) : lvS := if q.1 r = 20 then (q.1, q.2.1, q.2.2.1, q.2.2.2.1, q.2.2.2.2.1, 1, q.2.2.2.2.2.2) else ((actF q.1 r q.2.1 q.2.2.2.2.1).1, (actF q.1 r q.2.1 q.2.2.2.2.1).2.1, q.2.2.1, q.2.2.2.1, (actF q.1 r q.2.1 q.2.2.2.2.1).2.2.1, q.2.2.2.2.2.1, q.2.2.2.2.2.2)
noncomputable def canB (q : lvS) (r : Int) : Int := if q.1 r = 20 then 1 else (actF q.1 r q.2.1 q.2.2.2.2.1).2.2.2
theorem L_x_bloom {own0 own1 : Int → Int} {sz : Int} {im : Int → aIm} {ct0 ct1 : Int → Int → Int} {y ya la l o : Int} {s0 N : Int → Int} {q : lvS} {Q : aPost} {a : Int} {d kc ks : Nat} (hd : 5 ≤ d) (ho : aob sz im o 12) (ea : (im o).2.2 1 = a) (ha : 1 ≤ a ∧ a ≤ 16) (hq : LQ q) (K : ∀ (ct2 : Int → Int → Int), XL own0 own1 sz im ct0 ct2 y ya la l s0 N ((bloF a (q.1, q.2.1, q.2.2.2.2.1) (q.1 0).toNat).1, (bloF a (q.1, q.2.1, q.2.2.2.2.1) (q.1 0).toNat).2.1, q.2.2.1, q.2.2.2.1, (bloF a (q.1, q.2.1, q.2.2.2.2.1) (q.1 0).toNat).2.2, q.2.2.2.2.2.1, q.2.2.2.2.2.2) → Q (.inl (some (vI 1))) (sz, im, ct2)) : ∀ (r k : Nat) (ct2 : Int → Int → Int) (x4 : Option aV), (k : Int) + r = q.1 0 → XL own0 own1 sz im ct0 ct2 y ya la l s0 N ((bloF a (q.1, q.2.1, q.2.2.2.2.1) k).1, (bloF a (q.1, q.2.1, q.2.2.2.2.1) k).2.1, q.2.2.1, q.2.2.2.1, (bloF a (q.1, q.2.1, q.2.2.2.2.1) k).2.2, q.2.2.2.2.2.1, q.2.2.2.2.2.2) → AW (mq Q) md_X14_can d kc ks 158 [some (vR o), some (vR l), some (vR ya), some (vI k), x4] [] (sz, im, ct2) := by
  obtain ⟨hP, hs, hm, hb, -⟩ := hq
  have b0 := hP.1
  have bok := fun k hk => bloF_ok (a := a) (q := (q.1, q.2.1, q.2.2.2.2.1)) hP hs hb ha (k := k) hk
  intro r
  induction r with
  | zero =>
    intro k ct2 x4 h1 hX
    have ek : (q.1 0).toNat = k := by omega
    have e0 := (bok k (by show (k : Int) ≤ q.1 0; omega)).2.1.1 0 (Or.inl rfl)
    have hY := hX.2.2.1
    rw [ek] at K
    refine aw_iload_n dX14_can_158 rfl ?_
    refine aw_aload_n dX14_can_159 rfl ?_
    refine g_X14_60_5 rfl dX14_can_160 hY.1 ?_
    rw [hY.2.2.2.2.2.1.1]
    dsimp only
    rw [e0]
    dsimp only
    refine aw_icmpge (tgt := 214) dX14_can_163 (by decide) (fun h163 => ?_) (fun h163 => ?_)
    · refine aw_iconst dX14_can_214 (by decide) ?_
      refine aw_zreturn dX14_can_215 rfl (Or.inr rfl) ?_
      exact K ct2 hX
    · exfalso; omega
  | succ r ih =>
    intro k ct2 x4 h1 hX
    obtain ⟨g1, g2, g3, g4⟩ := bok k (by show (k : Int) ≤ q.1 0; omega)
    have e0 := g2.1 0 (Or.inl rfl)
    have e0' : (bloF a (q.1, q.2.1, q.2.2.2.2.1) k).1 0 = q.1 0 := e0
    have hY := hX.2.2.1
    have hV := hX.2.2.2.2.2.1
    have n9 := bloN_bd (p := bloF a (q.1, q.2.1, q.2.2.2.2.1) k) (k := k) (a := a) g1 (by omega) ha
    have bee := g1.bee (k := k) (by omega) (by omega)
    have gk := g1.2.2.1 k (by omega) (by omega)
    have hk := hY.2.2.2.2.2.2.2 k (by omega) (by show (k : Int) < (bloF a (q.1, q.2.1, q.2.2.2.2.1) k).1 0; omega)
    have hA := hY.2.2.1
    have hnl := aob_ne hV.1.1 hA (by decide)
    have hn2 : ct2 ((im ya).2.2 1) k ≠ l := aob_nec hk.1.1 hV.1.1 (by decide)
    have hyl : ya ≠ l := aob_nec hY.1 hV.1.1 (by decide)
    have hX1 : XL own0 own1 sz im ct0 (aup ct2 l 1 (drw (bloF a (q.1, q.2.1, q.2.2.2.2.1) k).2.1)) y ya la l s0 N ((bloF a (q.1, q.2.1, q.2.2.2.2.1) k).1, drw (bloF a (q.1, q.2.1, q.2.2.2.2.1) k).2.1, q.2.2.1, q.2.2.2.1, (bloF a (q.1, q.2.1, q.2.2.2.2.1) k).2.2, q.2.2.2.2.2.1, q.2.2.2.2.2.2) := hX.liv (fun x j hx => aup_rn_a hx) ⟨by rw [aup_s], by rw [aup_n (by omega)]; exact hV.2.2.1, by rw [aup_n (by omega)]; exact hV.2.2.2.1, by rw [aup_n (by omega)]; exact hV.2.2.2.2.1, by rw [aup_n (by omega)]; exact hV.2.2.2.2.2.1, by rw [aup_n (by omega)]; exact hV.2.2.2.2.2.2⟩ rfl ⟨g1, drw_bd, hm, g4, hX.2.2.2.2.2.2.2.2.2.2.1, hX.2.2.2.2.2.2.2.2.2.2.2⟩
    refine aw_iload_n dX14_can_158 rfl ?_
    refine aw_aload_n dX14_can_159 rfl ?_
    refine g_X14_60_5 rfl dX14_can_160 hY.1 ?_
    rw [hY.2.2.2.2.2.1.1]
    dsimp only
    rw [e0']
    refine aw_icmpge (tgt := 214) dX14_can_163 (by decide) (fun h163 => ?_) (fun h163 => ?_)
    · exfalso; omega
    · refine aw_aload_n dX14_can_166 rfl ?_
      refine aw_aload_n dX14_can_167 rfl ?_
      refine g_X14_15_12 rfl dX14_can_168 ho ?_
      rw [ea]
      refine c_X14_63 rfl dX14_can_171 hV.1.1 (Nat.le_of_ble_eq_true rfl) (by omega) (C_x_draw hV.1.1 hV.2.1 g3 ha ?_)
      refine aK_i ?_
      refine aw_aload_n dX14_can_174 rfl ?_
      refine g_X14_50_5 rfl dX14_can_175 hY.1 ?_
      refine aw_iload_n dX14_can_178 rfl ?_
      refine aw_aaload dX14_can_179 hA (by decide) (by omega) (by omega) ?_
      rw [aup_rn (fun z => hnl z.symm)]
      refine g_X14_67_9 rfl dX14_can_180 hk.1.1 ?_
      rw [aup_rn hn2, hk.2.2.1.1]
      dsimp only
      refine aw_bipush dX14_can_183 (by decide) ?_
      refine aw_idivr dX14_can_185 (by omega) (by omega) ?_
      refine aw_imulr dX14_can_186 (by have w := n9; unfold bloN at w; omega) ?_
      rw [show drw (bloF a (q.1, q.2.1, q.2.2.2.2.1) k).2.1 / 8 % a * ((bloF a (q.1, q.2.1, q.2.2.2.2.1) k).1 (64 + 198 * (k : Int) + 1) / 20) = bloN a (bloF a (q.1, q.2.1, q.2.2.2.2.1) k) k from rfl]
      refine aw_istore4 dX14_can_187 (by decide) rfl ?_
      refine aw_aload_n dX14_can_189 rfl ?_
      refine aw_iload_n dX14_can_190 rfl ?_
      refine aw_iload dX14_can_191 rfl ?_
      refine c_X14_43 rfl dX14_can_193 hY.1 (Nat.le_of_ble_eq_true rfl) (by omega) (C_x_brings hX1.2.2.1 (k := k) (by omega) (by dsimp only; omega) gk.1 gk.2.1 (by omega) (fun ct3 HY3 hl3 hf3 => ?_))
      dsimp only at HY3
      have hX3 := hX1.yard ⟨fun _ _ => rfl, fun _ z => z⟩ HY3 (by rw [brK_o (by omega) gk.1 (by omega)]) hl3 (fun x j hx => hf3 x j hx) (g1.brK (by omega) (by omega) n9.2.1) (sK.br (s := (bloF a (q.1, q.2.1, q.2.2.2.2.1) k).1) g1 (by omega) (by omega))
      have hV3 := hX3.2.2.2.2.2.1
      refine aK_i ?_
      refine aw_pop dX14_can_196 rfl ?_
      refine aw_aload_n dX14_can_197 rfl ?_
      refine aw_dup dX14_can_198 rfl ?_
      refine g_X14_70_13 rfl dX14_can_199 hV.1.1 ?_
      rw [hV3.2.2.2.2.1]
      dsimp only
      refine aw_iload dX14_can_202 rfl ?_
      refine aw_iadd dX14_can_204 ?_
      refine p_X14_70_13 rfl dX14_can_205 hV.1.1 ?_
      refine aw_iinc3r dX14_can_208 (by decide) (by decide) rfl (by omega) ?_
      refine aw_goto (tgt := 158) dX14_can_211 (by decide) ?_
      refine ih (k + 1) _ _ (by omega) ?_
      exact hX3.liv (fun x j hx => aup_rn_a hx) ⟨by rw [aup_n (by omega)]; exact hV3.2.1, by rw [aup_n (by omega)]; exact hV3.2.2.1, by rw [aup_n (by omega)]; exact hV3.2.2.2.1, by rw [aup_s]; rfl, by rw [aup_n (by omega)]; exact hV3.2.2.2.2.2.1, by rw [aup_n (by omega)]; exact hV3.2.2.2.2.2.2⟩ rfl ⟨g1.brK (by omega) (by omega) n9.2.1, drw_bd, hm, w32_bd, hX3.2.2.2.2.2.2.2.2.2.2.1, hX3.2.2.2.2.2.2.2.2.2.2.2⟩
