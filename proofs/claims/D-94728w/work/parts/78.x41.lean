set_option maxRecDepth 100000
/-! a yard becomes what another is -/
abbrev tgY (y : Int) : Int → Prop := fun t => 10 * y ≤ t ∧ t < 10 * y + 10
def BE (own own1 : Int → Int) (sz sz1 : Int) (im im1 : Int → aIm) (ct ct1 : Int → Int → Int) (y1 a hs b : Int) (s1 s2 N1 N2 : Int → Int) (k : Int) : Prop :=
  TG own own1 sz sz1 im im1 ct ct1 (tgY y1) ∧ (∀ x, x < sz → own1 x = own x) ∧ (∀ x, sz ≤ x → x < sz1 → tgY y1 (own1 x)) ∧ sz1 ≤ sz + 15 * k ∧ (∀ j, ct1 a j = if j = 0 then ct b 0 else ct a j) ∧
  (∀ j, 0 ≤ j → j < k → YH own1 (10 * y1 + j) sz1 im1 ct1 (ct1 hs j) s2 (64 + 198 * j) (N2 j)) ∧ ∀ j, k ≤ j → j < s1 0 → YH own1 (10 * y1 + j) sz1 im1 ct1 (ct1 hs j) s1 (64 + 198 * j) (N1 j)
theorem BE.copy {own own1 : Int → Int} {sz sz1 : Int} {im im1 im2 : Int → aIm} {ct ct1 ct2 : Int → Int → Int} {y1 y2 a hs b bk k n : Int} {s1 s2 N1 N2 : Int → Int} (H : BE own own1 sz sz1 im im1 ct ct1 y1 a hs b s1 s2 N1 N2 k) (k0 : 0 ≤ k) (k4 : k < 4) (s14 : s1 0 ≤ 4) (hA : aob sz im a 5) (oA : own a = 10 * y1 + 9) (hH : aar sz im hs 5 4) (oH : own hs = 10 * y1 + 9)
    (Yb : YH own1 (10 * y2 + k) sz1 im1 ct1 bk s2 (64 + 198 * k) (N2 k)) (hn : n = s2 (64 + 198 * k)) (hS : HvS (sz1 + n + 3) im2 sz1 n) (hC : HvC (sz1 + n + 3) im2 ct2 sz1 n (sh (64 + 198 * k) s2)) (z0 : (im2 sz1).2.2 0 = (im1 bk).2.2 0) (z3 : ct2 sz1 3 = ct1 bk 3) (z4 : ct2 sz1 4 = ct1 bk 4) (z5 : ct2 sz1 5 = ct1 bk 5) (z6 : ct2 sz1 6 = ct1 bk 6) (z7 : ct2 sz1 7 = ct1 bk 7)
    (zx : ∀ x, x < sz1 → im2 x = im1 x ∧ ct2 x = ct1 x) (z1 : (im2 sz1).2.2 1 = sz1 + 1) (z2 : (im2 sz1).2.2 2 = sz1 + n + 2) (zf : ∀ f, 0 ≤ f → f < n → ct2 (sz1 + 1) f = sz1 + 2 + f) :
    BE own (fun x => if x < sz1 then own1 x else 10 * y1 + k) sz (sz1 + n + 3) im im2 ct (aup ct2 hs k sz1) y1 a hs b s1 s2 N1 N2 (k + 1) := by
  obtain ⟨T, ho, hnew, hsz, hf, hlt, hge⟩ := H
  subst hn
  have n12 := Yb.1.2.2.2
  have zz := T.1
  have hh := hH.2.1
  have ha := hA.2.1
  have ohs : own1 hs = 10 * y1 + 9 := by rw [ho hs hh]; exact oH
  have owp : ∀ x, x < sz1 → (fun x => if x < sz1 then own1 x else 10 * y1 + k) x = own1 x := fun x hx => if_pos hx
  have own_ : ∀ x, sz1 ≤ x → (fun x => if x < sz1 then own1 x else 10 * y1 + k) x = 10 * y1 + k := fun x hx => if_neg (by omega)
  have o2h : ∀ x, (fun x => if x < sz1 then own1 x else 10 * y1 + k) x ≠ 10 * y1 + 9 → x ≠ hs := fun x hx z => hx (by rw [z, owp hs (by omega)]; exact ohs)
  have T2 : TG own1 (fun x => if x < sz1 then own1 x else 10 * y1 + k) sz1 (sz1 + s2 (64 + 198 * k) + 3) im1 im2 ct1 (aup ct2 hs k sz1) (tgY y1) :=
    ⟨by omega, fun x hx => (zx x hx).1, fun x hx hF => by
      have : x ≠ hs := fun z => hF (by rw [z, ohs]; exact ⟨by omega, by omega⟩)
      rw [aup_rn this]; exact (zx x hx).2, fun x hx _ => owp x hx⟩
  have mv : ∀ {t aa h nm : Int} {s : Int → Int}, t ≠ 10 * y1 + 9 → YH own1 t sz1 im1 ct1 aa s h nm → YH (fun x => if x < sz1 then own1 x else 10 * y1 + k) t (sz1 + s2 (64 + 198 * k) + 3) im2 (aup ct2 hs k sz1) aa s h nm := fun {t aa h nm s} ht Y =>
    (Y.mono (own' := fun x => if x < sz1 then own1 x else 10 * y1 + k) (sz' := sz1 + s2 (64 + 198 * k) + 3) (im' := im2) (ct' := ct2) (by omega) (fun x hx => (zx x hx).1) (fun x hx => (zx x hx).2) (fun x hx => owp x hx)).frame (fun x j hx => by rw [aup_rn (o2h x (fun z => ht (hx.symm.trans z)))])
  have hsj : ∀ j, j ≠ k → aup ct2 hs k sz1 hs j = ct1 hs j := fun j hj => by rw [aup_n (fun z => hj z.2), (zx hs (by omega)).2]
  refine ⟨T.trans T2, fun x hx => (owp x (by omega)).trans (ho x hx), fun x h0 h1 => ?_, by omega, fun j => ?_, fun j j0 j1 => ?_, fun j j0 j1 => ?_⟩
  · by_cases q : x < sz1
    · rw [owp x q]; exact hnew x h0 q
    · rw [own_ x (by omega)]; exact ⟨by omega, by omega⟩
  · rw [aup_rn (aob_ne hA hH (by decide)), (zx a (by omega)).2]; exact hf j
  · by_cases q : j = k
    · subst q
      rw [aup_s]
      have Y : YH (fun x => if x < sz1 then own1 x else 10 * y1 + j) (10 * y1 + j) (sz1 + s2 (64 + 198 * j) + 3) im2 ct2 sz1 s2 (64 + 198 * j) (N2 j) := by
        obtain ⟨-, -, ⟨b3, b4, b5, b6, b7⟩, b0, -⟩ := Yb
        refine ⟨hS, hC, ⟨by rw [z3]; exact b3, by rw [z4]; exact b4, by rw [z5]; exact b5, by rw [z6]; exact b6, by rw [z7]; exact b7⟩, by rw [z0]; exact b0, own_ _ (by omega), ?_, ?_, fun f f0 f1 => ?_⟩
        · rw [z1]; exact own_ _ (by omega)
        · rw [z2]; exact own_ _ (by omega)
        · rw [z1, zf f f0 f1]; exact own_ _ (by omega)
      exact Y.frame (fun x i hx => by rw [aup_rn (o2h x (fun z => by have w := hx.symm.trans z; omega))])
    · rw [hsj j q]
      exact mv (by omega) (hlt j j0 (by omega))
  · rw [hsj j (by omega)]
    exact mv (by omega) (hge j (by omega) j1)
theorem BE.same {own own1 : Int → Int} {sz sz1 : Int} {im im1 : Int → aIm} {ct ct1 ct2 : Int → Int → Int} {y1 a hs b ak bk y2 k : Int} {s1 s2 N1 N2 : Int → Int} (H : BE own own1 sz sz1 im im1 ct ct1 y1 a hs b s1 s2 N1 N2 k) (k0 : 0 ≤ k) (k4 : k < 4) (hA : aob sz im a 5) (oA : own a = 10 * y1 + 9) (hH : aar sz im hs 5 4) (oH : own hs = 10 * y1 + 9)
    (Ya : YH own1 (10 * y1 + k) sz1 im1 ct1 ak s1 (64 + 198 * k) (N1 k)) (Yb : YH own1 (10 * y2 + k) sz1 im1 ct1 bk s2 (64 + 198 * k) (N2 k)) (ea : ct1 hs k = ak) (en : s1 (64 + 198 * k) = s2 (64 + 198 * k)) (eN : N1 k = N2 k)
    (hC : HvC sz1 im1 ct2 ak (s1 (64 + 198 * k)) (sh (64 + 198 * k) s2)) (z3 : ct2 ak 3 = ct1 bk 3) (z4 : ct2 ak 4 = ct1 bk 4) (z5 : ct2 ak 5 = ct1 bk 5) (z6 : ct2 ak 6 = ct1 bk 6) (z7 : ct2 ak 7 = ct1 bk 7) (zx : ∀ x j, x ≠ ak → ¬ hvf im1 ct1 ak (s1 (64 + 198 * k)) x → ct2 x j = ct1 x j) (zg : ∀ j, ct2 ((im1 ak).2.2 1) j = ct1 ((im1 ak).2.2 1) j) :
    BE own own1 sz sz1 im im1 ct ct2 y1 a hs b s1 s2 N1 N2 (k + 1) := by
  obtain ⟨T, ho, hnew, hsz, hf, hlt, hge⟩ := H
  have zz := T.1
  have hh := hH.2.1
  have ha := hA.2.1
  have fr : ∀ x j, own1 x ≠ 10 * y1 + k → ct2 x j = ct1 x j := fun x j hx => zx x j (Ya.own hx).1 (Ya.own hx).2
  have ohs : own1 hs = 10 * y1 + 9 := by rw [ho hs hh]; exact oH
  have oa : own1 a = 10 * y1 + 9 := by rw [ho a ha]; exact oA
  have T2 : TG own1 own1 sz1 sz1 im1 im1 ct1 ct2 (tgY y1) := ⟨Int.le_refl _, fun _ _ => rfl, fun x hx hF => funext fun j => fr x j (fun z => hF (by rw [z]; exact ⟨by omega, by omega⟩)), fun _ _ _ => rfl⟩
  refine ⟨T.trans T2, ho, hnew, by omega, fun j => ?_, fun j j0 j1 => ?_, fun j j0 j1 => ?_⟩
  · rw [fr a j (by omega)]; exact hf j
  · rw [fr hs j (by omega)]
    by_cases q : j = k
    · subst q
      rw [ea]
      obtain ⟨c1, -, -, c4, c5, c6, c7, c8⟩ := Ya
      obtain ⟨-, -, ⟨b3, b4, b5, b6, b7⟩, -⟩ := Yb
      refine ⟨by rw [← en]; exact c1, by rw [← en]; exact hC, ⟨by rw [z3]; exact b3, by rw [z4]; exact b4, by rw [z5]; exact b5, by rw [z6]; exact b6, by rw [z7]; exact b7⟩, by rw [c4]; exact eN, c5, c6, c7, fun f f0 f1 => by rw [zg]; exact c8 f f0 (by rw [en]; exact f1)⟩
    · exact (hlt j j0 (by omega)).frame (fun x i hx => fr x i (by omega))
  · rw [fr hs j (by omega)]
    exact (hge j (by omega) j1).frame (fun x i hx => fr x i (by omega))
theorem L_x_ybe {own : Int → Int} {sz : Int} {im : Int → aIm} {ct : Int → Int → Int} {y1 y2 a b dd1 dd2 : Int} {s1 s2 N1 N2 : Int → Int} {Q : aPost} {d : Nat} {hs : Int} (hd : 5 ≤ d) (H1 : YR own y1 sz im ct a s1 dd1 N1) (H2 : YR own y2 sz im ct b s2 dd2 N2) (hy : y1 ≠ y2) (ehs : (im a).2.2 1 = hs) (hQ : ∀ (own1 : Int → Int) (sz1 : Int) (im1 : Int → aIm) (ct1 : Int → Int → Int), TG own own1 sz sz1 im im1 ct ct1 (tgY y1) → (∀ x, x < sz → own1 x = own x) → (∀ x, sz ≤ x → x < sz1 → tgY y1 (own1 x)) → sz1 ≤ sz + 60 → YR own1 y1 sz1 im1 ct1 a s2 dd2 N2 → ct1 a 0 = ct b 0 → Q (.inl none) (sz1, im1, ct1)) : ∀ (r : Nat) (k : Int) (own1 : Int → Int) (sz1 : Int) (im1 : Int → aIm) (ct1 : Int → Int → Int), k + r = s2 0 → 0 ≤ k → BE own own1 sz sz1 im im1 ct ct1 y1 a hs b s1 s2 N1 N2 k → AW (mq Q) md_X5_be d (15 * r) (227 * r) 10 [some (vR a), some (vR b), some (vI k)] [] (sz1, im1, ct1) := by
  obtain ⟨hA, oA, hHo, oH, s1b, s1f, s1w, s1h⟩ := id H1
  obtain ⟨hB, oB, hHb, oHb, s2b, s2f, s2w, s2h⟩ := id H2
  rw [ehs] at hHo oH
  have hab : b ≠ a := fun z => by rw [z] at oB; omega
  intro r
  induction r with
  | zero =>
    intro k own1 sz1 im1 ct1 h1 h2 hE
    have ek : k = s2 0 := by omega
    obtain ⟨T, ho, hnew, hsz, hf, hlt, hge⟩ := id hE
    have hF : ∀ t, 10 * y2 ≤ t → t < 10 * y2 + 10 → ¬ tgY y1 t := fun t t0 t1 z => by have z1 := z.1; have z2 := z.2; omega
    have ha9 := tg_ob T hA
    have hb9 := tg_ob T hB
    have cb : ct1 b = ct b := tg_c T hB.2.1 oB (hF _ (by omega) (by omega))
    have e2 : ct1 b 2 = s2 0 := by rw [cb]; exact s2f.1
    refine aw_iload_n dX5_be_10 rfl ?_
    refine aw_aload_n dX5_be_11 rfl ?_
    refine g_X5_28_5 rfl dX5_be_12 hb9 ?_
    rw [e2]
    refine aw_icmpge (tgt := 119) dX5_be_15 (by decide) (fun h15 => ?_) (fun h15 => ?_)
    · subst ek
      refine aw_aload_n dX5_be_119 rfl ?_
      refine aw_aload_n dX5_be_120 rfl ?_
      refine g_X5_28_5 rfl dX5_be_121 hb9 ?_
      refine p_X5_28_5 rfl dX5_be_124 ha9 ?_
      refine aw_aload_n dX5_be_127 rfl ?_
      refine aw_aload_n dX5_be_128 rfl ?_
      refine g_X5_47_5 rfl dX5_be_129 hb9 ?_
      (repeat rw [aup_rn hab])
      refine p_X5_47_5 rfl dX5_be_132 ha9 ?_
      refine aw_aload_n dX5_be_135 rfl ?_
      refine aw_aload_n dX5_be_136 rfl ?_
      refine g_X5_50_5 rfl dX5_be_137 hb9 ?_
      (repeat rw [aup_rn hab])
      refine p_X5_50_5 rfl dX5_be_140 ha9 ?_
      refine aw_aload_n dX5_be_143 rfl ?_
      refine aw_aload_n dX5_be_144 rfl ?_
      refine g_X5_53_5 rfl dX5_be_145 hb9 ?_
      (repeat rw [aup_rn hab])
      refine p_X5_53_5 rfl dX5_be_148 ha9 ?_
      refine aw_aload_n dX5_be_151 rfl ?_
      refine aw_aload_n dX5_be_152 rfl ?_
      refine g_X5_56_5 rfl dX5_be_153 hb9 ?_
      (repeat rw [aup_rn hab])
      refine p_X5_56_5 rfl dX5_be_156 ha9 ?_
      refine aw_aload_n dX5_be_159 rfl ?_
      refine aw_aload_n dX5_be_160 rfl ?_
      refine g_X5_59_5 rfl dX5_be_161 hb9 ?_
      (repeat rw [aup_rn hab])
      refine p_X5_59_5 rfl dX5_be_164 ha9 ?_
      refine aw_aload_n dX5_be_167 rfl ?_
      refine aw_aload_n dX5_be_168 rfl ?_
      refine g_X5_62_5 rfl dX5_be_169 hb9 ?_
      (repeat rw [aup_rn hab])
      refine p_X5_62_5 rfl dX5_be_172 ha9 ?_
      refine aw_aload_n dX5_be_175 rfl ?_
      refine aw_aload_n dX5_be_176 rfl ?_
      refine g_X5_65_5 rfl dX5_be_177 hb9 ?_
      (repeat rw [aup_rn hab])
      refine p_X5_65_5 rfl dX5_be_180 ha9 ?_
      refine aw_aload_n dX5_be_183 rfl ?_
      refine aw_aload_n dX5_be_184 rfl ?_
      refine g_X5_68_5 rfl dX5_be_185 hb9 ?_
      (repeat rw [aup_rn hab])
      refine p_X5_68_5 rfl dX5_be_188 ha9 ?_
      refine aw_aload_n dX5_be_191 rfl ?_
      refine aw_aload_n dX5_be_192 rfl ?_
      refine g_X5_24_5 rfl dX5_be_193 hb9 ?_
      (repeat rw [aup_rn hab])
      refine p_X5_24_5 rfl dX5_be_196 ha9 ?_
      refine aw_ret dX5_be_199 rfl ?_
      rw [cb]
      have oa1 : own1 a = 10 * y1 + 9 := by rw [ho a hA.2.1]; exact oA
      have nx : ∀ x j, x ≠ a → aup (aup (aup (aup (aup (aup (aup (aup (aup (aup ct1 a 2 (ct b 2)) a 3 (ct b 3)) a 4 (ct b 4)) a 5 (ct b 5)) a 6 (ct b 6)) a 7 (ct b 7)) a 8 (ct b 8)) a 9 (ct b 9)) a 10 (ct b 10)) a 11 (ct b 11) x j = ct1 x j := fun x j hx => by
        repeat rw [aup_rn hx]
      have nh : hs ≠ a := fun z => aob_ne hA hHo (by decide) z.symm
      have rd : ∀ j, 2 ≤ j → j ≤ 11 → aup (aup (aup (aup (aup (aup (aup (aup (aup (aup ct1 a 2 (ct b 2)) a 3 (ct b 3)) a 4 (ct b 4)) a 5 (ct b 5)) a 6 (ct b 6)) a 7 (ct b 7)) a 8 (ct b 8)) a 9 (ct b 9)) a 10 (ct b 10)) a 11 (ct b 11) a j = ct b j := fun j j0 j1 => by
        rcases (by omega : j = 2 ∨ j = 3 ∨ j = 4 ∨ j = 5 ∨ j = 6 ∨ j = 7 ∨ j = 8 ∨ j = 9 ∨ j = 10 ∨ j = 11) with z | z | z | z | z | z | z | z | z | z <;> subst z
        all_goals (repeat (first | rw [aup_s] | rw [aup_n (by omega)]))
      obtain ⟨f2, f3, f4, f5, f6, f7, f8, f9⟩ := s2f
      have eia := T.2.1 a hA.2.1
      refine hQ own1 sz1 im1 _ (T.trans ⟨Int.le_refl _, fun _ _ => rfl, fun x _ hF => funext fun j => nx x j (fun z => hF (by rw [z, oa1]; exact ⟨by omega, by omega⟩)), fun _ _ _ => rfl⟩) ho hnew (by omega) ⟨ha9, oa1, by rw [eia, ehs]; exact tg_ar T hHo, by rw [eia, ehs, ho hs hHo.2.1]; exact oH, s2b, ⟨?_, ?_, ?_, ?_, ?_, ?_, ?_, ?_⟩, ⟨?_, fun z => ?_⟩, fun j j0 j1 => ?_⟩ ?_
      · rw [rd 2 (by decide) (by decide)]; exact f2
      · rw [rd 3 (by decide) (by decide)]; exact f3
      · rw [rd 4 (by decide) (by decide)]; exact f4
      · rw [rd 5 (by decide) (by decide)]; exact f5
      · rw [rd 6 (by decide) (by decide)]; exact f6
      · rw [rd 7 (by decide) (by decide)]; exact f7
      · rw [rd 8 (by decide) (by decide)]; exact f8
      · rw [rd 9 (by decide) (by decide)]; exact f9
      · rw [rd 11 (by decide) (by decide)]; exact s2w.1
      · rw [rd 10 (by decide) (by decide)]; exact s2w.2 z
      · rw [eia, ehs, nx hs j nh]
        exact (hlt j j0 j1).frame (fun x i hx => nx x i (fun z => by rw [z] at hx; omega))
      · (repeat rw [aup_n (by omega)])
        rw [hf 0, if_pos rfl]
    · exfalso; omega
  | succ r ih =>
    intro k own1 sz1 im1 ct1 h1 h2 hE
    obtain ⟨T, ho, hnew, hsz, hf, hlt, hge⟩ := id hE
    have hF : ∀ t, 10 * y2 ≤ t → t < 10 * y2 + 10 → ¬ tgY y1 t := fun t t0 t1 z => by have z1 := z.1; have z2 := z.2; omega
    have ha9 := tg_ob T hA
    have hb9 := tg_ob T hB
    have cb : ct1 b = ct b := tg_c T hB.2.1 oB (hF _ (by omega) (by omega))
    have e2 : ct1 b 2 = s2 0 := by rw [cb]; exact s2f.1
    have e2a : ct1 a 2 = s1 0 := by rw [hf 2, if_neg (by decide)]; exact s1f.1
    have hsa : (im1 a).2.2 1 = hs := by rw [T.2.1 a hA.2.1]; exact ehs
    have hsb : (im1 b).2.2 1 = (im b).2.2 1 := by rw [T.2.1 b hB.2.1]
    have hAa := tg_ar T hHo
    have hAb := tg_ar T hHb
    have chb : ct1 ((im b).2.2 1) = ct ((im b).2.2 1) := tg_c T hHb.2.1 oHb (hF _ (by omega) (by omega))
    have Yb := YH.tg T (hF _ (by omega) (by omega)) (s2h k (by omega) (by omega))
    obtain ⟨bk, ebk⟩ : ∃ z, ct1 ((im b).2.2 1) k = z := ⟨_, rfl⟩
    rw [← chb, ebk] at Yb
    have H80 : AW (mq Q) md_X5_be d (15 * (r + 1)) (227 * (r + 1)) 80 [some (vR a), some (vR b), some (vI k)] [] (sz1, im1, ct1) := by
      refine aw_aload_n dX5_be_80 rfl ?_
      refine g_X5_20_5 rfl dX5_be_81 ha9 ?_
      first | rw [hsa] | rw [hsb]
      refine aw_iload_n dX5_be_84 rfl ?_
      refine aw_aload_n dX5_be_85 rfl ?_
      refine g_X5_20_5 rfl dX5_be_86 hb9 ?_
      first | rw [hsa] | rw [hsb]
      refine aw_iload_n dX5_be_89 rfl ?_
      refine aw_aaload dX5_be_90 hAb (by decide) (by omega) (by omega) ?_
      rw [ebk]
      refine c_X5_39a (kc1 := 15) (ks1 := 227) (kc2 := 15 * r) (ks2 := 227 * r) (by omega) (by omega) rfl dX5_be_91 Yb.1.1 (Nat.le_of_ble_eq_true rfl) (by omega) (C_x_hcopy Yb.1 Yb.2.1 (fun im2 ct2 hS2 hC2 z0 z3 z4 z5 z6 z7 zx z1 z2 zf => ?_))
      refine aK_i ?_
      have hAa2 : aar (sz1 + s2 (64 + 198 * k) + 3) im2 hs 5 4 := ⟨hAa.1, by have := hAa.2.1; have := Yb.1.2.2.2; omega, by rw [(zx hs hAa.2.1).1]; exact hAa.2.2⟩
      refine aw_aastore (t := 5) dX5_be_94 hAa2 (by decide) (by omega) (by omega) (Or.inl ⟨9, _, hS2.1, rfl, Or.inl rfl⟩) ?_
      refine aw_goto (tgt := 113) dX5_be_95 (by decide) ?_
      refine aw_iinc2r dX5_be_113 (by decide) (by decide) rfl (by omega) ?_
      refine aw_goto (tgt := 10) dX5_be_116 (by decide) ?_
      exact ih (k + 1) _ _ _ _ (by omega) (by omega) (hE.copy h2 (by omega) s1b.2 hA oA hHo oH Yb rfl hS2 hC2 z0 z3 z4 z5 z6 z7 zx z1 z2 zf)
    by_cases hk : k < s1 0
    · have Ya := hge k (by omega) hk
      obtain ⟨ak, eak⟩ : ∃ z, ct1 hs k = z := ⟨_, rfl⟩
      rw [eak] at Ya
      have oka := Ya.2.2.2.2.1
      have okb := Yb.2.2.2.2.1
      refine aw_iload_n dX5_be_10 rfl ?_
      refine aw_aload_n dX5_be_11 rfl ?_
      refine g_X5_28_5 rfl dX5_be_12 hb9 ?_
      rw [e2]
      refine aw_icmpge (tgt := 119) dX5_be_15 (by decide) (fun h15 => ?_) (fun h15 => ?_)
      · exfalso; omega
      · refine aw_iload_n dX5_be_18 rfl ?_
        refine aw_aload_n dX5_be_19 rfl ?_
        refine g_X5_28_5 rfl dX5_be_20 ha9 ?_
        rw [e2a]
        refine aw_icmpge (tgt := 80) dX5_be_23 (by decide) (fun h23 => ?_) (fun h23 => ?_)
        · exfalso; omega
        · refine aw_aload_n dX5_be_26 rfl ?_
          refine g_X5_20_5 rfl dX5_be_27 ha9 ?_
          first | rw [hsa] | rw [hsb]
          refine aw_iload_n dX5_be_30 rfl ?_
          refine aw_aaload dX5_be_31 hAa (by decide) (by omega) (by omega) ?_
          rw [eak]
          refine aw_ifnull (tgt := 80) dX5_be_32 (by decide) (by have := Ya.1.1.1; omega) (fun h32 => ?_) (fun h32 => ?_)
          · have := Ya.1.1.1; exfalso; omega
          · refine aw_aload_n dX5_be_35 rfl ?_
            refine g_X5_20_5 rfl dX5_be_36 ha9 ?_
            first | rw [hsa] | rw [hsb]
            refine aw_iload_n dX5_be_39 rfl ?_
            refine aw_aaload dX5_be_40 hAa (by decide) (by omega) (by omega) ?_
            rw [eak]
            refine g_X5_31_9 rfl dX5_be_41 Ya.1.1 ?_
            first | rw [Ya.2.2.2.1] | rw [Yb.2.2.2.1]
            refine aw_aload_n dX5_be_44 rfl ?_
            refine g_X5_20_5 rfl dX5_be_45 hb9 ?_
            first | rw [hsa] | rw [hsb]
            refine aw_iload_n dX5_be_48 rfl ?_
            refine aw_aaload dX5_be_49 hAb (by decide) (by omega) (by omega) ?_
            rw [ebk]
            refine g_X5_31_9 rfl dX5_be_50 Yb.1.1 ?_
            first | rw [Ya.2.2.2.1] | rw [Yb.2.2.2.1]
            refine aw_lcmpne (tgt := 80) dX5_be_53 dX5_be_54 (by decide) (fun h53 => ?_) (fun h53 => ?_)
            · exact H80
            · refine aw_aload_n dX5_be_57 rfl ?_
              refine g_X5_20_5 rfl dX5_be_58 ha9 ?_
              first | rw [hsa] | rw [hsb]
              refine aw_iload_n dX5_be_61 rfl ?_
              refine aw_aaload dX5_be_62 hAa (by decide) (by omega) (by omega) ?_
              rw [eak]
              refine g_X5_35_9 rfl dX5_be_63 Ya.1.1 ?_
              refine aw_alen dX5_be_66 Ya.1.2.1 ?_
              refine aw_aload_n dX5_be_67 rfl ?_
              refine g_X5_20_5 rfl dX5_be_68 hb9 ?_
              first | rw [hsa] | rw [hsb]
              refine aw_iload_n dX5_be_71 rfl ?_
              refine aw_aaload dX5_be_72 hAb (by decide) (by omega) (by omega) ?_
              rw [ebk]
              refine g_X5_35_9 rfl dX5_be_73 Yb.1.1 ?_
              refine aw_alen dX5_be_76 Yb.1.2.1 ?_
              refine aw_icmpeq (tgt := 98) dX5_be_77 (by decide) (fun h77 => ?_) (fun h77 => ?_)
              · refine aw_aload_n dX5_be_98 rfl ?_
                refine g_X5_20_5 rfl dX5_be_99 ha9 ?_
                first | rw [hsa] | rw [hsb]
                refine aw_iload_n dX5_be_102 rfl ?_
                refine aw_aaload dX5_be_103 hAa (by decide) (by omega) (by omega) ?_
                rw [eak]
                refine aw_aload_n dX5_be_104 rfl ?_
                refine g_X5_20_5 rfl dX5_be_105 hb9 ?_
                first | rw [hsa] | rw [hsb]
                refine aw_iload_n dX5_be_108 rfl ?_
                refine aw_aaload dX5_be_109 hAb (by decide) (by omega) (by omega) ?_
                rw [ebk]
                refine c_X5_43 rfl dX5_be_110 Ya.1.1 (Nat.le_of_ble_eq_true rfl) (by omega) (C_x_hbe (fun z => by rw [z] at oka; omega) Ya.1 Ya.2.1 (by rw [h77]; exact Yb.1) (by rw [h77]; exact Yb.2.1) (fun x hx hy9 => by obtain ⟨f, f0, f1, e⟩ := hx; obtain ⟨g, g0, g1, e9⟩ := hy9; have q1 := Ya.2.2.2.2.2.2.2 f f0 f1; have q2 := Yb.2.2.2.2.2.2.2 g g0 (by omega); rw [← e] at q1; rw [← e9] at q2; omega) (fun ct2 hC2 y3 y4 y5 y6 y7 yj yx yg => ?_))
                refine aK_v ?_
                refine aw_iinc2r dX5_be_113 (by decide) (by decide) rfl (by omega) ?_
                refine aw_goto (tgt := 10) dX5_be_116 (by decide) ?_
                exact AW.widen (by omega) (by omega) (ih (k + 1) own1 sz1 im1 ct2 (by omega) (by omega) (hE.same h2 (by omega) hA oA hHo oH Ya Yb eak h77 (by omega) hC2 y3 y4 y5 y6 y7 yx yg))
              · exact H80
    · refine aw_iload_n dX5_be_10 rfl ?_
      refine aw_aload_n dX5_be_11 rfl ?_
      refine g_X5_28_5 rfl dX5_be_12 hb9 ?_
      rw [e2]
      refine aw_icmpge (tgt := 119) dX5_be_15 (by decide) (fun h15 => ?_) (fun h15 => ?_)
      · exfalso; omega
      · refine aw_iload_n dX5_be_18 rfl ?_
        refine aw_aload_n dX5_be_19 rfl ?_
        refine g_X5_28_5 rfl dX5_be_20 ha9 ?_
        rw [e2a]
        refine aw_icmpge (tgt := 80) dX5_be_23 (by decide) (fun h23 => ?_) (fun h23 => ?_)
        · exact H80
        · exfalso; omega
theorem C_x_ybe {own : Int → Int} {sz : Int} {im : Int → aIm} {ct : Int → Int → Int} {y1 y2 a b dd1 dd2 : Int} {s1 s2 N1 N2 : Int → Int}  {Q : aPost} (H1 : YR own y1 sz im ct a s1 dd1 N1) (H2 : YR own y2 sz im ct b s2 dd2 N2) (hy : y1 ≠ y2) (hQ : ∀ (own1 : Int → Int) (sz1 : Int) (im1 : Int → aIm) (ct1 : Int → Int → Int), TG own own1 sz sz1 im im1 ct ct1 (tgY y1) → (∀ x, x < sz → own1 x = own x) → (∀ x, sz ≤ x → x < sz1 → tgY y1 (own1 x)) → sz1 ≤ sz + 60 → YR own1 y1 sz1 im1 ct1 a s2 dd2 N2 → ct1 a 0 = ct b 0 → Q (.inl none) (sz1, im1, ct1)) : AMet md_X5_be 5 60 908 [vR a, vR b] (sz, im, ct) Q := by
  refine AMet.go (L := [some (vR a), some (vR b), none]) mok_X5_be (Nat.le_of_ble_eq_true rfl) rfl ?_
  refine aw_aload_n dX5_be_0 rfl ?_
  refine aw_aload_n dX5_be_1 rfl ?_
  refine g_X5_12_5 rfl dX5_be_2 H2.1 ?_
  refine p_X5_12_5 rfl dX5_be_5 H1.1 ?_
  refine aw_iconst dX5_be_8 (by decide) ?_
  refine aw_istore2 dX5_be_9 (by decide) rfl ?_
  have oA := H1.2.1
  have hHo := H1.2.2.1
  have oH := H1.2.2.2.1
  have nha : (im a).2.2 1 ≠ a := fun z => aob_ne H1.1 hHo (by decide) z.symm
  have hb4 := H2.2.2.2.2.1
  have ha4 := H1.2.2.2.2.1
  refine AW.widen (kc' := 15 * (s2 0).toNat) (ks' := 227 * (s2 0).toNat) (by omega) (by omega) (L_x_ybe (by omega) H1 H2 hy rfl hQ (s2 0).toNat 0 own sz im _ (by omega) (by omega) ⟨⟨Int.le_refl _, fun _ _ => rfl, fun x _ hF => aup_rn (fun z => hF (by rw [z, oA]; exact ⟨by omega, by omega⟩)), fun _ _ _ => rfl⟩, fun _ _ => rfl, fun x h0 h1 => by omega, by omega, fun j => ?_, fun j j0 j1 => by omega, fun j j0 j1 => ?_⟩)
  · by_cases z : j = 0
    · subst z; rw [aup_s, if_pos rfl]
    · rw [aup_n (fun q => z q.2), if_neg z]
  · rw [aup_rn nha]
    exact (H1.2.2.2.2.2.2.2 j j0 j1).frame (fun x i hx => by rw [aup_rn (fun z => by rw [z] at hx; omega)])
