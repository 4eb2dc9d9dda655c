set_option maxRecDepth 100000
/-! operations, 18: two frames change places -/
theorem cell_h {j k i f : Int} (i0 : 0 ≤ i) (i1 : i < 6) (f0 : 0 ≤ f) (f1 : f < 12) : ¬ (64 + 198 * k + 6 + 16 * f ≤ 64 + 198 * j + i ∧ 64 + 198 * j + i < 64 + 198 * k + 6 + 16 * f + 16) := by
  rcases (by omega : j < k ∨ j = k ∨ k < j) with z | z | z <;> omega
theorem cell_c {j k p f i : Int} (p0 : 0 ≤ p) (p1 : p < 12) (f0 : 0 ≤ f) (f1 : f < 12) (i0 : 0 ≤ i) (i1 : i < 16) (h : ¬ (j = k ∧ p = f)) : ¬ (64 + 198 * k + 6 + 16 * f ≤ 64 + 198 * j + 6 + (16 * p + i) ∧ 64 + 198 * j + 6 + (16 * p + i) < 64 + 198 * k + 6 + 16 * f + 16) := by
  rcases (by omega : j < k ∨ j = k ∨ k < j) with z | z | z
  · omega
  · rcases (by omega : p < f ∨ p = f ∨ f < p) with y | y | y <;> omega
  · omega
theorem YR.swap {own : Int → Int} {sz : Int} {im : Int → aIm} {ct : Int → Int → Int} {s N : Int → Int} {dd k g f e a b : Int} (H : YR own 0 sz im ct 10 s dd N) (h12 : ∀ j, 0 ≤ j → j < s 0 → 1 ≤ s (64 + 198 * j) ∧ s (64 + 198 * j) ≤ 12) (k0 : 0 ≤ k) (k1 : k < s 0) (g0 : 0 ≤ g) (g1 : g < s 0) (f0 : 0 ≤ f ∧ f < s (64 + 198 * k)) (e0 : 0 ≤ e ∧ e < s (64 + 198 * g)) (hne : k ≠ g ∨ f ≠ e) (ea : ct ((im 10).2.2 1) k = a) (eb : ct ((im 10).2.2 1) g = b) :
    ∃ own' : Int → Int, (∀ x, ¬ (0 ≤ own x ∧ own x < 10) → own' x = own x) ∧ (∀ x, 0 ≤ own x ∧ own x < 10 → 0 ≤ own' x ∧ own' x < 10) ∧ (0 ≤ own ((im a).2.2 1) ∧ own ((im a).2.2 1) < 10) ∧ (0 ≤ own ((im b).2.2 1) ∧ own ((im b).2.2 1) < 10) ∧
      YR own' 0 sz im (aup (aup ct ((im a).2.2 1) f (ct ((im b).2.2 1) e)) ((im b).2.2 1) e (ct ((im a).2.2 1) f)) 10 (mvS (64 + 198 * k + 6 + 16 * f) (64 + 198 * g + 6 + 16 * e) 16 s) dd N := by
  obtain ⟨h1, h2, h3, h4, h5, hsc, hw, h6⟩ := H
  have Ya := h6 k k0 k1
  have Yb := h6 g g0 g1
  rw [ea] at Ya
  rw [eb] at Yb
  have n1 := h12 k k0 k1
  have n2 := h12 g g0 g1
  obtain ⟨a1, a2, -, -, a5, a6, a7, a8⟩ := Ya
  obtain ⟨b1, b2, -, -, b5, b6, b7, b8⟩ := Yb
  have U1 := a2.2.1 f f0.1 f0.2
  have V1 := b2.2.1 e e0.1 e0.2
  have oU := a8 f f0.1 f0.2
  have oV := b8 e e0.1 e0.2
  have hUV : ct ((im a).2.2 1) f ≠ ct ((im b).2.2 1) e := by
    intro q
    by_cases c : k = g
    · have c2 : a = b := by rw [← ea, ← eb, c]
      rw [← c2] at q
      have c3 := a2.2.2.1 f e f0.1 f0.2 (by omega) (by rw [c]; omega) q
      omega
    · rw [q] at oU; omega
  have oA : ∀ x j, x ≠ (im a).2.2 1 → x ≠ (im b).2.2 1 → aup (aup ct ((im a).2.2 1) f (ct ((im b).2.2 1) e)) ((im b).2.2 1) e (ct ((im a).2.2 1) f) x j = ct x j := fun x j q1 q2 => by rw [aup_rn q2, aup_rn q1]
  have sN : ∀ i, ¬ (64 + 198 * k + 6 + 16 * f ≤ i ∧ i < 64 + 198 * k + 6 + 16 * f + 16) → ¬ (64 + 198 * g + 6 + 16 * e ≤ i ∧ i < 64 + 198 * g + 6 + 16 * e + 16) → mvS (64 + 198 * k + 6 + 16 * f) (64 + 198 * g + 6 + 16 * e) 16 s i = s i := fun i q1 q2 => by
    unfold mvS
    rw [if_neg q1, if_neg q2]
  have sh6 : ∀ j i, 0 ≤ j → 0 ≤ i → i < 6 → mvS (64 + 198 * k + 6 + 16 * f) (64 + 198 * g + 6 + 16 * e) 16 s (64 + 198 * j + i) = s (64 + 198 * j + i) := fun j i j0 i0 i1 => sN _ (cell_h i0 i1 (by omega) (by omega)) (cell_h i0 i1 (by omega) (by omega))
  have slo : ∀ i, i < 64 → mvS (64 + 198 * k + 6 + 16 * f) (64 + 198 * g + 6 + 16 * e) 16 s i = s i := fun i i0 => sN _ (by omega) (by omega)
  have ownN : ∀ x, x ≠ ct ((im a).2.2 1) f → x ≠ ct ((im b).2.2 1) e → (fun x => if x = ct ((im a).2.2 1) f then g else if x = ct ((im b).2.2 1) e then k else own x) x = own x := fun x q1 q2 => by
    dsimp only
    rw [if_neg q1, if_neg q2]
  have ownT : ∀ x t m, t ≠ 1 → aar sz im x t m → (fun x => if x = ct ((im a).2.2 1) f then g else if x = ct ((im b).2.2 1) e then k else own x) x = own x := fun x t m ht hx => ownN x (aar_ne hx U1 ht) (aar_ne hx V1 ht)
  have ownO : ∀ x c, c < 50 → aob sz im x c → (fun x => if x = ct ((im a).2.2 1) f then g else if x = ct ((im b).2.2 1) e then k else own x) x = own x := fun x c hc hx => ownN x (aob_ne hx U1 hc) (aob_ne hx V1 hc)
  have q10a : (10 : Int) ≠ (im a).2.2 1 := aob_ne h1 a1.2.1 (by decide)
  have q10b : (10 : Int) ≠ (im b).2.2 1 := aob_ne h1 b1.2.1 (by decide)
  refine ⟨fun x => if x = ct ((im a).2.2 1) f then g else if x = ct ((im b).2.2 1) e then k else own x, fun x hx => ?_, fun x hx => ?_, by omega, by omega, h1, by rw [ownO 10 5 (by decide) h1]; exact h2, h3, by rw [ownT _ 5 4 (by decide) h3]; exact h4, by rw [slo 0 (by omega)]; exact h5, ?_, ?_, fun j j0 j1 => ?_⟩
  · exact ownN x (fun q => hx (by rw [q]; omega)) (fun q => hx (by rw [q]; omega))
  · dsimp only
    split
    · omega
    · split <;> omega
  · rw [oA 10 2 q10a q10b, oA 10 3 q10a q10b, oA 10 4 q10a q10b, oA 10 5 q10a q10b, oA 10 6 q10a q10b, oA 10 7 q10a q10b, oA 10 8 q10a q10b, oA 10 9 q10a q10b, slo 0 (by omega), slo 5 (by omega), slo 6 (by omega), slo 7 (by omega), slo 8 (by omega), slo 9 (by omega), slo 4 (by omega)]
    exact hsc
  · rw [oA 10 11 q10a q10b, oA 10 10 q10a q10b, slo 12 (by omega), slo 11 (by omega)]
    exact hw
  · rw [slo 0 (by omega)] at j1
    rw [oA _ j (aar_ne h3 a1.2.1 (by decide)) (aar_ne h3 b1.2.1 (by decide))]
    obtain ⟨y1, y2, y3, y4, y5, y6, y7, y8⟩ := h6 j j0 j1
    have nj := h12 j j0 j1
    have e00 := sh6 j 0 j0 (by omega) (by omega)
    rw [Int.add_zero] at e00
    have pA : (im (ct ((im 10).2.2 1) j)).2.2 1 = (im a).2.2 1 ↔ j = k := ⟨fun q => by rw [q] at y6; omega, fun q => by rw [q, ea]⟩
    have pB : (im (ct ((im 10).2.2 1) j)).2.2 1 = (im b).2.2 1 ↔ j = g := ⟨fun q => by rw [q] at y6; omega, fun q => by rw [q, eb]⟩
    have F2 : ∀ i, aup (aup ct ((im a).2.2 1) f (ct ((im b).2.2 1) e)) ((im b).2.2 1) e (ct ((im a).2.2 1) f) ((im (ct ((im 10).2.2 1) j)).2.2 1) i = if j = k ∧ i = f then ct ((im b).2.2 1) e else if j = g ∧ i = e then ct ((im a).2.2 1) f else ct ((im (ct ((im 10).2.2 1) j)).2.2 1) i := fun i => by
      unfold aup
      simp only [pA, pB]
      by_cases c1 : j = k ∧ i = f
      · rw [if_neg (by omega), if_pos c1, if_pos c1]
      · by_cases c2 : j = g ∧ i = e
        · rw [if_pos c2, if_neg c1, if_pos c2]
        · rw [if_neg c2, if_neg c1, if_neg c1, if_neg c2]
    have oo : ct ((im 10).2.2 1) j ≠ (im a).2.2 1 ∧ ct ((im 10).2.2 1) j ≠ (im b).2.2 1 := ⟨aob_ne y1.1 a1.2.1 (by decide), aob_ne y1.1 b1.2.1 (by decide)⟩
    have ord := fun i => oA ((im (ct ((im 10).2.2 1) j)).2.2 2) i (aar_ne y1.2.2.1 a1.2.1 (by decide)) (aar_ne y1.2.2.1 b1.2.1 (by decide))
    refine ⟨by rw [e00]; exact y1, ⟨fun i i0 i1 => ?_, fun i i0 i1 => ?_, fun i i' i0 i1 i2 i3 q => ?_, fun p i p0 p1 i0 i1 => ?_⟩, ⟨?_, ?_, ?_, ?_, ?_⟩, y4, by rw [ownO _ 9 (by decide) y1.1]; exact y5, by rw [ownT _ 7 _ (by decide) y1.2.1]; exact y6, by rw [ownT _ 2 _ (by decide) y1.2.2.1]; exact y7, fun i i0 i1 => ?_⟩
    · rw [e00] at i1 ⊢
      rw [ord]
      exact y2.1 i i0 i1
    · rw [e00] at i1
      rw [F2]
      split
      · exact V1
      · split
        · exact U1
        · exact y2.2.1 i i0 i1
    · rw [e00] at i1 i3
      rw [F2, F2] at q
      have own1 := y8 i i0 i1
      have own2 := y8 i' i2 i3
      have ds := y2.2.2.1
      have dV : ∀ m, 0 ≤ m → m < s (64 + 198 * j) → ct ((im (ct ((im 10).2.2 1) j)).2.2 1) m = ct ((im b).2.2 1) e → j = g ∧ m = e := fun m m0 m1 z => by
        have o9 := y8 m m0 m1
        rw [z] at o9
        have z2 : j = g := by omega
        subst z2
        rw [eb] at z
        exact ⟨rfl, b2.2.2.1 m e m0 m1 e0.1 e0.2 z⟩
      have dU : ∀ m, 0 ≤ m → m < s (64 + 198 * j) → ct ((im (ct ((im 10).2.2 1) j)).2.2 1) m = ct ((im a).2.2 1) f → j = k ∧ m = f := fun m m0 m1 z => by
        have o9 := y8 m m0 m1
        rw [z] at o9
        have z2 : j = k := by omega
        subst z2
        rw [ea] at z
        exact ⟨rfl, a2.2.2.1 m f m0 m1 f0.1 f0.2 z⟩
      by_cases c1 : j = k ∧ i = f
      · rw [if_pos c1] at q
        by_cases d1 : j = k ∧ i' = f
        · omega
        · rw [if_neg d1] at q
          by_cases d2 : j = g ∧ i' = e
          · rw [if_pos d2] at q; exact absurd q.symm hUV
          · rw [if_neg d2] at q; exact absurd (dV i' i2 i3 q.symm) d2
      · rw [if_neg c1] at q
        by_cases c2 : j = g ∧ i = e
        · rw [if_pos c2] at q
          by_cases d1 : j = k ∧ i' = f
          · rw [if_pos d1] at q; exact absurd q hUV
          · rw [if_neg d1] at q
            by_cases d2 : j = g ∧ i' = e
            · omega
            · rw [if_neg d2] at q; exact absurd (dU i' i2 i3 q.symm) d1
        · rw [if_neg c2] at q
          by_cases d1 : j = k ∧ i' = f
          · rw [if_pos d1] at q; exact absurd (dV i i0 i1 q) c2
          · rw [if_neg d1] at q
            by_cases d2 : j = g ∧ i' = e
            · rw [if_pos d2] at q; exact absurd (dU i i0 i1 q) c1
            · rw [if_neg d2] at q; exact ds i i' i0 i1 i2 i3 q
    · rw [e00] at p1
      rw [F2]
      have fr : ∀ x, aar sz im x 1 16 → aup (aup ct ((im a).2.2 1) f (ct ((im b).2.2 1) e)) ((im b).2.2 1) e (ct ((im a).2.2 1) f) x i = ct x i := fun x hx => oA x i (aar_ne hx a1.2.1 (by decide)) (aar_ne hx b1.2.1 (by decide))
      show _ = mvS (64 + 198 * k + 6 + 16 * f) (64 + 198 * g + 6 + 16 * e) 16 s (64 + 198 * j + 6 + (16 * p + i))
      unfold mvS
      by_cases c1 : j = k ∧ p = f
      · obtain ⟨c1, c2⟩ := c1
        subst c1 c2
        rw [if_pos ⟨rfl, rfl⟩, if_pos (by omega), fr _ V1, b2.2.2.2 e i e0.1 e0.2 i0 i1]
        show s (64 + 198 * g + 6 + (16 * e + i)) = _
        rw [show 64 + 198 * g + 6 + 16 * e + (64 + 198 * j + 6 + (16 * p + i) - (64 + 198 * j + 6 + 16 * p)) = 64 + 198 * g + 6 + (16 * e + i) by omega]
      · have m1 := cell_c (j := j) (k := k) (p := p) (f := f) (i := i) p0 (by omega) (by omega) (by omega) i0 i1 c1
        rw [if_neg c1, if_neg m1]
        by_cases c2 : j = g ∧ p = e
        · rw [if_pos c2, if_pos (by omega), fr _ U1, a2.2.2.2 f i f0.1 f0.2 i0 i1]
          show s (64 + 198 * k + 6 + (16 * f + i)) = _
          rw [show 64 + 198 * k + 6 + 16 * f + (64 + 198 * j + 6 + (16 * p + i) - (64 + 198 * g + 6 + 16 * e)) = 64 + 198 * k + 6 + (16 * f + i) by omega]
        · have m2 := cell_c (j := j) (k := g) (p := p) (f := e) (i := i) p0 (by omega) (by omega) (by omega) i0 i1 c2
          rw [if_neg c2, if_neg m2, fr _ (y2.2.1 p p0 p1)]
          exact y2.2.2.2 p i p0 p1 i0 i1
    · rw [oA _ _ oo.1 oo.2, sh6 j 1 j0 (by omega) (by omega)]; exact y3.1
    · rw [oA _ _ oo.1 oo.2, sh6 j 2 j0 (by omega) (by omega)]; exact y3.2.1
    · rw [oA _ _ oo.1 oo.2, sh6 j 3 j0 (by omega) (by omega)]; exact y3.2.2.1
    · rw [oA _ _ oo.1 oo.2, sh6 j 4 j0 (by omega) (by omega)]; exact y3.2.2.2.1
    · rw [oA _ _ oo.1 oo.2, sh6 j 5 j0 (by omega) (by omega)]; exact y3.2.2.2.2
    · rw [e00] at i1
      rw [F2]
      by_cases c1 : j = k ∧ i = f
      · rw [if_pos c1]
        show (if ct ((im b).2.2 1) e = ct ((im a).2.2 1) f then g else if ct ((im b).2.2 1) e = ct ((im b).2.2 1) e then k else own _) = _
        rw [if_neg (fun z => hUV z.symm), if_pos rfl]; omega
      · rw [if_neg c1]
        by_cases c2 : j = g ∧ i = e
        · rw [if_pos c2]
          show (if ct ((im a).2.2 1) f = ct ((im a).2.2 1) f then g else _) = _
          rw [if_pos rfl]; omega
        · rw [if_neg c2, ownN]
          · exact y8 i i0 i1
          · intro z
            have o9 := y8 i i0 i1
            rw [z] at o9
            have z2 : j = k := by omega
            subst z2
            rw [ea] at z
            exact c1 ⟨rfl, a2.2.2.1 i f i0 i1 f0.1 f0.2 z⟩
          · intro z
            have o9 := y8 i i0 i1
            rw [z] at o9
            have z2 : j = g := by omega
            subst z2
            rw [eb] at z
            exact c2 ⟨rfl, b2.2.2.1 i e i0 i1 e0.1 e0.2 z⟩
