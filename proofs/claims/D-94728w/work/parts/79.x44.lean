set_option maxRecDepth 100000
/-! seasons: what an act does, plain -/
theorem YR.swapG {own : Int → Int} {sz : Int} {im : Int → aIm} {ct : Int → Int → Int} {s N : Int → Int} {dd y ya k g f e a b : Int} (H : YR own y sz im ct ya s dd N) (h12 : ∀ j, 0 ≤ j → j < s 0 → 1 ≤ s (64 + 198 * j) ∧ s (64 + 198 * j) ≤ 12) (k0 : 0 ≤ k) (k1 : k < s 0) (g0 : 0 ≤ g) (g1 : g < s 0) (f0 : 0 ≤ f ∧ f < s (64 + 198 * k)) (e0 : 0 ≤ e ∧ e < s (64 + 198 * g)) (hne : k ≠ g ∨ f ≠ e) (ea : ct ((im ya).2.2 1) k = a) (eb : ct ((im ya).2.2 1) g = b) :
    ∃ own' : Int → Int, (∀ x, ¬ (10 * y ≤ own x ∧ own x < 10 * y + 10) → own' x = own x) ∧ (∀ x, 10 * y ≤ own x ∧ own x < 10 * y + 10 → 10 * y ≤ own' x ∧ own' x < 10 * y + 10) ∧ (10 * y ≤ own ((im a).2.2 1) ∧ own ((im a).2.2 1) < 10 * y + 10) ∧ (10 * y ≤ own ((im b).2.2 1) ∧ own ((im b).2.2 1) < 10 * y + 10) ∧
      YR own' y sz im (aup (aup ct ((im a).2.2 1) f (ct ((im b).2.2 1) e)) ((im b).2.2 1) e (ct ((im a).2.2 1) f)) ya (mvS (64 + 198 * k + 6 + 16 * f) (64 + 198 * g + 6 + 16 * e) 16 s) dd N := by
  obtain ⟨h1, h2, h3, h4, h5, hsc, hw, h6⟩ := H
  have Ya := h6 k k0 k1
  have Yb := h6 g g0 g1
  rw [ea] at Ya
  rw [eb] at Yb
  have n1 := h12 k k0 k1
  have n2 := h12 g g0 g1
  obtain ⟨a1, a2, -, -, a5, a6, a7, a8⟩ := Ya
  obtain ⟨b1, b2, -, -, b5, b6, b7, b8⟩ := Yb
  have U1 := a2.2.1 f f0.1 f0.2
  have V1 := b2.2.1 e e0.1 e0.2
  have oU := a8 f f0.1 f0.2
  have oV := b8 e e0.1 e0.2
  have hUV : ct ((im a).2.2 1) f ≠ ct ((im b).2.2 1) e := by
    intro q
    by_cases c : k = g
    · have c2 : a = b := by rw [← ea, ← eb, c]
      rw [← c2] at q
      have c3 := a2.2.2.1 f e f0.1 f0.2 (by omega) (by rw [c]; omega) q
      omega
    · rw [q] at oU; omega
  have oA : ∀ x j, x ≠ (im a).2.2 1 → x ≠ (im b).2.2 1 → aup (aup ct ((im a).2.2 1) f (ct ((im b).2.2 1) e)) ((im b).2.2 1) e (ct ((im a).2.2 1) f) x j = ct x j := fun x j q1 q2 => by rw [aup_rn q2, aup_rn q1]
  have sN : ∀ i, ¬ (64 + 198 * k + 6 + 16 * f ≤ i ∧ i < 64 + 198 * k + 6 + 16 * f + 16) → ¬ (64 + 198 * g + 6 + 16 * e ≤ i ∧ i < 64 + 198 * g + 6 + 16 * e + 16) → mvS (64 + 198 * k + 6 + 16 * f) (64 + 198 * g + 6 + 16 * e) 16 s i = s i := fun i q1 q2 => by
    unfold mvS
    rw [if_neg q1, if_neg q2]
  have sh6 : ∀ j i, 0 ≤ j → 0 ≤ i → i < 6 → mvS (64 + 198 * k + 6 + 16 * f) (64 + 198 * g + 6 + 16 * e) 16 s (64 + 198 * j + i) = s (64 + 198 * j + i) := fun j i j0 i0 i1 => sN _ (cell_h i0 i1 (by omega) (by omega)) (cell_h i0 i1 (by omega) (by omega))
  have slo : ∀ i, i < 64 → mvS (64 + 198 * k + 6 + 16 * f) (64 + 198 * g + 6 + 16 * e) 16 s i = s i := fun i i0 => sN _ (by omega) (by omega)
  have ownN : ∀ x, x ≠ ct ((im a).2.2 1) f → x ≠ ct ((im b).2.2 1) e → (fun x => if x = ct ((im a).2.2 1) f then 10 * y + g else if x = ct ((im b).2.2 1) e then 10 * y + k else own x) x = own x := fun x q1 q2 => by
    dsimp only
    rw [if_neg q1, if_neg q2]
  have ownT : ∀ x t m, t ≠ 1 → aar sz im x t m → (fun x => if x = ct ((im a).2.2 1) f then 10 * y + g else if x = ct ((im b).2.2 1) e then 10 * y + k else own x) x = own x := fun x t m ht hx => ownN x (aar_ne hx U1 ht) (aar_ne hx V1 ht)
  have ownO : ∀ x c, c < 50 → aob sz im x c → (fun x => if x = ct ((im a).2.2 1) f then 10 * y + g else if x = ct ((im b).2.2 1) e then 10 * y + k else own x) x = own x := fun x c hc hx => ownN x (aob_ne hx U1 hc) (aob_ne hx V1 hc)
  have q10a : ya ≠ (im a).2.2 1 := aob_ne h1 a1.2.1 (by decide)
  have q10b : ya ≠ (im b).2.2 1 := aob_ne h1 b1.2.1 (by decide)
  refine ⟨fun x => if x = ct ((im a).2.2 1) f then 10 * y + g else if x = ct ((im b).2.2 1) e then 10 * y + k else own x, fun x hx => ?_, fun x hx => ?_, by omega, by omega, h1, by rw [ownO ya 5 (by decide) h1]; exact h2, h3, by rw [ownT _ 5 4 (by decide) h3]; exact h4, by rw [slo 0 (by omega)]; exact h5, ?_, ?_, fun j j0 j1 => ?_⟩
  · exact ownN x (fun q => hx (by rw [q]; omega)) (fun q => hx (by rw [q]; omega))
  · dsimp only
    split
    · omega
    · split <;> omega
  · rw [oA ya 2 q10a q10b, oA ya 3 q10a q10b, oA ya 4 q10a q10b, oA ya 5 q10a q10b, oA ya 6 q10a q10b, oA ya 7 q10a q10b, oA ya 8 q10a q10b, oA ya 9 q10a q10b, slo 0 (by omega), slo 5 (by omega), slo 6 (by omega), slo 7 (by omega), slo 8 (by omega), slo 9 (by omega), slo 4 (by omega)]
    exact hsc
  · rw [oA ya 11 q10a q10b, oA ya 10 q10a q10b, slo 12 (by omega), slo 11 (by omega)]
    exact hw
  · rw [slo 0 (by omega)] at j1
    rw [oA _ j (aar_ne h3 a1.2.1 (by decide)) (aar_ne h3 b1.2.1 (by decide))]
    obtain ⟨y1, y2, y3, y4, y5, y6, y7, y8⟩ := h6 j j0 j1
    have nj := h12 j j0 j1
    have e00 := sh6 j 0 j0 (by omega) (by omega)
    rw [Int.add_zero] at e00
    have pA : (im (ct ((im ya).2.2 1) j)).2.2 1 = (im a).2.2 1 ↔ j = k := ⟨fun q => by rw [q] at y6; omega, fun q => by rw [q, ea]⟩
    have pB : (im (ct ((im ya).2.2 1) j)).2.2 1 = (im b).2.2 1 ↔ j = g := ⟨fun q => by rw [q] at y6; omega, fun q => by rw [q, eb]⟩
    have F2 : ∀ i, aup (aup ct ((im a).2.2 1) f (ct ((im b).2.2 1) e)) ((im b).2.2 1) e (ct ((im a).2.2 1) f) ((im (ct ((im ya).2.2 1) j)).2.2 1) i = if j = k ∧ i = f then ct ((im b).2.2 1) e else if j = g ∧ i = e then ct ((im a).2.2 1) f else ct ((im (ct ((im ya).2.2 1) j)).2.2 1) i := fun i => by
      unfold aup
      simp only [pA, pB]
      by_cases c1 : j = k ∧ i = f
      · rw [if_neg (by omega), if_pos c1, if_pos c1]
      · by_cases c2 : j = g ∧ i = e
        · rw [if_pos c2, if_neg c1, if_pos c2]
        · rw [if_neg c2, if_neg c1, if_neg c1, if_neg c2]
    have oo : ct ((im ya).2.2 1) j ≠ (im a).2.2 1 ∧ ct ((im ya).2.2 1) j ≠ (im b).2.2 1 := ⟨aob_ne y1.1 a1.2.1 (by decide), aob_ne y1.1 b1.2.1 (by decide)⟩
    have ord := fun i => oA ((im (ct ((im ya).2.2 1) j)).2.2 2) i (aar_ne y1.2.2.1 a1.2.1 (by decide)) (aar_ne y1.2.2.1 b1.2.1 (by decide))
    refine ⟨by rw [e00]; exact y1, ⟨fun i i0 i1 => ?_, fun i i0 i1 => ?_, fun i i' i0 i1 i2 i3 q => ?_, fun p i p0 p1 i0 i1 => ?_⟩, ⟨?_, ?_, ?_, ?_, ?_⟩, y4, by rw [ownO _ 9 (by decide) y1.1]; exact y5, by rw [ownT _ 7 _ (by decide) y1.2.1]; exact y6, by rw [ownT _ 2 _ (by decide) y1.2.2.1]; exact y7, fun i i0 i1 => ?_⟩
    · rw [e00] at i1 ⊢
      rw [ord]
      exact y2.1 i i0 i1
    · rw [e00] at i1
      rw [F2]
      split
      · exact V1
      · split
        · exact U1
        · exact y2.2.1 i i0 i1
    · rw [e00] at i1 i3
      rw [F2, F2] at q
      have own1 := y8 i i0 i1
      have own2 := y8 i' i2 i3
      have ds := y2.2.2.1
      have dV : ∀ m, 0 ≤ m → m < s (64 + 198 * j) → ct ((im (ct ((im ya).2.2 1) j)).2.2 1) m = ct ((im b).2.2 1) e → j = g ∧ m = e := fun m m0 m1 z => by
        have o9 := y8 m m0 m1
        rw [z] at o9
        have z2 : j = g := by omega
        subst z2
        rw [eb] at z
        exact ⟨rfl, b2.2.2.1 m e m0 m1 e0.1 e0.2 z⟩
      have dU : ∀ m, 0 ≤ m → m < s (64 + 198 * j) → ct ((im (ct ((im ya).2.2 1) j)).2.2 1) m = ct ((im a).2.2 1) f → j = k ∧ m = f := fun m m0 m1 z => by
        have o9 := y8 m m0 m1
        rw [z] at o9
        have z2 : j = k := by omega
        subst z2
        rw [ea] at z
        exact ⟨rfl, a2.2.2.1 m f m0 m1 f0.1 f0.2 z⟩
      by_cases c1 : j = k ∧ i = f
      · rw [if_pos c1] at q
        by_cases d1 : j = k ∧ i' = f
        · omega
        · rw [if_neg d1] at q
          by_cases d2 : j = g ∧ i' = e
          · rw [if_pos d2] at q; exact absurd q.symm hUV
          · rw [if_neg d2] at q; exact absurd (dV i' i2 i3 q.symm) d2
      · rw [if_neg c1] at q
        by_cases c2 : j = g ∧ i = e
        · rw [if_pos c2] at q
          by_cases d1 : j = k ∧ i' = f
          · rw [if_pos d1] at q; exact absurd q hUV
          · rw [if_neg d1] at q
            by_cases d2 : j = g ∧ i' = e
            · omega
            · rw [if_neg d2] at q; exact absurd (dU i' i2 i3 q.symm) d1
        · rw [if_neg c2] at q
          by_cases d1 : j = k ∧ i' = f
          · rw [if_pos d1] at q; exact absurd (dV i i0 i1 q) c2
          · rw [if_neg d1] at q
            by_cases d2 : j = g ∧ i' = e
            · rw [if_pos d2] at q; exact absurd (dU i i0 i1 q) c1
            · rw [if_neg d2] at q; exact ds i i' i0 i1 i2 i3 q
    · rw [e00] at p1
      rw [F2]
      have fr : ∀ x, aar sz im x 1 16 → aup (aup ct ((im a).2.2 1) f (ct ((im b).2.2 1) e)) ((im b).2.2 1) e (ct ((im a).2.2 1) f) x i = ct x i := fun x hx => oA x i (aar_ne hx a1.2.1 (by decide)) (aar_ne hx b1.2.1 (by decide))
      show _ = mvS (64 + 198 * k + 6 + 16 * f) (64 + 198 * g + 6 + 16 * e) 16 s (64 + 198 * j + 6 + (16 * p + i))
      unfold mvS
      by_cases c1 : j = k ∧ p = f
      · obtain ⟨c1, c2⟩ := c1
        subst c1 c2
        rw [if_pos ⟨rfl, rfl⟩, if_pos (by omega), fr _ V1, b2.2.2.2 e i e0.1 e0.2 i0 i1]
        show s (64 + 198 * g + 6 + (16 * e + i)) = _
        rw [show 64 + 198 * g + 6 + 16 * e + (64 + 198 * j + 6 + (16 * p + i) - (64 + 198 * j + 6 + 16 * p)) = 64 + 198 * g + 6 + (16 * e + i) by omega]
      · have m1 := cell_c (j := j) (k := k) (p := p) (f := f) (i := i) p0 (by omega) (by omega) (by omega) i0 i1 c1
        rw [if_neg c1, if_neg m1]
        by_cases c2 : j = g ∧ p = e
        · rw [if_pos c2, if_pos (by omega), fr _ U1, a2.2.2.2 f i f0.1 f0.2 i0 i1]
          show s (64 + 198 * k + 6 + (16 * f + i)) = _
          rw [show 64 + 198 * k + 6 + 16 * f + (64 + 198 * j + 6 + (16 * p + i) - (64 + 198 * g + 6 + 16 * e)) = 64 + 198 * k + 6 + (16 * f + i) by omega]
        · have m2 := cell_c (j := j) (k := g) (p := p) (f := e) (i := i) p0 (by omega) (by omega) (by omega) i0 i1 c2
          rw [if_neg c2, if_neg m2, fr _ (y2.2.1 p p0 p1)]
          exact y2.2.2.2 p i p0 p1 i0 i1
    · rw [oA _ _ oo.1 oo.2, sh6 j 1 j0 (by omega) (by omega)]; exact y3.1
    · rw [oA _ _ oo.1 oo.2, sh6 j 2 j0 (by omega) (by omega)]; exact y3.2.1
    · rw [oA _ _ oo.1 oo.2, sh6 j 3 j0 (by omega) (by omega)]; exact y3.2.2.1
    · rw [oA _ _ oo.1 oo.2, sh6 j 4 j0 (by omega) (by omega)]; exact y3.2.2.2.1
    · rw [oA _ _ oo.1 oo.2, sh6 j 5 j0 (by omega) (by omega)]; exact y3.2.2.2.2
    · rw [e00] at i1
      rw [F2]
      by_cases c1 : j = k ∧ i = f
      · rw [if_pos c1]
        show (if ct ((im b).2.2 1) e = ct ((im a).2.2 1) f then 10 * y + g else if ct ((im b).2.2 1) e = ct ((im b).2.2 1) e then 10 * y + k else own _) = _
        rw [if_neg (fun z => hUV z.symm), if_pos rfl]; omega
      · rw [if_neg c1]
        by_cases c2 : j = g ∧ i = e
        · rw [if_pos c2]
          show (if ct ((im a).2.2 1) f = ct ((im a).2.2 1) f then 10 * y + g else _) = _
          rw [if_pos rfl]; omega
        · rw [if_neg c2, ownN]
          · exact y8 i i0 i1
          · intro z
            have o9 := y8 i i0 i1
            rw [z] at o9
            have z2 : j = k := by omega
            subst z2
            rw [ea] at z
            exact c1 ⟨rfl, a2.2.2.1 i f i0 i1 f0.1 f0.2 z⟩
          · intro z
            have o9 := y8 i i0 i1
            rw [z] at o9
            have z2 : j = g := by omega
            subst z2
            rw [eb] at z
            exact c2 ⟨rfl, b2.2.2.1 i e i0 i1 e0.1 e0.2 z⟩
theorem PI.seat {s : Int → Int} {q k : Int} (h : PI s) (k0 : 0 ≤ k) (k1 : k < s 0) (q0 : 0 ≤ q) (q1 : q < s 1) : PI (upA s (64 + 198 * k + 3) q) := by
  have pk := h.2.2.1 k k0 k1
  have hs := h.2.2.2.2.2
  obtain ⟨p1, p2, p3, p4, p5, p6, p7⟩ := pk
  refine h.one k0 k1 (fun i i1 i2 i3 => upA_n (by omega)) ?_ ?_ ?_ ?_ ?_ ?_ ?_ ?_
  all_goals (repeat (first | rw [upA_s] | rw [upA_n (by omega)]))
  all_goals omega
def sK (s s' : Int → Int) : Prop := (∀ i, i = 0 ∨ i = 1 ∨ i = 2 ∨ i = 10 ∨ (13 ≤ i ∧ i < 64 ∨ i < 0) ∨ 860 ≤ i → s' i = s i) ∧ ∀ k, 0 ≤ k → k < s 0 → s' (64 + 198 * k) = s (64 + 198 * k)
theorem sK.rf {s : Int → Int} : sK s s := ⟨fun _ _ => rfl, fun _ _ _ => rfl⟩
theorem sK.trans {a b c : Int → Int} (h : sK a b) (k : sK b c) : sK a c := ⟨fun i hi => (k.1 i hi).trans (h.1 i hi), fun j j0 j1 => (k.2 j j0 (by rw [h.1 0 (Or.inl rfl)]; exact j1)).trans (h.2 j j0 j1)⟩
theorem sK.br {s : Int → Int} {k t : Int} (h : PI s) (k0 : 0 ≤ k) (k1 : k < s 0) : sK s (brK s k t) := by
  have hn := (h.2.2.1 k k0 k1).1
  have h0 := h.1
  refine ⟨fun i hi => brK_o k0 hn (by omega), fun j j0 j1 => ?_⟩
  rcases (by omega : j < k ∨ j = k ∨ k < j) with z | z | z
  · exact brK_o k0 hn (by omega)
  · exact brK_o k0 hn (by omega)
  · exact brK_o k0 hn (by omega)
theorem sK.ha {s : Int → Int} {k f : Int} (h : PI s) (k0 : 0 ≤ k) (k1 : k < s 0) (f0 : 0 ≤ f) (f1 : f < s (64 + 198 * k)) : sK s (haK s k f) := by
  have hn := (h.2.2.1 k k0 k1).1
  have h0 := h.1
  refine ⟨fun i hi => haK_o k0 f0 f1 hn.2 (by omega), fun j j0 j1 => ?_⟩
  rcases (by omega : j < k ∨ j = k ∨ k < j) with z | z | z
  · exact haK_o k0 f0 f1 hn.2 (by omega)
  · exact haK_o k0 f0 f1 hn.2 (by omega)
  · exact haK_o k0 f0 f1 hn.2 (by omega)
theorem sK.pa {s : Int → Int} {d : Nat} (h : PI s) (hd : s 3 + d ≤ 9999) : sK s (paD d s) := by
  refine ⟨fun i hi => ?_, (paD_hi h hd).2⟩
  rcases (by omega : i < 64 ∨ 860 ≤ i) with z | z
  · exact paD_0 h hd i z (by omega) (by omega) (by omega) (by omega)
  · exact (paD_hi h hd).1 i z
theorem sK.mv {s : Int → Int} {k g f e : Int} (h : PI s) (k0 : 0 ≤ k) (k1 : k < s 0) (g0 : 0 ≤ g) (g1 : g < s 0) (f0 : 0 ≤ f ∧ f < s (64 + 198 * k)) (e0 : 0 ≤ e ∧ e < s (64 + 198 * g)) : sK s (mvS (64 + 198 * k + 6 + 16 * f) (64 + 198 * g + 6 + 16 * e) 16 s) := by
  have h0 := h.1
  have n1 := (h.2.2.1 k k0 k1).1
  have n2 := (h.2.2.1 g g0 g1).1
  refine ⟨fun i hi => mvS_lo k0 (by omega) g0 (by omega) (by omega) (by omega) (by omega), fun j j0 j1 => ?_⟩
  have q := mvS_hd (s := s) (k := k) (g := g) (f := f) (e := e) (j := j) (i := 0) (by omega) (by omega) (by omega) (by omega)
  rw [Int.add_zero] at q
  exact q
theorem sK.se {s : Int → Int} {q k : Int} (h : PI s) (k0 : 0 ≤ k) (k1 : k < s 0) : sK s (upA s (64 + 198 * k + 3) q) := by
  have h0 := h.1
  exact ⟨fun i hi => upA_n (by omega), fun j j0 j1 => upA_n (by omega)⟩
def drw (x : Int) : Int := (x * 2789 + 9973) % 65536
theorem drw_bd {x : Int} : 0 ≤ drw x ∧ drw x < 65536 := by unfold drw; omega
def bloN (a : Int) (p : (Int → Int) × Int × Int) (k : Nat) : Int := drw p.2.1 / 8 % a * (p.1 (64 + 198 * (k : Int) + 1) / 20)
def bloF (a : Int) (q : (Int → Int) × Int × Int) : Nat → (Int → Int) × Int × Int
  | 0 => q
  | k + 1 => (brK (bloF a q k).1 k (bloN a (bloF a q k) k), drw (bloF a q k).2.1, w32 ((bloF a q k).2.2 + bloN a (bloF a q k) k))
theorem PI.bee {s : Int → Int} {k : Int} (h : PI s) (k0 : 0 ≤ k) (k1 : k < s 0) : 0 ≤ s (64 + 198 * k + 1) ∧ s (64 + 198 * k + 1) ≤ 7719228 := by
  have h1 := sumB_ge h k0 k1
  have h2 := h.2.2.2.2.1.1
  have h3 := h.2.1
  have h4 := (h.2.2.1 k k0 k1).2.2.1
  omega
theorem bloN_bd {a : Int} {p : (Int → Int) × Int × Int} {k : Nat} (h : PI p.1) (k1 : (k : Int) < p.1 0) (a0 : 1 ≤ a ∧ a ≤ 16) : (0 ≤ drw p.2.1 / 8 % a ∧ drw p.2.1 / 8 % a ≤ 15) ∧ 0 ≤ bloN a p k ∧ bloN a p k ≤ 5789430 := by
  have b := h.bee (k := k) (by omega) k1
  have m0 := Int.emod_nonneg (drw p.2.1 / 8) (show a ≠ 0 by omega)
  have m1 := Int.emod_lt_of_pos (drw p.2.1 / 8) (show 0 < a by omega)
  obtain ⟨m, em⟩ : ∃ m, drw p.2.1 / 8 % a = m := ⟨_, rfl⟩
  obtain ⟨v, ev⟩ : ∃ v, p.1 (64 + 198 * (k : Int) + 1) / 20 = v := ⟨_, rfl⟩
  rw [em] at m0 m1
  have v0 : 0 ≤ v ∧ v ≤ 385962 := by omega
  unfold bloN
  rw [em, ev]
  have w := Int.mul_le_mul (show m ≤ 15 by omega) v0.2 v0.1 (show (0 : Int) ≤ 15 by decide)
  exact ⟨by omega, Int.mul_nonneg m0 v0.1, by omega⟩
theorem w32_bd {x : Int} : -2147483648 ≤ w32 x ∧ w32 x < 2147483648 := by
  unfold w32
  have h1 := @Int.le_bmod x 4294967296 (by decide)
  have h2 := @Int.bmod_lt x 4294967296 (by decide)
  omega
theorem bloF_ok {a : Int} {q : (Int → Int) × Int × Int} (h : PI q.1) (hs : 0 ≤ q.2.1 ∧ q.2.1 < 65536) (hb : -2147483648 ≤ q.2.2 ∧ q.2.2 < 2147483648) (a0 : 1 ≤ a ∧ a ≤ 16) : ∀ {k : Nat}, (k : Int) ≤ q.1 0 → PI (bloF a q k).1 ∧ sK q.1 (bloF a q k).1 ∧ (0 ≤ (bloF a q k).2.1 ∧ (bloF a q k).2.1 < 65536) ∧ -2147483648 ≤ (bloF a q k).2.2 ∧ (bloF a q k).2.2 < 2147483648
  | 0, _ => ⟨h, sK.rf, hs, hb⟩
  | k + 1, hk => by
    obtain ⟨h1, h2, h3, h4⟩ := bloF_ok h hs hb a0 (k := k) (by omega)
    have e0 := h2.1 0 (Or.inl rfl)
    have n := bloN_bd (p := bloF a q k) (k := k) h1 (by omega) a0
    exact ⟨h1.brK (by omega) (by omega) n.2.1, h2.trans (sK.br h1 (by omega) (by omega)), drw_bd, w32_bd⟩
/-- what an act leaves: the yard, the number drawn, what bloomed, whether it could be -/
noncomputable def actF (s : Int → Int) (r st bl : Int) : (Int → Int) × Int × Int × Int :=
  if s r = 11 then (if s 3 + s (r + 1) ≤ 9999 then (paD (s (r + 1)).toNat s, st, bl, 1) else (s, st, bl, 0))
  else if s r = 12 then (brK s (s (r + 1)) (s (r + 2)), st, bl, 1)
  else if s r = 13 then (haK s (s (r + 1)) (s (r + 2)), st, bl, 1)
  else if s r = 14 then (if s (r + 1) = s (r + 3) ∧ s (r + 2) = s (r + 5) then (s, st, bl, 0) else (mvS (64 + 198 * s (r + 1) + 6 + 16 * s (r + 2)) (64 + 198 * s (r + 3) + 6 + 16 * s (r + 5)) 16 s, st, bl, 1))
  else if s r = 15 then ((bloF (s (r + 1)) (s, st, bl) (s 0).toNat).1, (bloF (s (r + 1)) (s, st, bl) (s 0).toNat).2.1, (bloF (s (r + 1)) (s, st, bl) (s 0).toNat).2.2, 1)
  else @ite _ (mst s (s (r + 1)) (s (r + 2))) (Classical.propDecidable _) (upA s (64 + 198 * s (r + 2) + 3) (s (r + 1)), st, bl, 1) (s, st, bl, 0)
theorem actF_ok {s : Int → Int} {r st bl : Int} (h : PI s) (hr : ROW s r) (h20 : s r ≠ 20) (hs : 0 ≤ st ∧ st < 65536) (hb : -2147483648 ≤ bl ∧ bl < 2147483648) : PI (actF s r st bl).1 ∧ sK s (actF s r st bl).1 ∧ (0 ≤ (actF s r st bl).2.1 ∧ (actF s r st bl).2.1 < 65536) ∧ (-2147483648 ≤ (actF s r st bl).2.2.1 ∧ (actF s r st bl).2.2.1 < 2147483648) ∧ 0 ≤ (actF s r st bl).2.2.2 ∧ (actF s r st bl).2.2.2 ≤ 1 := by
  have h3 := h.2.1
  have h0 := h.1
  unfold actF
  rcases hr with ⟨e, a, b⟩ | ⟨e, a, b⟩ | ⟨e, a, b, c⟩ | ⟨e, ⟨a, b, c⟩, d, f, g⟩ | ⟨e, a, b⟩ | ⟨e, a, b⟩ | e
  · rw [if_pos e]
    split
    · exact ⟨h.paD (by omega), sK.pa h (by omega), hs, hb, (by dsimp only; omega), (by dsimp only; omega)⟩
    · exact ⟨h, sK.rf, hs, hb, (by dsimp only; omega), (by dsimp only; omega)⟩
  · rw [if_neg (by omega), if_pos e]
    exact ⟨h.brK a.1 a.2 b.1, sK.br h a.1 a.2, hs, hb, (by dsimp only; omega), (by dsimp only; omega)⟩
  · rw [if_neg (by omega), if_neg (by omega), if_pos e]
    exact ⟨h.haK a.1 a.2 b c, sK.ha h a.1 a.2 b c, hs, hb, (by dsimp only; omega), (by dsimp only; omega)⟩
  · rw [if_neg (by omega), if_neg (by omega), if_neg (by omega), if_pos e]
    split
    · exact ⟨h, sK.rf, hs, hb, (by dsimp only; omega), (by dsimp only; omega)⟩
    · exact ⟨h.swap a.1 a.2 d.1 d.2 ⟨b, c⟩ ⟨f, g⟩, sK.mv h a.1 a.2 d.1 d.2 ⟨b, c⟩ ⟨f, g⟩, hs, hb, (by dsimp only; omega), (by dsimp only; omega)⟩
  · rw [if_neg (by omega), if_neg (by omega), if_neg (by omega), if_neg (by omega), if_pos e]
    have q := bloF_ok (a := s (r + 1)) (q := (s, st, bl)) h hs hb ⟨a, b⟩ (k := (s 0).toNat) (by show ((s 0).toNat : Int) ≤ s 0; omega)
    exact ⟨q.1, q.2.1, q.2.2.1, q.2.2.2, (by dsimp only; omega), (by dsimp only; omega)⟩
  · rw [if_neg (by omega), if_neg (by omega), if_neg (by omega), if_neg (by omega), if_neg (by omega)]
    split
    · exact ⟨h.seat b.1 b.2 a.1 a.2, sK.se h b.1 b.2, hs, hb, (by dsimp only; omega), (by dsimp only; omega)⟩
    · exact ⟨h, sK.rf, hs, hb, (by dsimp only; omega), (by dsimp only; omega)⟩
  · exact absurd e h20
/-- what a test says -/
def hldF (s : Int → Int) (r : Int) : Prop :=
  if s r = 1721 then crw s (s (r + 1)) else
    if s (r + 5) = 60 then (if s r = 1705 then s (64 + 198 * s (r + 1) + 1) else isum (fun i => sv (if s r = 1706 then 0 else 1) (sh (64 + 198 * s (r + 1)) s i)) (nF (s (64 + 198 * s (r + 1))))) < s (r + 2)
    else if s (r + 5) = 62 then s (r + 2) < (if s r = 1705 then s (64 + 198 * s (r + 1) + 1) else isum (fun i => sv (if s r = 1706 then 0 else 1) (sh (64 + 198 * s (r + 1)) s i)) (nF (s (64 + 198 * s (r + 1)))))
    else (if s r = 1705 then s (64 + 198 * s (r + 1) + 1) else isum (fun i => sv (if s r = 1706 then 0 else 1) (sh (64 + 198 * s (r + 1)) s i)) (nF (s (64 + 198 * s (r + 1))))) = s (r + 2)
/-- yard, number drawn, done, missed, bloomed, over, left -/
abbrev lvS : Type := (Int → Int) × Int × Int × Int × Int × Int × Int
abbrev lvS.s (q : lvS) : Int → Int := q.1
abbrev lvS.st (q : lvS) : Int := q.2.1
abbrev lvS.dn (q : lvS) : Int := q.2.2.1
abbrev lvS.ms (q : lvS) : Int := q.2.2.2.1
abbrev lvS.bl (q : lvS) : Int := q.2.2.2.2.1
abbrev lvS.ov (q : lvS) : Int := q.2.2.2.2.2.1
abbrev lvS.lf (q : lvS) : Int := q.2.2.2.2.2.2
def LQ (q : lvS) : Prop := PI q.1 ∧ (0 ≤ q.2.1 ∧ q.2.1 < 65536) ∧ (0 ≤ q.2.2.2.1 ∧ q.2.2.2.1 ≤ q.2.2.1 ∧ q.2.2.1 ≤ 100) ∧ (-2147483648 ≤ q.2.2.2.2.1 ∧ q.2.2.2.2.1 < 2147483648) ∧ (q.2.2.2.2.2.1 = 0 ∨ q.2.2.2.2.2.1 = 1) ∧ (q.2.2.2.2.2.2 = 0 ∨ q.2.2.2.2.2.2 = 1)
noncomputable def actQ (q : lvS) (r : Int) : lvS := if q.1 r = 20 then (q.1, q.2.1, q.2.2.1, q.2.2.2.1, q.2.2.2.2.1, 1, q.2.2.2.2.2.2) else ((actF q.1 r q.2.1 q.2.2.2.2.1).1, (actF q.1 r q.2.1 q.2.2.2.2.1).2.1, q.2.2.1, q.2.2.2.1 + (1 - (actF q.1 r q.2.1 q.2.2.2.2.1).2.2.2), (actF q.1 r q.2.1 q.2.2.2.2.1).2.2.1, q.2.2.2.2.2.1, q.2.2.2.2.2.2)
/-- one more is done -/
def incQ (q : lvS) : lvS := (q.1, q.2.1, q.2.2.1 + 1, q.2.2.2)
def overQ (q : lvS) : lvS := (q.1, q.2.1, q.2.2.1, q.2.2.2.1, q.2.2.2.2.1, 1, 1)
def nxF (s : Int → Int) (i : Int) : Int := if s (860 + 6 * i) = 18 ∨ 1700 ≤ s (860 + 6 * i) then s (864 + 6 * i) + 1 else i + 1
def seqF (f : Int → lvS → lvS) (s : Int → Int) : Nat → Int → Int → lvS → lvS
  | 0, _, _, q => q
  | k + 1, i, j, q => if j ≤ i ∨ q.2.2.2.2.2.1 ≠ 0 then q else seqF f s k (nxF s i) j (f i q)
def lopF (f : lvS → lvS) : Nat → lvS → lvS
  | 0, q => q
  | t + 1, q => if q.2.2.2.2.2.1 ≠ 0 then q else lopF f t (f q)
noncomputable def stepF (s : Int → Int) : Nat → Int → lvS → lvS
  | 0, _, q => q
  | n + 1, i, q => if q.2.2.1 = 100 then overQ q else
      if s (860 + 6 * i) = 18 then lopF (seqF (stepF s n) s 60 (i + 1) (s (864 + 6 * i))) (s (861 + 6 * i)).toNat (incQ q)
      else if 1700 ≤ s (860 + 6 * i) then @ite _ (hldF q.1 (860 + 6 * i)) (Classical.propDecidable _) (seqF (stepF s n) s 60 (i + 1) (s (864 + 6 * i)) (incQ q)) (incQ q)
      else actQ (incQ q) (860 + 6 * i)
theorem LQ.inc {q : lvS} (h : LQ q) (hd : q.2.2.1 ≠ 100) : LQ (incQ q) := by
  obtain ⟨h1, h2, h3, h4, h5, h6⟩ := h
  exact ⟨h1, h2, ⟨h3.1, by show q.2.2.2.1 ≤ q.2.2.1 + 1; omega, by show q.2.2.1 + 1 ≤ 100; omega⟩, h4, h5, h6⟩
theorem LQ.over {q : lvS} (h : LQ q) : LQ (overQ q) := by
  obtain ⟨h1, h2, h3, h4, h5, h6⟩ := h
  exact ⟨h1, h2, h3, h4, Or.inr rfl, Or.inr rfl⟩
theorem LQ.act {q : lvS} {r : Int} (h : LQ (incQ q)) (hq : LQ q) (hr : ROW q.1 r) : LQ (actQ (incQ q) r) ∧ sK q.1 (actQ (incQ q) r).1 := by
  obtain ⟨h1, h2, h3, h4, h5, h6⟩ := h
  obtain ⟨-, -, g3, -⟩ := hq
  unfold actQ
  split
  · exact ⟨⟨h1, h2, h3, h4, Or.inr rfl, h6⟩, sK.rf⟩
  · rename_i e
    have a := actF_ok h1 hr e h2 h4
    refine ⟨⟨a.1, a.2.2.1, ?_, a.2.2.2.1, h5, h6⟩, a.2.1⟩
    have b := a.2.2.2.2
    exact ⟨by show 0 ≤ q.2.2.2.1 + (1 - _); omega, by show q.2.2.2.1 + (1 - _) ≤ q.2.2.1 + 1; omega, h3.2.2⟩
