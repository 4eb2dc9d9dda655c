/-! H6: laws of both worlds at once -/
theorem isum_upd {g g' : Int → Int} {k : Int} : ∀ {n : Nat}, 0 ≤ k → k < n → (∀ j : Int, 0 ≤ j → j < n → j ≠ k → g' j = g j) → isum g' n = isum g n + g' k - g k
  | 0, h0, h1, _ => by omega
  | n + 1, h0, h1, h => by
    simp only [isum]
    by_cases e : k = n
    · subst e
      rw [isum_congr (g := g') (g' := g) fun j j0 j1 => h j j0 (by omega) (by omega)]
      omega
    · rw [isum_upd (n := n) h0 (by omega) fun j j0 j1 e2 => h j j0 (by omega) e2, h n (by omega) (by omega) (fun z => e z.symm)]
      omega
theorem sumB_congr {s s' : Int → Int} (h0 : s' 0 = s 0) (h : ∀ k, 0 ≤ k → k < s 0 → s' (65 + 198 * k) = s (65 + 198 * k)) : sumB s' = sumB s := by
  unfold sumB
  rw [h0]
  exact isum_congr fun k k0 k1 => h k k0 (by omega)
theorem sumU_congr {s s' : Int → Int} (h0 : s' 0 = s 0) (h : ∀ k, 0 ≤ k → k < s 0 → s' (66 + 198 * k) = s (66 + 198 * k)) : sumU s' = sumU s := by
  unfold sumU
  rw [h0]
  exact isum_congr fun k k0 k1 => h k k0 (by omega)
theorem sumB_upd {s s' : Int → Int} {k : Int} (h0 : s' 0 = s 0) (k0 : 0 ≤ k) (k1 : k < s 0) (h : ∀ j, 0 ≤ j → j < s 0 → j ≠ k → s' (65 + 198 * j) = s (65 + 198 * j)) : sumB s' = sumB s + s' (65 + 198 * k) - s (65 + 198 * k) := by
  unfold sumB
  rw [h0]
  exact isum_upd (g := fun k => s (65 + 198 * k)) (g' := fun k => s' (65 + 198 * k)) k0 (by omega) fun j j0 j1 e => h j j0 (by omega) e
theorem sumU_upd {s s' : Int → Int} {k : Int} (h0 : s' 0 = s 0) (k0 : 0 ≤ k) (k1 : k < s 0) (h : ∀ j, 0 ≤ j → j < s 0 → j ≠ k → s' (66 + 198 * j) = s (66 + 198 * j)) : sumU s' = sumU s + s' (66 + 198 * k) - s (66 + 198 * k) := by
  unfold sumU
  rw [h0]
  exact isum_upd (g := fun k => s (66 + 198 * k)) (g' := fun k => s' (66 + 198 * k)) k0 (by omega) fun j j0 j1 e => h j j0 (by omega) e
theorem PQ.ext {s s' : Int → Int} (h : PQ s) (h1 : s' 1 = s 1) (h2 : s' 2 = s 2) (hr : ∀ i, 13 ≤ i → i < 64 → s' i = s i) : PQ s' := by
  obtain ⟨⟨a1, a2⟩, a3, a4, a5, a6, a7⟩ := h
  have o : ∀ w, one s' w ↔ one s w := fun w => by unfold one; rw [h1, h2]
  have ow : ∀ w, one s w → (0 ≤ w ∧ w < 8) ∨ (8 ≤ w ∧ w < 16) := fun w hw => by unfold one at hw; omega
  have t : ∀ w, one s w → tld s' w = tld s w := fun w hw => by
    have := ow w hw
    unfold tld
    split
    · exact hr _ (by omega) (by omega)
    · exact hr _ (by omega) (by omega)
  have m : ∀ w, one s w → mot s' w = mot s w := fun w hw => by
    have := ow w hw
    unfold mot
    split
    · exact hr _ (by omega) (by omega)
    · exact hr _ (by omega) (by omega)
  have f : ∀ w, one s w → fat s' w = fat s w := fun w hw => by
    have := ow w hw
    unfold fat
    by_cases e : 8 ≤ w
    · rw [if_pos (Or.inl e), if_pos (Or.inl e)]
    · rw [hr (16 + 4 * w) (by omega) (by omega)]
  refine ⟨by rw [h1, h2]; exact ⟨a1, a2⟩, by rw [hr 13 (by omega) (by omega), h1, h2]; exact a3, fun q q0 q1 => by rw [hr (14 + 4 * q) (by omega) (by omega), hr (16 + 4 * q) (by omega) (by omega)]; exact a4 q q0 (by omega), fun w hw => ?_, fun v w hv hw e => ?_, fun i i0 i1 => ?_⟩
  · have hw' := (o w).mp hw
    have := a5 w hw'
    rw [t w hw', m w hw', f w hw', hr 13 (by omega) (by omega), h1, h2]
    refine ⟨this.1, ?_, ?_⟩
    · rcases this.2.1 with e | ⟨e1, e2⟩
      · exact Or.inl e
      · exact Or.inr ⟨e1, by rw [t _ (Or.inl e1)]; exact e2⟩
    · rcases this.2.2 with e | ⟨e1, e2⟩
      · exact Or.inl e
      · exact Or.inr ⟨e1, by rw [t _ (Or.inr e1)]; exact e2⟩
  · have hv' := (o v).mp hv
    have hw' := (o w).mp hw
    rw [t v hv', t w hw'] at e
    exact a6 v w hv' hw' e
  · rw [hr 13 (by omega) (by omega)] at i1
    obtain ⟨w, hw, e⟩ := a7 i i0 i1
    exact ⟨w, (o w).mpr hw, by rw [t w hw]; exact e⟩
/-- only fields of hives, and the sums of what was brought and so on, are others -/
theorem PI.flds {s s' : Int → Int} (h : PI s) (h1 : ∀ i, 0 ≤ i → i < 64 → (i < 4 ∨ 9 < i) → s' i = s i) (h2 : ∀ k i, 0 ≤ k → k < s 0 → 0 ≤ i → i < 6 → s' (64 + 198 * k + i) = s (64 + 198 * k + i)) (h3 : ∀ k, 0 ≤ k → k < s 0 → rgF (s (64 + 198 * k)) (sh (64 + 198 * k) s')) : PI s' := by
  obtain ⟨a1, a2, a3, a4, ⟨a5, a6⟩, a7⟩ := h
  have e0 := h1 0 (by omega) (by omega) (by omega)
  have e1 := h1 1 (by omega) (by omega) (by omega)
  have e3 := h1 3 (by omega) (by omega) (by omega)
  have e11 := h1 11 (by omega) (by omega) (by omega)
  have e12 := h1 12 (by omega) (by omega) (by omega)
  have b : sumB s' = sumB s := sumB_congr e0 fun k k0 k1 => by
    have := h2 k 1 k0 k1 (by omega) (by omega)
    rw [show 64 + 198 * k + 1 = 65 + 198 * k by omega] at this
    exact this
  have u : sumU s' = sumU s := sumU_congr e0 fun k k0 k1 => by
    have := h2 k 2 k0 k1 (by omega) (by omega)
    rw [show 64 + 198 * k + 2 = 66 + 198 * k by omega] at this
    exact this
  refine ⟨by rw [e0]; exact a1, by rw [e3]; exact a2, fun k k0 k1 => ?_, a4.ext e1 (h1 2 (by omega) (by omega) (by omega)) (fun i i0 i1 => h1 i (by omega) i1 (by omega)), by rw [b, u, e11, e3]; exact ⟨a5, a6⟩, by rw [e11, e12, e1]; exact a7⟩
  rw [e0] at k1
  obtain ⟨p1, p2, p3, p4, p5, p6, p7⟩ := a3 k k0 k1
  have r0 := h2 k 0 k0 k1 (by omega) (by omega)
  rw [Int.add_zero] at r0
  unfold PH
  rw [r0, h2 k 1 k0 k1 (by omega) (by omega), h2 k 2 k0 k1 (by omega) (by omega), h2 k 3 k0 k1 (by omega) (by omega), h2 k 4 k0 k1 (by omega) (by omega), h2 k 5 k0 k1 (by omega) (by omega), e1]
  exact ⟨p1, h3 k k0 k1, p3, p4, p5, p6, p7⟩
theorem PI.ext {s s' : Int → Int} (h : PI s) (hr : ∀ i, 0 ≤ i → i < 860 → s' i = s i) : PI s' := by
  have h0 := h.1
  refine h.flds (fun i i0 i1 _ => hr i i0 (by omega)) (fun k i k0 k1 i0 i1 => hr _ (by omega) (by omega)) (fun k k0 k1 i i0 i1 => ?_)
  have hk := h.2.2.1 k k0 k1
  unfold sh
  rw [hr _ (by omega) (by have := hk.1; omega)]
  exact hk.2.1 i i0 i1
/-- BeeYard wrote its status and its fraction alone -/
def xs (ct ct' : Int → Int → Int) : Prop := ∀ x j, ¬ (x = 0 ∧ (j = 7 ∨ j = 8 ∨ j = 9)) → ct' x j = ct x j
theorem xs.rf {ct : Int → Int → Int} : xs ct ct := fun _ _ _ => rfl
theorem xs.up {ct ct' : Int → Int → Int} {j v : Int} (h : xs ct ct') (hj : j = 7 ∨ j = 8 ∨ j = 9) : xs ct (aup ct' 0 j v) := fun x i hz => by rw [aup_n (fun z => hz ⟨z.1, by omega⟩)]; exact h x i hz
/-- BeeYardModel wrote nothing of the yards -/
def mss (cm cm' : Int → Int → Int) : Prop := mag cm cm' ∧ (∀ i, 0 ≤ i → i < 1230 → cm' 1 i = cm 1 i) ∧ (Fok cm → Fok cm')
theorem mss.rf {cm : Int → Int → Int} : mss cm cm := ⟨⟨fun _ _ => rfl, fun _ _ _ => rfl, fun _ _ => rfl, rfl, rfl, rfl, rfl, rfl⟩, fun _ _ _ => rfl, fun h => h⟩
theorem mag.trans {a b c : Int → Int → Int} (h : mag a b) (k : mag b c) : mag a c := ⟨fun i hi => (k.1 i hi).trans (h.1 i hi), fun i i0 i1 => (k.2.1 i i0 i1).trans (h.2.1 i i0 i1), fun i hi => (k.2.2.1 i hi).trans (h.2.2.1 i hi), k.2.2.2.1.trans h.2.2.2.1, k.2.2.2.2.1.trans h.2.2.2.2.1, k.2.2.2.2.2.1.trans h.2.2.2.2.2.1, k.2.2.2.2.2.2.1.trans h.2.2.2.2.2.2.1, k.2.2.2.2.2.2.2.trans h.2.2.2.2.2.2.2⟩
theorem mss.trans {a b c : Int → Int → Int} (h : mss a b) (k : mss b c) : mss a c := ⟨h.1.trans k.1, fun i i0 i1 => (k.2.1 i i0 i1).trans (h.2.1 i i0 i1), fun f => k.2.2 (h.2.2 f)⟩
theorem mag.up0 {cm cm' : Int → Int → Int} {j v : Int} (h : mag cm cm') (hj : j ≠ 10 ∧ j ≠ 16 ∧ j ≠ 17 ∧ j ≠ 34 ∧ j ≠ 35) : mag cm (aup cm' 0 j v) :=
  h.trans ⟨fun i hi => aup_n (by omega), fun i _ _ => by rw [aup_rn (by decide)], fun i _ => by rw [aup_rn (by decide)], aup_rn (by decide), aup_rn (by decide), aup_rn (by decide), aup_rn (by decide), aup_rn (by decide)⟩
theorem mss.up0 {cm cm' : Int → Int → Int} {j v : Int} (h : mss cm cm') (hj : j ≠ 10 ∧ j ≠ 16 ∧ j ≠ 17 ∧ j ≠ 24 ∧ j ≠ 34 ∧ j ≠ 35) : mss cm (aup cm' 0 j v) :=
  ⟨h.1.up0 (by omega), fun i i0 i1 => by rw [aup_rn (by decide)]; exact h.2.1 i i0 i1, fun f => (h.2.2 f).up0 (by omega) |>.ok⟩
theorem mag.of1 {cm cm' : Int → Int → Int} (h : mfr cm cm') (h1 : ∀ i, 1230 ≤ i → i < 4920 → cm' 1 i = cm 1 i) : mag cm cm' :=
  ⟨fun i hi => h.2 i (by omega), h1, fun i _ => by rw [h.1 2 (by decide) (by decide) (by decide)], h.1 3 (by decide) (by decide) (by decide), h.1 4 (by decide) (by decide) (by decide), h.1 5 (by decide) (by decide) (by decide), h.1 6 (by decide) (by decide) (by decide), h.1 13 (by decide) (by decide) (by decide)⟩
theorem mag.ofd {cm cm' : Int → Int → Int} (h : dfr cm cm') (h1 : ∀ i, 1230 ≤ i → i < 4920 → cm' 1 i = cm 1 i) : mag cm cm' :=
  ⟨fun i hi => h.2 i (by omega) (by omega) (by omega) (by omega), h1, fun i _ => by rw [h.1 2 (by decide) (by decide) (by decide)], h.1 3 (by decide) (by decide) (by decide), h.1 4 (by decide) (by decide) (by decide), h.1 5 (by decide) (by decide) (by decide), h.1 6 (by decide) (by decide) (by decide), h.1 13 (by decide) (by decide) (by decide)⟩
theorem mag.ofn {cm cm' : Int → Int → Int} (h : ∀ b, b ≠ 1 → cm' b = cm b) (h1 : ∀ i, 1230 ≤ i → i < 4920 → cm' 1 i = cm 1 i) : mag cm cm' := mag.of1 ⟨fun b _ b1 _ => h b b1, fun i _ => by rw [h 0 (by decide)]⟩ h1
/-- nothing but the status and the fraction is another -/
theorem XR.same {sz : Int} {im : Int → aIm} {ct ct' cm cm' : Int → Int → Int} (h : XR (sz, im, ct) cm) (hx : xs ct ct') (hm : mss cm cm') (h2 : ct' 0 7 = cm' 0 2) (h3 : ct' 0 8 = cm' 0 3) (h4 : ct' 0 9 = cm' 0 4) : XR (sz, im, ct') cm' := by
  obtain ⟨own, N, hR, HY, HL, HN, HS, HP, HF, HX, -⟩ := h
  have o0 := hR.1.2
  have e := hm.2.1
  have hxa : xag own ct ct' := fun x j _ hz => hx x j hz
  have l0 : ct' 10 0 = ct 10 0 := hx _ _ (by omega)
  have l9 : ct' 9 1 = ct 9 1 := hx _ _ (by omega)
  have hl : ∀ x j, own x = -1 → ct' x j = ct x j := fun x j a => hx x j (fun z => by rw [z.1] at a; omega)
  have p0 := HP.1
  refine XR.mk hR HX (N := N) ?_ ?_ ?_ ?_ (HP.ext fun i i0 i1 => e i i0 (by omega)) (hm.2.2 HF) hxa hm.1 h2 h3 h4
  · rw [e 3 (by omega) (by omega)]
    exact (HY.frame fun x j a b => hx x j (fun z => by rw [z.1] at a; omega)).ext fun i i0 i1 _ => e i i0 (by omega)
  · rw [l0]
    exact (HL.frame hl).row (e _ (by omega) (by omega)) (e _ (by omega) (by omega)) (fun i i0 i1 => e i (by omega) (by omega))
  · obtain ⟨n1, n2, n3⟩ := HN
    have q := HP.2.2.2.1.1
    refine ⟨fun k k0 k1 => ?_, fun k k0 k1 => ?_, fun k k0 k1 => ?_⟩
    · rw [e 0 (by omega) (by omega)] at k1
      rw [hm.1.2.2.1 _ (by have := p0; show k < 80; omega)]; exact n1 k k0 k1
    · rw [e 2 (by omega) (by omega)] at k1
      rw [hm.1.2.2.1 _ (by omega)]; exact n2 k k0 k1
    · rw [e 1 (by omega) (by omega)] at k1
      rw [hm.1.2.2.1 _ (by omega)]; exact n3 k k0 k1
  · rw [l9]
    exact (HS.frame hl).row (e _ (by omega) (by omega)) (e _ (by omega) (by omega)) (e _ (by omega) (by omega)) (fun k k0 k1 => by have := p0; exact e _ (by omega) (by omega)) (fun i i0 i1 => e i (by omega) (by omega))
/-- the law of an operation: what BeeYard answers, BeeYardModel answers -/
def XQ (N : aMD) (d : Nat) (as : List aV) (cm : Int → Int → Int) : aPost := fun rx Gx => ∃ r : Int, rx = .inl (some (vI r)) ∧ AMet N d 0 0 as (gM cm) (fun rm Gm => rm = .inl (some (vI r)) ∧ ∃ cm', Gm = gM cm' ∧ XR Gx cm')
/-- .. of one that answers with a long -/
def XQL (N : aMD) (d : Nat) (as : List aV) (cm : Int → Int → Int) : aPost := fun rx Gx => ∃ r : Int, rx = .inl (some (vL r)) ∧ AMet N d 0 0 as (gM cm) (fun rm Gm => rm = .inl (some (vL r)) ∧ ∃ cm', Gm = gM cm' ∧ XR Gx cm')
theorem vI_eq {a b : Int} (h : a = b) : (Sum.inl (some (vI a)) : aRes) = .inl (some (vI b)) := by rw [h]
theorem vL_eq {a b : Int} (h : a = b) : (Sum.inl (some (vL a)) : aRes) = .inl (some (vL b)) := by rw [h]
theorem YR.up0 {own : Int → Int} {y sz : Int} {im : Int → aIm} {ct : Int → Int → Int} {ya j v : Int} {s : Int → Int} {dd : Int} {N : Int → Int} (H : YR own y sz im ct ya s dd N) (h0 : own 0 = -2) (hy : 0 ≤ y) : YR own y sz im (aup ct 0 j v) ya s dd N :=
  H.frame fun x i a b => aup_n fun z => by rw [z.1] at a; omega
theorem LR.up0 {own : Int → Int} {sz : Int} {im : Int → aIm} {ct : Int → Int → Int} {la j v : Int} {s : Int → Int} {N : Int → Int} (H : LR own sz im ct la s N) (h0 : own 0 = -2) : LR own sz im (aup ct 0 j v) la s N :=
  H.frame fun x i a => aup_n fun z => by rw [z.1] at a; omega
theorem RT.up0 {own : Int → Int} {sz : Int} {im : Int → aIm} {ct : Int → Int → Int} {j v : Int} (H : RT own sz im ct) : RT own sz im (aup ct 0 j v) := H.frame fun t _ _ => aup_n fun z => by omega
theorem RT.o0 {own : Int → Int} {sz : Int} {im : Int → aIm} {ct : Int → Int → Int} (H : RT own sz im ct) : aob sz im 0 0 := H.1.1
theorem RT.e1 {own : Int → Int} {sz : Int} {im : Int → aIm} {ct : Int → Int → Int} (H : RT own sz im ct) : (im 0).2.2 0 = 1 := H.2.1.1
theorem RT.e6 {own : Int → Int} {sz : Int} {im : Int → aIm} {ct : Int → Int → Int} (H : RT own sz im ct) : (im 0).2.2 1 = 6 := H.2.1.2.1
theorem RT.e7 {own : Int → Int} {sz : Int} {im : Int → aIm} {ct : Int → Int → Int} (H : RT own sz im ct) : (im 0).2.2 5 = 7 := H.2.1.2.2.1
theorem RT.e8 {own : Int → Int} {sz : Int} {im : Int → aIm} {ct : Int → Int → Int} (H : RT own sz im ct) : (im 0).2.2 6 = 8 := H.2.1.2.2.2.1
theorem RT.e9 {own : Int → Int} {sz : Int} {im : Int → aIm} {ct : Int → Int → Int} (H : RT own sz im ct) : (im 0).2.2 10 = 9 := H.2.1.2.2.2.2.1
theorem RT.e19 {own : Int → Int} {sz : Int} {im : Int → aIm} {ct : Int → Int → Int} (H : RT own sz im ct) : (im 0).2.2 11 = 19 := H.2.1.2.2.2.2.2.1
theorem RT.e20 {own : Int → Int} {sz : Int} {im : Int → aIm} {ct : Int → Int → Int} (H : RT own sz im ct) : (im 0).2.2 13 = 20 := H.2.1.2.2.2.2.2.2.1
theorem RT.e29 {own : Int → Int} {sz : Int} {im : Int → aIm} {ct : Int → Int → Int} (H : RT own sz im ct) : (im 0).2.2 14 = 29 := H.2.1.2.2.2.2.2.2.2
theorem RT.a1 {own : Int → Int} {sz : Int} {im : Int → aIm} {ct : Int → Int → Int} (H : RT own sz im ct) : aar sz im 1 4 4 := H.2.2.1.1
theorem RT.a6 {own : Int → Int} {sz : Int} {im : Int → aIm} {ct : Int → Int → Int} (H : RT own sz im ct) : aar sz im 6 0 900 := H.2.2.2.1.1
theorem RT.o7 {own : Int → Int} {sz : Int} {im : Int → aIm} {ct : Int → Int → Int} (H : RT own sz im ct) : aob sz im 7 2 := H.2.2.2.2.1.1
theorem RT.o8 {own : Int → Int} {sz : Int} {im : Int → aIm} {ct : Int → Int → Int} (H : RT own sz im ct) : aob sz im 8 3 := H.2.2.2.2.2.1.1
theorem RT.o9 {own : Int → Int} {sz : Int} {im : Int → aIm} {ct : Int → Int → Int} (H : RT own sz im ct) : aob sz im 9 4 := H.2.2.2.2.2.2.1.1
theorem RT.e10 {own : Int → Int} {sz : Int} {im : Int → aIm} {ct : Int → Int → Int} (H : RT own sz im ct) : (im 9).2.2 0 = 10 := H.2.2.2.2.2.2.1.2.2
theorem RT.a19 {own : Int → Int} {sz : Int} {im : Int → aIm} {ct : Int → Int → Int} (H : RT own sz im ct) : aar sz im 19 6 3 := H.2.2.2.2.2.2.2.1.1
theorem RT.a29 {own : Int → Int} {sz : Int} {im : Int → aIm} {ct : Int → Int → Int} (H : RT own sz im ct) : aar sz im 29 2 3 := H.2.2.2.2.2.2.2.2.1
/-- what the tactics end in, when nothing but the status was written -/
theorem XR.sameE {sz : Int} {im : Int → aIm} {ct ct' cm cm' : Int → Int → Int} {a b : Int} (h : XR (sz, im, ct) cm) (e : a = b) (hx : xs ct ct') (hm : mss cm cm') (h2 : ct' 0 7 = cm' 0 2) (h3 : ct' 0 8 = cm' 0 3) (h4 : ct' 0 9 = cm' 0 4) : (Sum.inl (some (vI a)) : aRes) = .inl (some (vI b)) ∧ ∃ cm2, gM cm' = gM cm2 ∧ XR (sz, im, ct') cm2 := ⟨vI_eq e, _, rfl, h.same hx hm h2 h3 h4⟩
theorem XR.sameL {sz : Int} {im : Int → aIm} {ct ct' cm cm' : Int → Int → Int} {a b : Int} (h : XR (sz, im, ct) cm) (e : a = b) (hx : xs ct ct') (hm : mss cm cm') (h2 : ct' 0 7 = cm' 0 2) (h3 : ct' 0 8 = cm' 0 3) (h4 : ct' 0 9 = cm' 0 4) : (Sum.inl (some (vL a)) : aRes) = .inl (some (vL b)) ∧ ∃ cm2, gM cm' = gM cm2 ∧ XR (sz, im, ct') cm2 := ⟨vL_eq e, _, rfl, h.same hx hm h2 h3 h4⟩
/-- hive k of the yard that is now -/
theorem YR.hv {own : Int → Int} {sz : Int} {im : Int → aIm} {ct : Int → Int → Int} {s : Int → Int} {dd k : Int} {N : Int → Int} (H : YR own 0 sz im ct 10 s dd N) (hR : RT own sz im ct) (k0 : 0 ≤ k) (k1 : k < s 0) : ∃ a, ct ((im 10).2.2 1) k = a ∧ YH own k sz im ct a s (64 + 198 * k) (N k) ∧
    a ≠ 0 ∧ a ≠ 10 ∧ a ≠ 9 ∧ (im 10).2.2 1 ≠ 0 ∧ (im 10).2.2 1 ≠ a ∧ (im 10).2.2 1 ≠ 10 ∧ (0 ≤ own a ∧ own a < 10) := by
  obtain ⟨h1, h2, h3, h4, h5, h6, h7, h8⟩ := H
  have g := h8 k k0 k1
  have o := g.2.2.2.2.1
  have o0 := hR.1.2
  have o9 := hR.2.2.2.2.2.2.1.2.1
  rw [show (10 : Int) * 0 + k = k by omega] at g
  refine ⟨_, rfl, g, fun e => ?_, fun e => ?_, fun e => ?_, fun e => ?_, fun e => ?_, fun e => ?_, by omega, by omega⟩
  · rw [e] at o; omega
  · rw [e] at o; omega
  · rw [e] at o; omega
  · rw [e] at h4; omega
  · rw [← e] at o; omega
  · rw [e] at h3; exact aob_ne h1 h3 (by decide) rfl
theorem YR.hfld {own : Int → Int} {y sz : Int} {im : Int → aIm} {ct : Int → Int → Int} {ya : Int} {s : Int → Int} {dd k a j v : Int} {N : Int → Int} (H : YR own y sz im ct ya s dd N) (k0 : 0 ≤ k) (k1 : k < s 0) (ea : ct ((im ya).2.2 1) k = a) (hj : 3 ≤ j ∧ j ≤ 7) : YR own y sz im (aup ct a j v) ya (upA s (64 + 198 * k + (j - 2)) v) dd N := by
  have hb := H.2.2.2.2.1
  have hg := H.2.2.2.2.2.2.2 k k0 k1
  rw [ea] at hg
  have hs := hg.1
  have hn := hs.2.2.2.2
  have hp := hg.2.1.self hs (i := j) (v := v)
  obtain ⟨-, -, ⟨a1, a2, a3, a4, a5⟩, -⟩ := id hg
  have q : ∀ i, 3 ≤ i → i ≤ 7 → ct a i = s (64 + 198 * k + (i - 2)) → aup ct a j v a i = upA s (64 + 198 * k + (j - 2)) v (64 + 198 * k + (i - 2)) := fun i i0 i1 e => by
    by_cases z : i = j
    · subst z; rw [aup_s, upA_s]
    · rw [aup_n (fun q => z q.2), upA_n (by omega)]; exact e
  refine H.hive k0 k1 (fun x i hx => aup_n fun z => hx (by rw [z.1]; exact hg.2.2.2.2.1)) (fun i hi => upA_n (by omega)) ?_
  rw [ea]
  refine hg.set hp.1 hp.2 (upA_n (by omega)) (fun i i0 i1 => ?_) (q 3 (by omega) (by omega) a1) (q 4 (by omega) (by omega) a2) (q 5 (by omega) (by omega) a3) (q 6 (by omega) (by omega) a4) (q 7 (by omega) (by omega) a5)
  unfold sh
  rw [upA_n (by omega)]
