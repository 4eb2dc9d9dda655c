/-! H4: a yard: what it is in the heap of BeeYard (YR) and in a slot of BeeYardModel (s) -/
def YH (own : Int → Int) (t sz : Int) (im : Int → aIm) (ct : Int → Int → Int) (a : Int) (s : Int → Int) (h nm : Int) : Prop :=
  HvS sz im a (s h) ∧ HvC sz im ct a (s h) (sh h s) ∧ (ct a 3 = s (h + 1) ∧ ct a 4 = s (h + 2) ∧ ct a 5 = s (h + 3) ∧ ct a 6 = s (h + 4) ∧ ct a 7 = s (h + 5)) ∧ (im a).2.2 0 = nm ∧
  own a = t ∧ own ((im a).2.2 1) = t ∧ own ((im a).2.2 2) = t ∧ ∀ f, 0 ≤ f → f < s h → own (ct ((im a).2.2 1) f) = t
def YR (own : Int → Int) (y sz : Int) (im : Int → aIm) (ct : Int → Int → Int) (ya : Int) (s : Int → Int) (dd : Int) (N : Int → Int) : Prop :=
  aob sz im ya 5 ∧ own ya = 10 * y + 9 ∧ aar sz im ((im ya).2.2 1) 5 4 ∧ own ((im ya).2.2 1) = 10 * y + 9 ∧ (0 ≤ s 0 ∧ s 0 ≤ 4) ∧
  (ct ya 2 = s 0 ∧ ct ya 3 = dd ∧ ct ya 4 = s 5 ∧ ct ya 5 = s 6 ∧ ct ya 6 = s 7 ∧ ct ya 7 = s 8 ∧ ct ya 8 = s 9 ∧ ct ya 9 = s 4) ∧ (ct ya 11 = s 12 ∧ (s 12 ≠ -1 → ct ya 10 = s 11)) ∧
  ∀ k, 0 ≤ k → k < s 0 → YH own (10 * y + k) sz im ct (ct ((im ya).2.2 1) k) s (64 + 198 * k) (N k)
theorem YH.frame {own : Int → Int} {t sz : Int} {im : Int → aIm} {ct ct' : Int → Int → Int} {a : Int} {s : Int → Int} {h nm : Int} (H : YH own t sz im ct a s h nm) (hf : ∀ x j, own x = t → ct' x j = ct x j) : YH own t sz im ct' a s h nm := by
  obtain ⟨h1, h2, ⟨a1, a2, a3, a4, a5⟩, h4, h5, h6, h7, h8⟩ := H
  refine ⟨h1, h2.ext (fun j => hf _ j h7) (fun j => hf _ j h6) (fun f i f0 f1 i0 i1 => hf _ i (h8 f f0 f1)) (fun _ _ _ => rfl), ⟨?_, ?_, ?_, ?_, ?_⟩, h4, h5, h6, h7, fun f f0 f1 => ?_⟩
  · rw [hf _ _ h5]; exact a1
  · rw [hf _ _ h5]; exact a2
  · rw [hf _ _ h5]; exact a3
  · rw [hf _ _ h5]; exact a4
  · rw [hf _ _ h5]; exact a5
  · rw [hf _ _ h6]; exact h8 f f0 f1
theorem YH.row {own : Int → Int} {t sz : Int} {im : Int → aIm} {ct : Int → Int → Int} {a : Int} {s s' : Int → Int} {h nm : Int} (H : YH own t sz im ct a s h nm) (hr : ∀ i, h ≤ i → i < h + 198 → s' i = s i) : YH own t sz im ct a s' h nm := by
  obtain ⟨h1, h2, ⟨a1, a2, a3, a4, a5⟩, h4, h5, h6, h7, h8⟩ := H
  have e0 := hr h (by omega) (by omega)
  have hn := h1.2.2.2.2
  refine ⟨by rw [e0]; exact h1, by rw [e0]; exact h2.cong fun i i0 i1 => (hr _ (by omega) (by omega)).symm, ⟨?_, ?_, ?_, ?_, ?_⟩, h4, h5, h6, h7, by rw [e0]; exact h8⟩
  · rw [hr _ (by omega) (by omega)]; exact a1
  · rw [hr _ (by omega) (by omega)]; exact a2
  · rw [hr _ (by omega) (by omega)]; exact a3
  · rw [hr _ (by omega) (by omega)]; exact a4
  · rw [hr _ (by omega) (by omega)]; exact a5
theorem YH.own {own : Int → Int} {t sz : Int} {im : Int → aIm} {ct : Int → Int → Int} {a : Int} {s : Int → Int} {h nm : Int} (H : YH own t sz im ct a s h nm) {x : Int} (hx : own x ≠ t) : x ≠ a ∧ ¬ hvf im ct a (s h) x := by
  obtain ⟨h1, h2, h3, h4, h5, h6, h7, h8⟩ := H
  refine ⟨fun e => hx (by rw [e]; exact h5), ?_⟩
  rintro ⟨f, f0, f1, e⟩
  exact hx (by rw [e]; exact h8 f f0 f1)
theorem YH.set {own : Int → Int} {t sz : Int} {im : Int → aIm} {ct ct' : Int → Int → Int} {a : Int} {s s' : Int → Int} {h nm : Int} {c' : Int → Int} (H : YH own t sz im ct a s h nm) (hC : HvC sz im ct' a (s h) c') (hg : ∀ j, ct' ((im a).2.2 1) j = ct ((im a).2.2 1) j)
    (e0 : s' h = s h) (ec : eqF (s h) c' (sh h s')) (b1 : ct' a 3 = s' (h + 1)) (b2 : ct' a 4 = s' (h + 2)) (b3 : ct' a 5 = s' (h + 3)) (b4 : ct' a 6 = s' (h + 4)) (b5 : ct' a 7 = s' (h + 5)) : YH own t sz im ct' a s' h nm := by
  obtain ⟨h1, h2, -, h4, h5, h6, h7, h8⟩ := H
  refine ⟨by rw [e0]; exact h1, by rw [e0]; exact hC.cong ec, ⟨b1, b2, b3, b4, b5⟩, h4, h5, h6, h7, fun f f0 f1 => ?_⟩
  rw [hg]
  exact h8 f f0 (by rw [← e0]; exact f1)
/-- hive k was written, nothing else -/
theorem YR.hive {own : Int → Int} {y sz : Int} {im : Int → aIm} {ct ct' : Int → Int → Int} {ya : Int} {s s' : Int → Int} {dd k : Int} {N : Int → Int} (H : YR own y sz im ct ya s dd N) (k0 : 0 ≤ k) (k1 : k < s 0) (hf : ∀ x j, own x ≠ 10 * y + k → ct' x j = ct x j)
    (hr : ∀ i, (i < 64 + 198 * k ∨ 64 + 198 * k + 198 ≤ i) → s' i = s i) (hh : YH own (10 * y + k) sz im ct' (ct ((im ya).2.2 1) k) s' (64 + 198 * k) (N k)) : YR own y sz im ct' ya s' dd N := by
  obtain ⟨h1, h2, h3, h4, h5, ⟨a1, a2, a3, a4, a5, a6, a7, a8⟩, ⟨w1, w2⟩, h6⟩ := H
  have e1 : ∀ j, ct' ya j = ct ya j := fun j => hf ya j (by omega)
  have e2 : ∀ j, ct' ((im ya).2.2 1) j = ct ((im ya).2.2 1) j := fun j => hf _ j (by omega)
  have s0 := hr 0 (by omega)
  refine ⟨h1, h2, h3, h4, by rw [s0]; exact h5, ⟨?_, ?_, ?_, ?_, ?_, ?_, ?_, ?_⟩, ⟨?_, fun z => ?_⟩, fun j j0 j1 => ?_⟩
  · rw [e1, s0]; exact a1
  · rw [e1]; exact a2
  · rw [e1, hr _ (by omega)]; exact a3
  · rw [e1, hr _ (by omega)]; exact a4
  · rw [e1, hr _ (by omega)]; exact a5
  · rw [e1, hr _ (by omega)]; exact a6
  · rw [e1, hr _ (by omega)]; exact a7
  · rw [e1, hr _ (by omega)]; exact a8
  · rw [e1, hr _ (by omega)]; exact w1
  · rw [e1, hr _ (by omega)]; exact w2 (by rw [← hr _ (by omega)]; exact z)
  · rw [e2]
    rw [s0] at j1
    by_cases e : j = k
    · subst e; exact hh
    · exact ((h6 j j0 j1).frame fun x i hx => hf x i (by omega)).row fun i i0 i1 => hr i (by omega)
/-- numbers of the yard itself were written -/
theorem YR.scal {own : Int → Int} {y sz : Int} {im : Int → aIm} {ct ct' : Int → Int → Int} {ya : Int} {s s' : Int → Int} {dd dd' : Int} {N : Int → Int} (H : YR own y sz im ct ya s dd N) (hf : ∀ x j, x ≠ ya → ct' x j = ct x j) (hr : ∀ i, 64 ≤ i → s' i = s i) (s0 : s' 0 = s 0)
    (b : ct' ya 2 = s' 0 ∧ ct' ya 3 = dd' ∧ ct' ya 4 = s' 5 ∧ ct' ya 5 = s' 6 ∧ ct' ya 6 = s' 7 ∧ ct' ya 7 = s' 8 ∧ ct' ya 8 = s' 9 ∧ ct' ya 9 = s' 4) (w : ct' ya 11 = s' 12 ∧ (s' 12 ≠ -1 → ct' ya 10 = s' 11)) : YR own y sz im ct' ya s' dd' N := by
  obtain ⟨h1, h2, h3, h4, h5, -, -, h6⟩ := H
  refine ⟨h1, h2, h3, h4, by rw [s0]; exact h5, b, w, fun j j0 j1 => ?_⟩
  have ne := aob_ne h1 h3 (by decide)
  rw [hf _ _ (fun z => ne z.symm)]
  rw [s0] at j1
  exact ((h6 j j0 j1).frame fun x i hx => hf x i fun e => by rw [e] at hx; omega).row fun i i0 i1 => hr i (by omega)
theorem YR.frame {own : Int → Int} {y sz : Int} {im : Int → aIm} {ct ct' : Int → Int → Int} {ya : Int} {s : Int → Int} {dd : Int} {N : Int → Int} (H : YR own y sz im ct ya s dd N) (hf : ∀ x j, 10 * y ≤ own x → own x < 10 * y + 10 → ct' x j = ct x j) : YR own y sz im ct' ya s dd N := by
  obtain ⟨h1, h2, h3, h4, h5, ⟨a1, a2, a3, a4, a5, a6, a7, a8⟩, ⟨w1, w2⟩, h6⟩ := H
  have e1 : ∀ j, ct' ya j = ct ya j := fun j => hf ya j (by omega) (by omega)
  refine ⟨h1, h2, h3, h4, h5, ⟨?_, ?_, ?_, ?_, ?_, ?_, ?_, ?_⟩, ⟨?_, fun z => ?_⟩, fun j j0 j1 => ?_⟩
  · rw [e1]; exact a1
  · rw [e1]; exact a2
  · rw [e1]; exact a3
  · rw [e1]; exact a4
  · rw [e1]; exact a5
  · rw [e1]; exact a6
  · rw [e1]; exact a7
  · rw [e1]; exact a8
  · rw [e1]; exact w1
  · rw [e1]; exact w2 z
  · rw [hf _ _ (by omega) (by omega)]
    exact (h6 j j0 j1).frame fun x i hx => hf x i (by omega) (by omega)
theorem YR.ext {own : Int → Int} {y sz : Int} {im : Int → aIm} {ct : Int → Int → Int} {ya : Int} {s s' : Int → Int} {dd : Int} {N : Int → Int} (H : YR own y sz im ct ya s dd N) (hr : ∀ i, 0 ≤ i → i < 860 → i ≠ 3 → s' i = s i) : YR own y sz im ct ya s' dd N := by
  obtain ⟨h1, h2, h3, h4, h5, ⟨a1, a2, a3, a4, a5, a6, a7, a8⟩, ⟨w1, w2⟩, h6⟩ := H
  have s0 := hr 0 (by omega) (by omega) (by omega)
  refine ⟨h1, h2, h3, h4, by rw [s0]; exact h5, ⟨?_, a2, ?_, ?_, ?_, ?_, ?_, ?_⟩, ⟨?_, fun z => ?_⟩, fun j j0 j1 => ?_⟩
  · rw [s0]; exact a1
  · rw [hr _ (by omega) (by omega) (by omega)]; exact a3
  · rw [hr _ (by omega) (by omega) (by omega)]; exact a4
  · rw [hr _ (by omega) (by omega) (by omega)]; exact a5
  · rw [hr _ (by omega) (by omega) (by omega)]; exact a6
  · rw [hr _ (by omega) (by omega) (by omega)]; exact a7
  · rw [hr _ (by omega) (by omega) (by omega)]; exact a8
  · rw [hr _ (by omega) (by omega) (by omega)]; exact w1
  · rw [hr _ (by omega) (by omega) (by omega)]; exact w2 (by rw [← hr _ (by omega) (by omega) (by omega)]; exact z)
  · rw [s0] at j1
    exact (h6 j j0 j1).row fun i i0 i1 => hr i (by omega) (by omega) (by omega)
theorem YH.mono {own own' : Int → Int} {t sz sz' : Int} {im im' : Int → aIm} {ct ct' : Int → Int → Int} {a : Int} {s : Int → Int} {h nm : Int} (H : YH own t sz im ct a s h nm) (hz : sz ≤ sz') (hi : ∀ x, x < sz → im' x = im x) (hc : ∀ x, x < sz → ct' x = ct x) (ho : ∀ x, x < sz → own' x = own x) : YH own' t sz' im' ct' a s h nm := by
  obtain ⟨h1, h2, ⟨a1, a2, a3, a4, a5⟩, h4, h5, h6, h7, h8⟩ := H
  have e := hi a h1.1.2.1
  have c := hc a h1.1.2.1
  refine ⟨h1.mono hz hi, h2.mono h1 hz hi hc, ⟨by rw [c]; exact a1, by rw [c]; exact a2, by rw [c]; exact a3, by rw [c]; exact a4, by rw [c]; exact a5⟩, by rw [e]; exact h4, by rw [ho _ h1.1.2.1]; exact h5, ?_, ?_, fun f f0 f1 => ?_⟩
  · rw [e, ho _ h1.2.1.2.1]; exact h6
  · rw [e, ho _ h1.2.2.1.2.1]; exact h7
  · rw [e, hc _ h1.2.1.2.1, ho _ (h2.2.1 f f0 f1).2.1]; exact h8 f f0 f1
theorem YR.mono {own own' : Int → Int} {y sz sz' : Int} {im im' : Int → aIm} {ct ct' : Int → Int → Int} {ya : Int} {s : Int → Int} {dd : Int} {N : Int → Int} (H : YR own y sz im ct ya s dd N) (hz : sz ≤ sz') (hi : ∀ x, x < sz → im' x = im x) (hc : ∀ x, x < sz → ct' x = ct x) (ho : ∀ x, x < sz → own' x = own x) : YR own' y sz' im' ct' ya s dd N := by
  obtain ⟨h1, h2, h3, h4, h5, ⟨a1, a2, a3, a4, a5, a6, a7, a8⟩, ⟨w1, w2⟩, h6⟩ := H
  have e := hi ya h1.2.1
  have c := hc ya h1.2.1
  have c2 := hc _ h3.2.1
  refine ⟨⟨h1.1, by have := h1.2.1; omega, by rw [e]; exact h1.2.2⟩, by rw [ho _ h1.2.1]; exact h2, ?_, ?_, h5, ⟨?_, ?_, ?_, ?_, ?_, ?_, ?_, ?_⟩, ⟨?_, fun z => ?_⟩, fun j j0 j1 => ?_⟩
  · rw [e]; exact ⟨h3.1, by have := h3.2.1; omega, by rw [hi _ h3.2.1]; exact h3.2.2⟩
  · rw [e, ho _ h3.2.1]; exact h4
  · rw [c]; exact a1
  · rw [c]; exact a2
  · rw [c]; exact a3
  · rw [c]; exact a4
  · rw [c]; exact a5
  · rw [c]; exact a6
  · rw [c]; exact a7
  · rw [c]; exact a8
  · rw [c]; exact w1
  · rw [c]; exact w2 z
  · rw [e, c2]; exact (h6 j j0 j1).mono hz hi hc ho
/-! what a yard does, on a slot -/
def stK (s : Int → Int) (h t : Int) : Int → Int := us h (stor (s h) (nF (s h)) (sh h s) t).1
def stL (s : Int → Int) (h t : Int) : Int := (stor (s h) (nF (s h)) (sh h s) t).2
def brK (s : Int → Int) (k t : Int) : Int → Int := upA (upA (stK s (64 + 198 * k) t) 4 (w32 (s 4 + t))) 7 (w32 (s 7 + stL s (64 + 198 * k) t))
def haK (s : Int → Int) (k f : Int) : Int → Int := upA (us (64 + 198 * k) (harC f 16 (sh (64 + 198 * k) s))) 5 (w32 (s 5 + harN f 16 (sh (64 + 198 * k) s)))
def dyK (s : Int → Int) (h y : Int) : Int → Int := upA (upA (us h (dC (s h) (sh h s) (s (h + 1)) (s (h + 2)) y)) (h + 1) (dB (s h) (sh h s) (s (h + 1)) (s (h + 2)) y)) (h + 2) (dH (s h) (sh h s) (s (h + 1)) (s (h + 2)))
def laK (s : Int → Int) (k : Int) : Int := if s (64 + 198 * k + 3) = -1 then 0 else s (14 + 4 * s (64 + 198 * k + 3))
def paK (s : Int → Int) (k : Int) : Int → Int :=
  upA (upA (upA (dyK s (64 + 198 * k) (laK s k)) 6 (w32 (s 6 + dAte (s (64 + 198 * k)) (sh (64 + 198 * k) s) (s (64 + 198 * k + 1)) (s (64 + 198 * k + 2)) (laK s k)))) 9 (w32 (s 9 + dCame (s (64 + 198 * k)) (sh (64 + 198 * k) s)))) 8 (w32 (s 8 + dStar (s (64 + 198 * k)) (sh (64 + 198 * k) s) (s (64 + 198 * k + 1)) (s (64 + 198 * k + 2)) (laK s k)))
def paF : Nat → (Int → Int) → (Int → Int)
  | 0, s => s
  | k + 1, s => paK (paF k s) k
def paD : Nat → (Int → Int) → (Int → Int)
  | 0, s => s
  | d + 1, s => upA (paF (paD d s 0).toNat (paD d s)) 3 (paD d s 3 + 1)
theorem us_in {h n i : Int} {c : Int → Int} (h0 : 0 ≤ i) : us h c (h + 6 + i) = c i := by
  unfold us
  rw [show h + 6 + i - (h + 6) = i by omega]
theorem us_o {h n i : Int} {c s : Int → Int} (hc : ∀ j, (j < 0 ∨ 16 * n ≤ j) → c j = sh h s j) (hi : i < h + 6 ∨ h + 6 + 16 * n ≤ i) : us h c i = s i := by
  unfold us
  rw [hc _ (by omega)]
  unfold sh
  rw [show h + 6 + (i - (h + 6)) = i by omega]
theorem stK_o {s : Int → Int} {h t i : Int} (hn : 0 ≤ s h) (hi : i < h + 6 ∨ h + 6 + 16 * s h ≤ i) : stK s h t i = s i :=
  us_o (n := s h) (fun j hj => stor_out (by unfold nF; omega) j hj) hi
theorem stK_f {s : Int → Int} {h t : Int} : sh h (stK s h t) = (stor (s h) (nF (s h)) (sh h s) t).1 := sh_us
theorem dyK_o {s : Int → Int} {h y i : Int} (hn : 0 ≤ s h) (hi : i < h + 6 ∨ h + 6 + 16 * s h ≤ i) (h1 : i ≠ h + 1) (h2 : i ≠ h + 2) : dyK s h y i = s i := by
  unfold dyK
  rw [upA_n h2, upA_n h1]
  exact us_o (n := s h) (fun j hj => dC_out hn j hj) hi
theorem dyK_f {s : Int → Int} {h y i : Int} (h0 : 0 ≤ i) : sh h (dyK s h y) i = dC (s h) (sh h s) (s (h + 1)) (s (h + 2)) y i := by
  unfold dyK sh
  rw [upA_n (by omega), upA_n (by omega)]
  unfold us
  rw [show h + 6 + i - (h + 6) = i by omega]
/-- the lines of descent -/
def LR (own : Int → Int) (sz : Int) (im : Int → aIm) (ct : Int → Int → Int) (la : Int) (s N : Int → Int) : Prop :=
  aob sz im la 6 ∧ (aar sz im ((im la).2.2 0) 3 16 ∧ aar sz im ((im la).2.2 1) 2 16 ∧ aar sz im ((im la).2.2 2) 2 16 ∧ aar sz im ((im la).2.2 3) 2 16 ∧ aar sz im ((im la).2.2 4) 2 8) ∧
  (own la = -1 ∧ own ((im la).2.2 0) = -1 ∧ own ((im la).2.2 1) = -1 ∧ own ((im la).2.2 2) = -1 ∧ own ((im la).2.2 3) = -1 ∧ own ((im la).2.2 4) = -1) ∧ (ct la 6 = s 1 ∧ ct la 7 = s 2) ∧ ((0 ≤ s 1 ∧ s 1 ≤ 8) ∧ 0 ≤ s 2 ∧ s 2 ≤ 8) ∧
  (∀ q, 0 ≤ q → q < s 1 → ct ((im la).2.2 1) q = s (15 + 4 * q) ∧ ct ((im la).2.2 2) q = (if s (16 + 4 * q) = -1 then -1 else 8 + s (16 + 4 * q)) ∧ ct ((im la).2.2 3) q = s (17 + 4 * q) ∧ ct ((im la).2.2 4) q = s (14 + 4 * q) ∧ ct ((im la).2.2 0) q = N (12 + q)) ∧
  ∀ d, 0 ≤ d → d < s 2 → ct ((im la).2.2 1) (8 + d) = s (46 + 2 * d) ∧ ct ((im la).2.2 2) (8 + d) = -1 ∧ ct ((im la).2.2 3) (8 + d) = s (47 + 2 * d) ∧ ct ((im la).2.2 0) (8 + d) = N (4 + d)
theorem LR.frame {own : Int → Int} {sz : Int} {im : Int → aIm} {ct ct' : Int → Int → Int} {la : Int} {s N : Int → Int} (H : LR own sz im ct la s N) (hf : ∀ x j, own x = -1 → ct' x j = ct x j) : LR own sz im ct' la s N := by
  obtain ⟨h1, h2, ⟨o1, o2, o3, o4, o5, o6⟩, ⟨q1, q2⟩, h5, h6, h7⟩ := H
  refine ⟨h1, h2, ⟨o1, o2, o3, o4, o5, o6⟩, ⟨by rw [hf _ _ o1]; exact q1, by rw [hf _ _ o1]; exact q2⟩, h5, fun q q0 q1 => ?_, fun d d0 d1 => ?_⟩
  · rw [hf _ _ o3, hf _ _ o4, hf _ _ o5, hf _ _ o6, hf _ _ o2]; exact h6 q q0 q1
  · rw [hf _ _ o3, hf _ _ o4, hf _ _ o5, hf _ _ o2]; exact h7 d d0 d1
theorem LR.row {own : Int → Int} {sz : Int} {im : Int → aIm} {ct : Int → Int → Int} {la : Int} {s s' N : Int → Int} (H : LR own sz im ct la s N) (h1 : s' 1 = s 1) (h2 : s' 2 = s 2) (hr : ∀ i, 14 ≤ i → i < 64 → s' i = s i) : LR own sz im ct la s' N := by
  obtain ⟨g1, g2, g3, ⟨q1, q2⟩, g5, g6, g7⟩ := H
  refine ⟨g1, g2, g3, ⟨by rw [h1]; exact q1, by rw [h2]; exact q2⟩, by rw [h1, h2]; exact g5, fun q q0 q1 => ?_, fun d d0 d1 => ?_⟩
  · rw [h1] at q1
    rw [hr _ (by omega) (by omega), hr _ (by omega) (by omega), hr _ (by omega) (by omega), hr _ (by omega) (by omega)]
    exact g6 q q0 q1
  · rw [h2] at d1
    rw [hr _ (by omega) (by omega), hr _ (by omega) (by omega)]
    exact g7 d d0 d1
/-- bounds enough for a day -/
def PD (s : Int → Int) : Prop := (0 ≤ s 0 ∧ s 0 ≤ 4) ∧ (∀ k, 0 ≤ k → k < s 0 → (1 ≤ s (64 + 198 * k) ∧ s (64 + 198 * k) ≤ 12) ∧ rgF (s (64 + 198 * k)) (sh (64 + 198 * k) s) ∧ (0 ≤ s (64 + 198 * k + 1) ∧ s (64 + 198 * k + 1) ≤ 50000000) ∧ (0 ≤ s (64 + 198 * k + 2) ∧ s (64 + 198 * k + 2) ≤ 1000) ∧ (-1 ≤ s (64 + 198 * k + 3) ∧ s (64 + 198 * k + 3) < s 1)) ∧
  (0 ≤ s 1 ∧ s 1 ≤ 8) ∧ ∀ q, 0 ≤ q → q < s 1 → 0 ≤ s (14 + 4 * q) ∧ s (14 + 4 * q) ≤ 16
theorem paK_o {s : Int → Int} {k i : Int} (k0 : 0 ≤ k) (hn : 1 ≤ s (64 + 198 * k) ∧ s (64 + 198 * k) ≤ 12) (hi : (i < 64 ∧ i ≠ 6 ∧ i ≠ 8 ∧ i ≠ 9) ∨ (64 ≤ i ∧ i < 64 + 198 * k) ∨ 64 + 198 * k + 198 ≤ i) : paK s k i = s i := by
  unfold paK
  rw [upA_n (by omega), upA_n (by omega), upA_n (by omega)]
  exact dyK_o (by omega) (by omega) (by omega) (by omega)
theorem paF_lo {s : Int → Int} (h : PD s) : ∀ {k : Nat}, (k : Int) ≤ s 0 → (∀ i, i < 64 → i ≠ 6 → i ≠ 8 → i ≠ 9 → paF k s i = s i) ∧ ∀ i, 64 + 198 * (k : Int) ≤ i → paF k s i = s i
  | 0, _ => ⟨fun _ _ _ _ _ => rfl, fun _ _ => rfl⟩
  | k + 1, hk => by
    obtain ⟨i1, i2⟩ := paF_lo h (k := k) (by omega)
    have hn := (h.2.1 k (by omega) (by omega)).1
    rw [← i2 (64 + 198 * k) (by omega)] at hn
    refine ⟨fun i a b c d => ?_, fun i a => ?_⟩
    · show paK (paF k s) k i = _
      rw [paK_o (by omega) hn (by omega)]
      exact i1 i a b c d
    · show paK (paF k s) k i = _
      rw [paK_o (by omega) hn (by omega)]
      exact i2 i (by omega)
theorem paD_lo {s : Int → Int} : ∀ {d : Nat}, (∀ j, j < d → PD (paD j s)) → ∀ i, i < 64 → i ≠ 3 → i ≠ 6 → i ≠ 8 → i ≠ 9 → paD d s i = s i
  | 0, _, _, _, _, _, _, _ => rfl
  | d + 1, h, i, h0, h3, h6, h8, h9 => by
    have e := paD_lo (d := d) (fun j hj => h j (by omega)) i h0 h3 h6 h8 h9
    have hp := h d (by omega)
    show upA _ 3 _ i = _
    rw [upA_n h3, (paF_lo hp (by have := hp.1; omega)).1 i h0 h6 h8 h9]
    exact e
theorem brK_o {s : Int → Int} {k t i : Int} (k0 : 0 ≤ k) (hn : 1 ≤ s (64 + 198 * k) ∧ s (64 + 198 * k) ≤ 12) (hi : (i < 70 + 198 * k ∧ i ≠ 4 ∧ i ≠ 7) ∨ 64 + 198 * k + 198 ≤ i) : brK s k t i = s i := by
  unfold brK
  rw [upA_n (by omega), upA_n (by omega)]
  exact stK_o (by omega) (by omega)
theorem brK_f {s : Int → Int} {k t i : Int} (k0 : 0 ≤ k) (h0 : 0 ≤ i) : sh (64 + 198 * k) (brK s k t) i = (stor (s (64 + 198 * k)) (nF (s (64 + 198 * k))) (sh (64 + 198 * k) s) t).1 i := by
  rw [← stK_f]
  unfold brK sh
  rw [upA_n (by omega), upA_n (by omega)]
theorem haK_o {s : Int → Int} {k f i : Int} (k0 : 0 ≤ k) (f0 : 0 ≤ f) (f1 : f < s (64 + 198 * k)) (hn : s (64 + 198 * k) ≤ 12) (hi : (i < 70 + 198 * k ∧ i ≠ 5) ∨ 64 + 198 * k + 198 ≤ i) : haK s k f i = s i := by
  unfold haK
  rw [upA_n (by omega)]
  refine us_o (n := s (64 + 198 * k)) (fun j hj => ?_) (by omega)
  unfold harC
  rw [if_neg (by omega)]
theorem haK_f {s : Int → Int} {k f i : Int} (k0 : 0 ≤ k) (h0 : 0 ≤ i) : sh (64 + 198 * k) (haK s k f) i = harC f 16 (sh (64 + 198 * k) s) i := by
  unfold haK
  show upA _ _ _ _ = _
  rw [upA_n (by omega)]
  unfold us
  rw [show 64 + 198 * k + 6 + i - (64 + 198 * k + 6) = i by omega]
theorem us_upA {h f v : Int} {c : Int → Int} : us h (upA c f v) = upA (us h c) (h + 6 + f) v := by
  funext i
  unfold us upA
  by_cases e : i = h + 6 + f
  · rw [if_pos (by omega), if_pos e]
  · rw [if_neg (by omega), if_neg e]
/-- two frames change places, up to their place j -/
def mvS (a b j : Int) (s : Int → Int) : Int → Int := fun i => if a ≤ i ∧ i < a + j then s (b + (i - a)) else if b ≤ i ∧ i < b + j then s (a + (i - b)) else s i
theorem mvS_0 {a b : Int} {s : Int → Int} : mvS a b 0 s = s := by
  funext i
  unfold mvS
  rw [if_neg (by omega), if_neg (by omega)]
theorem mvS_put {a b j : Int} {s : Int → Int} (h0 : 0 ≤ j) (h1 : j < 16) (hd : a + 16 ≤ b ∨ b + 16 ≤ a) : upA (upA (mvS a b j s) (a + j) (s (b + j))) (b + j) (s (a + j)) = mvS a b (j + 1) s := by
  funext i
  unfold mvS
  by_cases e : i = b + j
  · subst e
    rw [upA_s, if_neg (by omega), if_pos (by omega), show a + (b + j - b) = a + j by omega]
  · rw [upA_n e]
    by_cases e2 : i = a + j
    · subst e2
      rw [upA_s, if_pos (by omega), show b + (a + j - a) = b + j by omega]
    · rw [upA_n e2]
      by_cases q : a ≤ i ∧ i < a + j
      · rw [if_pos q, if_pos (by omega)]
      · by_cases q2 : b ≤ i ∧ i < b + j
        · rw [if_neg q, if_pos q2, if_neg (by omega), if_pos (by omega)]
        · rw [if_neg q, if_neg q2, if_neg (by omega), if_neg (by omega)]
/-- a piece of a row is laid over another -/
def cpR (f t n : Int) (s : Int → Int) : Int → Int := fun i => if t ≤ i ∧ i < t + n then s (f + (i - t)) else s i
theorem cpR_0 {f t : Int} {s : Int → Int} : cpR f t 0 s = s := by
  funext i
  unfold cpR
  rw [if_neg (by omega)]
theorem cpR_put {f t n : Int} {s : Int → Int} (h0 : 0 ≤ n) : upA (cpR f t n s) (t + n) (s (f + n)) = cpR f t (n + 1) s := by
  funext i
  unfold cpR
  by_cases e : i = t + n
  · subst e
    rw [upA_s, if_pos (by omega), show f + (t + n - t) = f + n by omega]
  · rw [upA_n e]
    by_cases q : t ≤ i ∧ i < t + n
    · rw [if_pos q, if_pos (by omega)]
    · rw [if_neg q, if_neg (by omega)]
theorem cpR_at {f t n j : Int} {s : Int → Int} (hd : f + j < t ∨ t + n ≤ f + j) : cpR f t n s (f + j) = s (f + j) := by
  unfold cpR
  rw [if_neg (by omega)]
def crw (s : Int → Int) (k : Int) : Prop := s (64 + 198 * k + 3) ≠ -1 ∧ 20 ≤ s (64 + 198 * k + 1) ∧ isum (fun i => sv 2 (sh (64 + 198 * k) s i)) (nF (s (64 + 198 * k))) = 0
def mst (s : Int → Int) (q k : Int) : Prop := (∀ j, 0 ≤ j → j < s 0 → s (64 + 198 * j + 3) ≠ q) ∧ s 12 ≠ q ∧ s (64 + 198 * k + 3) = -1
