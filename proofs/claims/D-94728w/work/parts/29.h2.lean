/-! H2: a hive of BeeYard in the heap -/
theorem aup_s {ct : Int → Int → Int} {a i v : Int} : aup ct a i v a i = v := by simp [aup]
theorem aup_n {ct : Int → Int → Int} {a i v b j : Int} (h : ¬ (b = a ∧ j = i)) : aup ct a i v b j = ct b j := by simp only [aup, h, if_false]
theorem aar_ne {sz : Int} {im : Int → aIm} {a b n m : Int} {t u : Nat} (h1 : aar sz im a t n) (h2 : aar sz im b u m) (h : t ≠ u) : a ≠ b := by
  intro e
  subst e
  have := h1.2.2.1
  have := h2.2.2.1
  omega
theorem aob_ne {sz : Int} {im : Int → aIm} {a b n : Int} {c t : Nat} (h1 : aob sz im a c) (h2 : aar sz im b t n) (h : c < 50) : a ≠ b := by
  intro e
  subst e
  have := h1.2.2
  have := h2.2.2.1
  omega
theorem aob_nec {sz : Int} {im : Int → aIm} {a b : Int} {c t : Nat} (h1 : aob sz im a c) (h2 : aob sz im b t) (h : c ≠ t) : a ≠ b := by
  intro e
  subst e
  have := h1.2.2
  have := h2.2.2
  omega
/-- its shape: the object a, n frames -/
def HvS (sz : Int) (im : Int → aIm) (a n : Int) : Prop := aob sz im a 9 ∧ aar sz im ((im a).2.2 1) 7 n ∧ aar sz im ((im a).2.2 2) 2 n ∧ 1 ≤ n ∧ n ≤ 12
/-- its frames, and the fields c in them -/
def HvC (sz : Int) (im : Int → aIm) (ct : Int → Int → Int) (a n : Int) (c : Int → Int) : Prop :=
  (∀ j, 0 ≤ j → j < n → ct ((im a).2.2 2) j = ordF n j) ∧ (∀ f, 0 ≤ f → f < n → aar sz im (ct ((im a).2.2 1) f) 1 16) ∧ (∀ f g, 0 ≤ f → f < n → 0 ≤ g → g < n → ct ((im a).2.2 1) f = ct ((im a).2.2 1) g → f = g) ∧
  ∀ f i, 0 ≤ f → f < n → 0 ≤ i → i < 16 → ct (ct ((im a).2.2 1) f) i = c (16 * f + i)
/-- the cells of its fields -/
def hvf (im : Int → aIm) (ct : Int → Int → Int) (a n x : Int) : Prop := ∃ f, 0 ≤ f ∧ f < n ∧ x = ct ((im a).2.2 1) f
theorem HvC.at {sz : Int} {im : Int → aIm} {ct : Int → Int → Int} {a n k : Int} {c : Int → Int} (h : HvC sz im ct a n c) (h0 : 0 ≤ k) (h1 : k < 16 * n) :
    ct ((im a).2.2 2) (k / 16) = ordF n (k / 16) ∧ 0 ≤ ordF n (k / 16) ∧ ordF n (k / 16) < n ∧ aar sz im (ct ((im a).2.2 1) (ordF n (k / 16))) 1 16 ∧ ct (ct ((im a).2.2 1) (ordF n (k / 16))) (k % 16) = c (fld n k) := by
  have o := ordF_in (n := n) (j := k / 16) (by omega) (by omega)
  exact ⟨h.1 _ (by omega) (by omega), o.1, o.2, h.2.1 _ o.1 o.2, h.2.2.2 _ _ o.1 o.2 (by omega) (by omega)⟩
theorem HvC.put {sz : Int} {im : Int → aIm} {ct : Int → Int → Int} {a n f i v : Int} {c : Int → Int} (hS : HvS sz im a n) (h : HvC sz im ct a n c) (h0 : 0 ≤ f) (h1 : f < n) (h2 : 0 ≤ i) (h3 : i < 16) :
    HvC sz im (aup ct (ct ((im a).2.2 1) f) i v) a n (upA c (16 * f + i) v) ∧ (∀ j, aup ct (ct ((im a).2.2 1) f) i v ((im a).2.2 1) j = ct ((im a).2.2 1) j) := by
  obtain ⟨s1, s2, s3, s4, s5⟩ := hS
  obtain ⟨c1, c2, c3, c4⟩ := h
  have n1 : (im a).2.2 1 ≠ ct ((im a).2.2 1) f := aar_ne s2 (c2 f h0 h1) (by decide)
  have n2 : (im a).2.2 2 ≠ ct ((im a).2.2 1) f := aar_ne s3 (c2 f h0 h1) (by decide)
  have e1 : ∀ j, aup ct (ct ((im a).2.2 1) f) i v ((im a).2.2 1) j = ct ((im a).2.2 1) j := fun j => aup_n fun z => n1 z.1
  refine ⟨⟨fun j j0 j1 => ?_, fun g g0 g1 => ?_, fun g g' g0 g1 g2 g3 e => ?_, fun g j g0 g1 j0 j1 => ?_⟩, e1⟩
  · rw [aup_n fun z => n2 z.1]; exact c1 j j0 j1
  · rw [e1]; exact c2 g g0 g1
  · rw [e1, e1] at e; exact c3 g g' g0 g1 g2 g3 e
  · rw [e1]
    by_cases hg : g = f
    · subst hg
      by_cases hj : j = i
      · subst hj; rw [aup_s, upA_s]
      · rw [aup_n fun z => hj z.2, upA_n (by omega)]; exact c4 g j g0 g1 j0 j1
    · rw [aup_n fun z => hg (c3 g f g0 g1 h0 h1 z.1), upA_n (by omega)]; exact c4 g j g0 g1 j0 j1
theorem HvC.ext {sz : Int} {im : Int → aIm} {ct ct' : Int → Int → Int} {a n : Int} {c c' : Int → Int} (h : HvC sz im ct a n c) (h1 : ∀ j, ct' ((im a).2.2 2) j = ct ((im a).2.2 2) j) (h2 : ∀ j, ct' ((im a).2.2 1) j = ct ((im a).2.2 1) j) (h3 : ∀ f i, 0 ≤ f → f < n → 0 ≤ i → i < 16 → ct' (ct ((im a).2.2 1) f) i = ct (ct ((im a).2.2 1) f) i) (h4 : eqF n c c') : HvC sz im ct' a n c' := by
  obtain ⟨c1, c2, c3, c4⟩ := h
  refine ⟨fun j j0 j1 => by rw [h1]; exact c1 j j0 j1, fun g g0 g1 => by rw [h2]; exact c2 g g0 g1, fun g g' g0 g1 g2 g3 e => ?_, fun g j g0 g1 j0 j1 => ?_⟩
  · rw [h2, h2] at e; exact c3 g g' g0 g1 g2 g3 e
  · rw [h2, h3 g j g0 g1 j0 j1, c4 g j g0 g1 j0 j1]; exact h4 _ (by omega) (by omega)
theorem hvf_put {im : Int → aIm} {ct ct' : Int → Int → Int} {a n : Int} (h : ∀ j, ct' ((im a).2.2 1) j = ct ((im a).2.2 1) j) (x : Int) : hvf im ct' a n x ↔ hvf im ct a n x := by
  unfold hvf
  simp only [h]
