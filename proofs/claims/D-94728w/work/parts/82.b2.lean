set_option maxRecDepth 100000
/-! the Reader: orders of a season -/
def ZR (own : Int → Int) (sz : Int) (im : Int → aIm) (ct : Int → Int → Int) (a : Int) (s N tp : Int → Int) (n p : Int) : Prop := RDX sz im ct a tp n p ∧ (∃ dd, YR own 0 sz im ct 10 s dd N) ∧ LR own sz im ct (ct 10 0) s N ∧ own a = -3 ∧ PI s
def GR (a sz : Int) (im : Int → aIm) (ct : Int → Int → Int) (sz1 : Int) (im1 : Int → aIm) (ct1 : Int → Int → Int) : Prop := sz ≤ sz1 ∧ (∀ x, x < sz → im1 x = im x ∧ (x ≠ a → ct1 x = ct x)) ∧ ct1 a 5 = ct a 5
def GB (a sz : Int) (im : Int → aIm) (ct : Int → Int → Int) (sz1 : Int) (im1 : Int → aIm) (ct1 : Int → Int → Int) (k pl : Int) : Prop := sz ≤ sz1 ∧ (∀ x, x < sz → im1 x = im x ∧ (x ≠ a → x ≠ 7 → ct1 x = ct x)) ∧ ct1 7 6 = k ∧ ct1 7 7 = pl
theorem GR.rf {a sz : Int} {im : Int → aIm} {ct : Int → Int → Int} : GR a sz im ct sz im ct := ⟨Int.le_refl _, fun _ _ => ⟨rfl, fun _ => rfl⟩, rfl⟩
theorem GR.fa {a sz sz1 : Int} {im im1 : Int → aIm} {ct ct1 ct2 : Int → Int → Int} (h : GR a sz im ct sz1 im1 ct1) (f : FA a ct1 ct2) : GR a sz im ct sz1 im1 ct2 := ⟨h.1, fun x hx => ⟨(h.2.1 x hx).1, fun hxa => (f.1 x hxa).trans ((h.2.1 x hx).2 hxa)⟩, f.2.trans h.2.2⟩
theorem GR.fb {a sz sz1 k pl : Int} {im im1 : Int → aIm} {ct ct1 ct2 : Int → Int → Int} (h : GR a sz im ct sz1 im1 ct1) (f : FB a ct1 ct2 k pl) : GB a sz im ct sz1 im1 ct2 k pl := ⟨h.1, fun x hx => ⟨(h.2.1 x hx).1, fun hxa h7 => (f.1 x hxa h7).trans ((h.2.1 x hx).2 hxa)⟩, f.2⟩
theorem GR.new {a sz sz1 : Int} {im im1 : Int → aIm} {ct ct1 : Int → Int → Int} {z : aIm} {g : Int → Int} (h : GR a sz im ct sz1 im1 ct1) (ha : a < sz1) : GR a sz im ct (sz1 + 1) (upA im1 sz1 z) (upA ct1 sz1 g) := ⟨by have := h.1; omega, fun x hx => by
  have := h.1
  rw [upA_n (by omega), upA_n (by omega)]; exact h.2.1 x hx, by rw [upA_n (by omega)]; exact h.2.2⟩
theorem RDX.new {sz : Int} {im : Int → aIm} {ct : Int → Int → Int} {a : Int} {tp : Int → Int} {n p : Int} {z : aIm} {g : Int → Int} (h : RDX sz im ct a tp n p) : RDX (sz + 1) (upA im sz z) (upA ct sz g) a tp n p := by
  have q0 := h.1.2.1.1.2.1
  have q6 := h.1.2.1.2.2.2.1.2.1
  have q7 := h.1.2.1.2.2.2.2.2.1
  have qa := h.1.1.1.2.1
  exact h.mono2 (by omega) (fun x hx => upA_n (by omega)) (upA_n (by omega)) (fun j _ => by rw [upA_n (by omega)])
theorem ZR.gr {own : Int → Int} {sz sz1 : Int} {im im1 : Int → aIm} {ct ct1 : Int → Int → Int} {a : Int} {s N tp : Int → Int} {n p q : Int} (h : ZR own sz im ct a s N tp n p) (g : GR a sz im ct sz1 im1 ct1) (HR1 : RDX sz1 im1 ct1 a tp n q) : ZR own sz1 im1 ct1 a s N tp n q := by
  obtain ⟨h1, ⟨dd, h2⟩, h3, h4, h5⟩ := h
  have T : TG own own sz sz1 im im1 ct ct1 (fun t => t = -3) := ⟨g.1, fun x hx => (g.2.1 x hx).1, fun x hx hf => (g.2.1 x hx).2 (fun z => hf (by rw [z]; exact h4)), fun _ _ _ => rfl⟩
  have e10 : ct1 10 = ct 10 := T.2.2.1 10 h2.1.2.1 (by intro z; have := h2.2.1; omega)
  exact ⟨HR1, ⟨dd, YR.tg T (fun t t0 t1 z => by omega) h2⟩, by rw [e10]; exact LR.tg T (by decide) h3, h4, h5⟩
