set_option maxRecDepth 100000
/-! the Reader: steps and blocks of a season, BeeYard -/
theorem c_add_10 {Z : aZ} {M : aMD} {d d' kc ks pc kc2 ks2 : Nat} {L : List (Option aV)} {st : List aV} {G : aG} {v0 : aV} {a : Int} (hkc : 1 + kc2 ≤ kc) (hks : 120 + ks2 ≤ ks) (hM : M.1.cls = RX8) (hd : decode M.2.1 pc = .ok (.invokevirtual 244, 3)) (ho : aob G.1 G.2.1 a 10) (hw : stW st ≤ 8) (hdd : d' + 1 ≤ d) (hm : AMet md_X11_add d' 1 120 (vR a :: [v0]) G (aK Z M d kc2 ks2 pc L st)) : AW Z M d kc ks pc L (v0 :: vR a :: st) G := AW.widen hkc hks (aw_callU (x := ⟨"BeeYard$Block", "add", "(LBeeYard$Step;)V"⟩) (C9 := "BeeYard$Loop") (owner := "BeeYard$Block") (as := [v0]) mok_X11_add (by rw [hM]; exact q982) q984 q985 q983 rfl ⟨by decide, by decide, by decide +kernel⟩ hd ho ⟨_, rfl, rfl⟩ rfl hw hdd hm)
theorem c_add_11 {Z : aZ} {M : aMD} {d d' kc ks pc kc2 ks2 : Nat} {L : List (Option aV)} {st : List aV} {G : aG} {v0 : aV} {a : Int} (hkc : 1 + kc2 ≤ kc) (hks : 120 + ks2 ≤ ks) (hM : M.1.cls = RX8) (hd : decode M.2.1 pc = .ok (.invokevirtual 244, 3)) (ho : aob G.1 G.2.1 a 11) (hw : stW st ≤ 8) (hdd : d' + 1 ≤ d) (hm : AMet md_X11_add d' 1 120 (vR a :: [v0]) G (aK Z M d kc2 ks2 pc L st)) : AW Z M d kc ks pc L (v0 :: vR a :: st) G := AW.widen hkc hks (aw_callU (x := ⟨"BeeYard$Block", "add", "(LBeeYard$Step;)V"⟩) (C9 := "BeeYard$When") (owner := "BeeYard$Block") (as := [v0]) mok_X11_add (by rw [hM]; exact q982) q984 q986 q983 rfl ⟨by decide, by decide, by decide +kernel⟩ hd ho ⟨_, rfl, rfl⟩ rfl hw hdd hm)
/-- the reader and a block were written -/
def FSS (own : Int → Int) (a b sz : Int) (im : Int → aIm) (ct : Int → Int → Int) (own1 : Int → Int) (sz1 : Int) (im1 : Int → aIm) (ct1 : Int → Int → Int) : Prop := sz ≤ sz1 ∧ (∀ x, x < sz → im1 x = im x ∧ own1 x = own x ∧ (x ≠ a → x ≠ b → x ≠ ct b 0 → ct1 x = ct x)) ∧ (ct1 b 0 = ct b 0 ∨ sz ≤ ct1 b 0)
/-- the reader alone -/
def FSB (own : Int → Int) (a sz : Int) (im : Int → aIm) (ct : Int → Int → Int) (own1 : Int → Int) (sz1 : Int) (im1 : Int → aIm) (ct1 : Int → Int → Int) : Prop := sz ≤ sz1 ∧ ∀ x, x < sz → im1 x = im x ∧ own1 x = own x ∧ (x ≠ a → ct1 x = ct x)
/-- a fault was noted -/
def G4 (own : Int → Int) (sz : Int) (im : Int → aIm) (ct : Int → Int → Int) (sz1 : Int) (im1 : Int → aIm) (ct1 : Int → Int → Int) (k pl : Int) : Prop := sz ≤ sz1 ∧ (∀ x, x < sz → im1 x = im x ∧ (own x ≠ -3 → own x ≠ -4 → x ≠ 7 → ct1 x = ct x)) ∧ ct1 7 6 = k ∧ ct1 7 7 = pl
theorem FSS.rf {own : Int → Int} {a b sz : Int} {im : Int → aIm} {ct : Int → Int → Int} : FSS own a b sz im ct own sz im ct := ⟨Int.le_refl _, fun _ _ => ⟨rfl, rfl, fun _ _ _ => rfl⟩, Or.inl rfl⟩
theorem FSS.trans {own own1 own2 : Int → Int} {a b sz sz1 sz2 : Int} {im im1 im2 : Int → aIm} {ct ct1 ct2 : Int → Int → Int} (h : FSS own a b sz im ct own1 sz1 im1 ct1) (k : FSS own1 a b sz1 im1 ct1 own2 sz2 im2 ct2) : FSS own a b sz im ct own2 sz2 im2 ct2 := by
  obtain ⟨h1, h2, h3⟩ := h
  obtain ⟨k1, k2, k3⟩ := k
  refine ⟨by omega, fun x hx => ?_, by omega⟩
  obtain ⟨a1, a2, a3⟩ := h2 x hx
  obtain ⟨b1, b2, b3⟩ := k2 x (by omega)
  exact ⟨b1.trans a1, b2.trans a2, fun x1 x2 x3 => (b3 x1 x2 (by omega)).trans (a3 x1 x2 x3)⟩
theorem FSS.fa {own own1 : Int → Int} {a b sz sz1 : Int} {im im1 : Int → aIm} {ct ct1 ct2 : Int → Int → Int} (h : FSS own a b sz im ct own1 sz1 im1 ct1) (hab : b ≠ a) (f : ∀ x, x ≠ a → ct2 x = ct1 x) : FSS own a b sz im ct own1 sz1 im1 ct2 :=
  ⟨h.1, fun x hx => ⟨(h.2.1 x hx).1, (h.2.1 x hx).2.1, fun x1 x2 x3 => (f x x1).trans ((h.2.1 x hx).2.2 x1 x2 x3)⟩, by rw [f b hab]; exact h.2.2⟩
theorem FSS.g4 {own own1 : Int → Int} {a b sz sz1 sz2 k pl : Int} {im im1 im2 : Int → aIm} {ct ct1 ct2 : Int → Int → Int} (h : FSS own a b sz im ct own1 sz1 im1 ct1) (ha : own a = -3) (hb : own b = -4) (ht : own (ct b 0) = -4) (g : G4 own1 sz1 im1 ct1 sz2 im2 ct2 k pl) : G4 own sz im ct sz2 im2 ct2 k pl :=
  ⟨by have := h.1; have := g.1; omega, fun x hx => by
    obtain ⟨a1, a2, a3⟩ := h.2.1 x hx
    obtain ⟨b1, b2⟩ := g.2.1 x (by have := h.1; omega)
    exact ⟨b1.trans a1, fun x1 x2 x3 => (b2 (by rw [a2]; exact x1) (by rw [a2]; exact x2) x3).trans (a3 (fun z => x1 (by rw [z]; exact ha)) (fun z => x2 (by rw [z]; exact hb)) (fun z => x2 (by rw [z]; exact ht)))⟩, g.2.2⟩
theorem FSB.g4 {own own1 : Int → Int} {a sz sz1 sz2 k pl : Int} {im im1 im2 : Int → aIm} {ct ct1 ct2 : Int → Int → Int} (h : FSB own a sz im ct own1 sz1 im1 ct1) (ha : own a = -3) (g : G4 own1 sz1 im1 ct1 sz2 im2 ct2 k pl) : G4 own sz im ct sz2 im2 ct2 k pl :=
  ⟨by have := h.1; have := g.1; omega, fun x hx => by
    obtain ⟨a1, a2, a3⟩ := h.2 x hx
    obtain ⟨b1, b2⟩ := g.2.1 x (by have := h.1; omega)
    exact ⟨b1.trans a1, fun x1 x2 x3 => (b2 (by rw [a2]; exact x1) (by rw [a2]; exact x2) x3).trans (a3 (fun z => x1 (by rw [z]; exact ha)))⟩, g.2.2⟩
theorem G4.fb {own : Int → Int} {a sz k pl : Int} {im : Int → aIm} {ct ct1 : Int → Int → Int} (ha : own a = -3) (f : FB a ct ct1 k pl) : G4 own sz im ct sz im ct1 k pl := ⟨Int.le_refl _, fun x hx => ⟨rfl, fun x1 x2 x3 => f.1 x (fun z => x1 (by rw [z]; exact ha)) x3⟩, f.2⟩
theorem G4.gb {own : Int → Int} {a sz sz1 k pl : Int} {im im1 : Int → aIm} {ct ct1 : Int → Int → Int} (ha : own a = -3) (f : GB a sz im ct sz1 im1 ct1 k pl) : G4 own sz im ct sz1 im1 ct1 k pl := ⟨f.1, fun x hx => ⟨(f.2.1 x hx).1, fun x1 x2 x3 => (f.2.1 x hx).2 (fun z => x1 (by rw [z]; exact ha)) x3⟩, f.2.2⟩
theorem G4.pre {own : Int → Int} {a sz sz1 k pl : Int} {im im1 : Int → aIm} {ct ct0 ct1 : Int → Int → Int} (ha : own a = -3) (f : ∀ x, x ≠ a → ct x = ct0 x) (g : G4 own sz im ct sz1 im1 ct1 k pl) : G4 own sz im ct0 sz1 im1 ct1 k pl := ⟨g.1, fun x hx => ⟨(g.2.1 x hx).1, fun x1 x2 x3 => ((g.2.1 x hx).2 x1 x2 x3).trans (f x (fun z => x1 (by rw [z]; exact ha)))⟩, g.2.2⟩
theorem ZR.tg4 {own own1 : Int → Int} {sz sz1 : Int} {im im1 : Int → aIm} {ct ct1 : Int → Int → Int} {a : Int} {s N tp : Int → Int} {n p q : Int} (h : ZR own sz im ct a s N tp n p) (hz : sz ≤ sz1) (T : ∀ x, x < sz → im1 x = im x ∧ own1 x = own x ∧ (own x ≠ -3 → own x ≠ -4 → ct1 x = ct x)) (HR1 : RDX sz1 im1 ct1 a tp n q) : ZR own1 sz1 im1 ct1 a s N tp n q := by
  obtain ⟨h1, ⟨dd, h2⟩, h3, h4, h5⟩ := h
  have T9 : TG own own1 sz sz1 im im1 ct ct1 (fun t => t = -3 ∨ t = -4) := ⟨hz, fun x hx => (T x hx).1, fun x hx hf => (T x hx).2.2 (fun z => hf (Or.inl z)) (fun z => hf (Or.inr z)), fun x hx _ => (T x hx).2.1⟩
  have e10 : ct1 10 = ct 10 := T9.2.2.1 10 h2.1.2.1 (by intro z; have := h2.2.1; omega)
  exact ⟨HR1, ⟨dd, YR.tg T9 (fun t t0 t1 z => by omega) h2⟩, by rw [e10]; exact LR.tg T9 (by omega) h3, by rw [(T a h1.1.1.1.2.1).2.1]; exact h4, h5⟩
/-- how many were counted in the end -/
def cN : PF ⊕ ST → Int
  | .inl _ => 30
  | .inr u => u.2.2.2.2.2
/-- a block up to its end -/
noncomputable def blP (tp : Int → Int) (n : Int) (s N : Int → Int) (D : Nat) (t : ST) : PF ⊕ ST := bnd (ordP tp n (tE tp n t.1) s N (tW tp n t.1)) fun o => if sgn tp n o.1 59 then bkX tp n (stX tp n s N D) ((n - (nxtP (tW tp n t.1) t.2.1 t.2.2.1 t.2.2.2.1 t.2.2.2.2.1 t.2.2.2.2.2 (tE tp n o.1) o).1).toNat + 1) (nxtP (tW tp n t.1) t.2.1 t.2.2.1 t.2.2.2.1 t.2.2.2.2.1 t.2.2.2.2.2 (tE tp n o.1) o) else .inl (wr tp n o.1, tF tp n o.1)
theorem stX_blk {tp : Int → Int} {n : Int} {s N : Int → Int} {D : Nat} {t : ST} (hw : tW tp n t.1 = 17 ∨ tW tp n t.1 = 18) (hc : t.2.2.2.2.2 ≠ 30) : stX tp n s N (D + 1) t = bnd (blP tp n s N D t) (enX tp n) := by
  have e : stX tp n s N (D + 1) t = bnd (ordP tp n (tE tp n t.1) s N (tW tp n t.1)) fun o => if sgn tp n o.1 59 then (if tW tp n t.1 = 17 ∨ tW tp n t.1 = 18 then (fun u => bnd (bkX tp n (stX tp n s N D) ((n - u.1).toNat + 1) u) (enX tp n)) (nxtP (tW tp n t.1) t.2.1 t.2.2.1 t.2.2.2.1 t.2.2.2.2.1 t.2.2.2.2.2 (tE tp n o.1) o) else .inr (nxtP (tW tp n t.1) t.2.1 t.2.2.1 t.2.2.2.1 t.2.2.2.2.1 t.2.2.2.2.2 (tE tp n o.1) o)) else .inl (wr tp n o.1, tF tp n o.1) := (if_neg (by omega)).trans ((if_neg hc).trans (if_neg (by omega)))
  rw [e]
  unfold blP
  cases ordP tp n (tE tp n t.1) s N (tW tp n t.1) with
  | inl e9 => rfl
  | inr o =>
    rw [bnd_r rfl, bnd_r rfl]
    by_cases hs : sgn tp n o.1 59
    · rw [if_pos hs, if_pos hs, if_pos hw]
    · rw [if_neg hs, if_neg hs]; rfl
theorem stX_pl {tp : Int → Int} {n : Int} {s N : Int → Int} {D : Nat} {t : ST} (hw : ¬ (tW tp n t.1 < 11 ∨ (18 < tW tp n t.1 ∧ tW tp n t.1 ≠ 20))) (hw2 : ¬ (tW tp n t.1 = 17 ∨ tW tp n t.1 = 18)) (hc : t.2.2.2.2.2 ≠ 30) : stX tp n s N D t = bnd (ordP tp n (tE tp n t.1) s N (tW tp n t.1)) fun o => if sgn tp n o.1 59 then .inr (nxtP (tW tp n t.1) t.2.1 t.2.2.1 t.2.2.2.1 t.2.2.2.2.1 t.2.2.2.2.2 (tE tp n o.1) o) else .inl (wr tp n o.1, tF tp n o.1) := by
  have g : ∀ (D : Nat) (f : ST → PF ⊕ ST), hdX tp n s N D f t = bnd (ordP tp n (tE tp n t.1) s N (tW tp n t.1)) fun o => if sgn tp n o.1 59 then .inr (nxtP (tW tp n t.1) t.2.1 t.2.2.1 t.2.2.2.1 t.2.2.2.2.1 t.2.2.2.2.2 (tE tp n o.1) o) else .inl (wr tp n o.1, tF tp n o.1) := fun D f => by
    have e : hdX tp n s N D f t = bnd (ordP tp n (tE tp n t.1) s N (tW tp n t.1)) fun o => if sgn tp n o.1 59 then (if tW tp n t.1 = 17 ∨ tW tp n t.1 = 18 then f (nxtP (tW tp n t.1) t.2.1 t.2.2.1 t.2.2.2.1 t.2.2.2.2.1 t.2.2.2.2.2 (tE tp n o.1) o) else .inr (nxtP (tW tp n t.1) t.2.1 t.2.2.1 t.2.2.2.1 t.2.2.2.2.1 t.2.2.2.2.2 (tE tp n o.1) o)) else .inl (wr tp n o.1, tF tp n o.1) := (if_neg hw).trans ((if_neg hc).trans (if_neg (fun z => hw2 z.1)))
    rw [e]
    simp only [if_neg hw2]
  cases D with
  | zero => exact g 0 _
  | succ D => exact g (D + 1) _
theorem stX_e {tp : Int → Int} {n : Int} {s N : Int → Int} {D : Nat} {t : ST} : ((tW tp n t.1 < 11 ∨ (18 < tW tp n t.1 ∧ tW tp n t.1 ≠ 20)) → stX tp n s N D t = .inl (wr tp n t.1, tF tp n t.1)) ∧ (¬ (tW tp n t.1 < 11 ∨ (18 < tW tp n t.1 ∧ tW tp n t.1 ≠ 20)) → t.2.2.2.2.2 = 30 → stX tp n s N D t = .inl (6, tF tp n t.1)) := by
  cases D with
  | zero => exact ⟨fun h => if_pos h, fun h h2 => (if_neg h).trans (if_pos h2)⟩
  | succ D => exact ⟨fun h => if_pos h, fun h h2 => (if_neg h).trans (if_pos h2)⟩
theorem stX_7 {tp : Int → Int} {n : Int} {s N : Int → Int} {t : ST} (hw : tW tp n t.1 = 17 ∨ tW tp n t.1 = 18) (hc : t.2.2.2.2.2 ≠ 30) : stX tp n s N 0 t = .inl (7, tF tp n t.1) := (if_neg (by omega)).trans ((if_neg hc).trans (if_pos ⟨hw, rfl⟩))
/-- of a block that was read -/
theorem blP_p {tp : Int → Int} {n : Int} {s N : Int → Int} (hc : 0 ≤ s 0) (h1 : 0 ≤ s 1) {D : Nat} {t u : ST} (hp : t.1 ≤ n) (hD : t.2.2.2.1 + D = 2) (hT : TIs t) (hw : tW tp n t.1 = 17 ∨ tW tp n t.1 = 18) (h30 : t.2.2.2.2.2 ≠ 30) (h : blP tp n s N D t = .inr u) : TIs u ∧ u.2.2.2.1 = t.2.2.2.1 + 1 ∧ u.2.2.2.2.1 t.2.2.2.1 = t.2.2.1 ∧ t.2.2.1 + 1 ≤ u.2.2.1 ∧ t.2.2.2.2.2 + 1 ≤ u.2.2.2.2.2 ∧ u.1 ≤ n ∧ tW tp n u.1 = 19 ∧ ∀ i, i < 860 + 6 * t.2.2.1 → u.2.1 i = t.2.1 i := by
  have hT0 := hT.1
  have hT1 := hT.2.1
  have hT2 := hT.2.2.1
  have hT3 := hT.2.2.2
  have hk : tK tp n t.1 = 1 := tW_k (by omega)
  have b0 := tE_bd (tp := tp) hp
  have b1 := tF_bd (tp := tp) hp
  unfold blP at h
  obtain ⟨o, eo, h⟩ := bnd_i h
  by_cases hs : sgn tp n o.1 59
  · rw [if_pos hs, nxtP_op hw] at h
    obtain ⟨oq, ok, oa, ob, oc, oe⟩ := o
    have bo := ordP_p b0.2 hc h1 eo
    dsimp only at hs h
    have c2 := tE_bd (tp := tp) (p := oq) bo.2
    obtain ⟨-, m2⟩ := bkX_sea (stX_gd hc h1 D) ((n - tE tp n oq).toNat + 1) (tE tp n oq, rowW t.2.1 t.2.2.1 ok oa ob oc oe, t.2.2.1 + 1, t.2.2.2.1 + 1, upA t.2.2.2.2.1 t.2.2.2.1 t.2.2.1, t.2.2.2.2.2 + 1) c2.2 (by show n - tE tp n oq < _; omega) (by show t.2.2.2.1 + 1 + D = 3; omega) (by show 1 ≤ t.2.2.2.1 + 1; omega)
      ⟨by show 0 ≤ t.2.2.1 + 1; omega, ⟨by show 0 ≤ t.2.2.2.1 + 1; omega, by show t.2.2.2.1 + 1 ≤ 3; omega⟩, ⟨by show 0 ≤ t.2.2.2.2.2 + 1; omega, by show t.2.2.2.2.2 + 1 ≤ 30; omega⟩, by show t.2.2.1 + 1 + (t.2.2.2.1 + 1) ≤ 2 * (t.2.2.2.2.2 + 1); omega⟩
    obtain ⟨-, q2, q3, q4⟩ := m2 u h
    obtain ⟨n1, n2, n3, n4, n5, n6⟩ := q2
    dsimp only at n2 n3 n4 n5 n6
    exact ⟨q3, n2, (n5 _ (by omega)).trans upA_s, n3, n4, n1.2, q4, fun i hi => (n6 i (by omega)).trans (rowW_o (Or.inl hi))⟩
  · rw [if_neg hs] at h; cases h
/-- a step's contract -/
def STEPC (tp : Int → Int) (n : Int) (s N : Int → Int) (D dS : Nat) : Prop := ∀ {Q : aPost} {own : Int → Int} {sz : Int} {im : Int → aIm} {ct : Int → Int → Int} {a b i : Int} (t : ST) (X : PF ⊕ ST), ZR own sz im ct a s N tp n t.1 → ct a 5 = t.2.2.2.2.2 → t.2.2.2.1 + D = 3 → TIs t → (tK tp n t.1 ≠ 0 ∨ t.2.2.2.1 ≠ 0) → (tW tp n t.1 ≠ 19 ∨ t.2.2.2.1 = 0) →
  BB own sz im ct (sR s t.2.1) (D + 1) b i t.2.2.1 → stX tp n s N D t = X → (∀ (k pl sz1 : Int) (im1 : Int → aIm) (ct1 : Int → Int → Int), X = .inl (k, pl) → G4 own sz im ct sz1 im1 ct1 k pl → Q (.inr (0, 7)) (sz1, im1, ct1)) →
  (∀ (u : ST) (own1 : Int → Int) (sz1 : Int) (im1 : Int → aIm) (ct1 : Int → Int → Int), X = .inr u → RDX sz1 im1 ct1 a tp n u.1 → ct1 a 5 = u.2.2.2.2.2 → FSS own a b sz im ct own1 sz1 im1 ct1 → BB own1 sz1 im1 ct1 (sR s u.2.1) (D + 1) b i u.2.2.1 → Q (.inl none) (sz1, im1, ct1)) →
  AMet md_X8_step dS (3 * (cN X - t.2.2.2.2.2)).toNat (130 * (cN X - t.2.2.2.2.2)).toNat [vR a, vR 10, vR b, vI t.2.2.2.1] (sz, im, ct) Q
/-- a block's contract -/
def BLKC (tp : Int → Int) (n : Int) (s N : Int → Int) (D dB : Nat) : Prop := ∀ {Q : aPost} {own : Int → Int} {sz : Int} {im : Int → aIm} {ct : Int → Int → Int} {a w : Int} (t : ST) (X : PF ⊕ ST), ZR own sz im ct a s N tp n t.1 → ct a 5 = t.2.2.2.2.2 + 1 → t.2.2.2.1 + D = 2 → TIs t → t.2.2.2.2.2 ≠ 30 → ((tW tp n t.1 = 17 ∧ w = 1) ∨ (tW tp n t.1 = 18 ∧ w = 0)) → blP tp n s N D t = X →
  (∀ (k pl sz1 : Int) (im1 : Int → aIm) (ct1 : Int → Int → Int), X = .inl (k, pl) → G4 own sz im ct sz1 im1 ct1 k pl → Q (.inr (0, 7)) (sz1, im1, ct1)) →
  (∀ (u : ST) (own1 : Int → Int) (sz1 : Int) (im1 : Int → aIm) (ct1 : Int → Int → Int) (o : Int), X = .inr u → RDX sz1 im1 ct1 a tp n (tE tp n u.1) → ct1 a 5 = u.2.2.2.2.2 → FSB own a sz im ct own1 sz1 im1 ct1 → sz ≤ o → sz ≤ ct1 o 0 → BB own1 sz1 im1 ct1 (sR s u.2.1) (D + 1) o (t.2.2.1 + 1) u.2.2.1 → HDB sz1 im1 (sR s u.2.1) o t.2.2.1 → Q (.inl (some (vR o))) (sz1, im1, ct1)) →
  AMet md_X8_block dB (3 * (cN X - t.2.2.2.2.2) - 1).toNat (130 * (cN X - t.2.2.2.2.2) - 120).toNat [vR a, vR 10, vI w, vI t.2.2.2.1] (sz, im, ct) Q
theorem L_x_blk {tp : Int → Int} {n : Int} {s N : Int → Int} {D dS d : Nat} {Q : aPost} {own0 : Int → Int} {sz0 : Int} {im0 : Int → aIm} {ct0 : Int → Int → Int} {a o i w w3 : Int} {X : PF ⊕ ST} {R0 : Int → Int} (hd : dS + 1 ≤ d) (hd0 : 11 ≤ d) (hc : 0 ≤ s 0) (h1 : 0 ≤ s 1) (h4 : s 0 ≤ 4) (hS : STEPC tp n s N D dS) (oa : own0 a = -3) (ob : own0 o = -4) (ot : own0 (ct0 o 0) = -4)
    (hF : ∀ (k pl sz1 : Int) (im1 : Int → aIm) (ct1 : Int → Int → Int), X = .inl (k, pl) → G4 own0 sz0 im0 ct0 sz1 im1 ct1 k pl → Q (.inr (0, 7)) (sz1, im1, ct1))
    (hQ : ∀ (u : ST) (own1 : Int → Int) (sz1 : Int) (im1 : Int → aIm) (ct1 : Int → Int → Int), X = .inr u → RDX sz1 im1 ct1 a tp n (tE tp n u.1) → ct1 a 5 = u.2.2.2.2.2 → FSS own0 a o sz0 im0 ct0 own1 sz1 im1 ct1 → BB own1 sz1 im1 ct1 (sR s u.2.1) (D + 1) o i u.2.2.1 → (∀ q, q < 860 + 6 * i → u.2.1 q = R0 q) → Q (.inl (some (vR o))) (sz1, im1, ct1)) :
    ∀ (r : Nat) (u : ST) (own : Int → Int) (sz : Int) (im : Int → aIm) (ct : Int → Int → Int), n - u.1 < r → bkX tp n (stX tp n s N D) r u = X → ZR own sz im ct a s N tp n u.1 → ct a 5 = u.2.2.2.2.2 → u.2.2.2.1 = w3 + 1 → u.2.2.2.1 + D = 3 → 0 ≤ w3 → TIs u → FSS own0 a o sz0 im0 ct0 own sz im ct → BB own sz im ct (sR s u.2.1) (D + 1) o i u.2.2.1 → i ≤ u.2.2.1 → (∀ q, q < 860 + 6 * i → u.2.1 q = R0 q) → AW (mq Q) md_X8_block d (3 * (cN X - u.2.2.2.2.2)).toNat (130 * (cN X - u.2.2.2.2.2)).toNat 36 [some (vR a), some (vR 10), some (vI w), some (vI w3), some (vR o)] [] (sz, im, ct) := by
  intro r
  induction r with
  | zero =>
    intro u own sz im ct hr hX Z
    have := Z.1.2.1
    omega
  | succ r ih =>
    intro u own sz im ct hr hX Z h5 hw hD hw0 hT hFS hB hiu hR0
    have HR := Z.1
    have ha := HR.1.1.1
    have hp := HR.2.1
    have hBl := hB.lt
    have oa1 := Z.2.2.2.1
    have ob1 := hB.2.1
    have hoa : o ≠ a := fun z => by rw [z] at ob1; omega
    refine aw_aload_n dX8_block_36 rfl ?_
    refine aw_ldcS (k9 := 22) dX8_block_37 rfl rfl (by decide) ?_
    refine c_X8_72 rfl dX8_block_39 ha (Nat.le_of_ble_eq_true rfl) (by omega) (C_x_isWord (k := 22) (w := 19) HR (by decide) rfl (fun hw22 => ?_) (fun hw22 => ?_))
    · refine aK_i ?_
      refine aw_ifne (tgt := 58) dX8_block_42 (by decide) (fun _ => ?_) (fun h => absurd h (by decide))
      have eX : X = .inr u := hX.symm.trans (if_pos hw22)
      refine aw_aload_n dX8_block_58 rfl ?_
      refine c_X8_19 rfl dX8_block_59 ha (Nat.le_of_ble_eq_true rfl) (by omega) (C_x_next HR.1 HR.goes.1 HR.goes.2 (fun ct1 HR1 f1 => ?_))
      refine aK_v ?_
      refine aw_aload dX8_block_62 rfl ?_
      refine aw_areturn dX8_block_64 rfl (Or.inl ⟨_, rfl⟩) ?_
      exact hQ u own sz im ct1 eX HR1 (f1.2.trans h5) (hFS.fa hoa f1.1) (hB.mv (Int.le_refl _) (fun _ _ => rfl) (fun x hx hx1 => ⟨hx1, f1.1 x (fun z => by rw [z] at hx1; omega)⟩) (f1.1 _ hoa) (f1.1 _ (fun z => by have := hB.2.2.1; rw [z] at this; omega)) hB.2.1 hB.2.2.1) hR0
    · refine aK_i ?_
      refine aw_ifne (tgt := 58) dX8_block_42 (by decide) (fun h => absurd h (by decide)) (fun _ => ?_)
      have hne : tW tp n u.1 ≠ 19 := hw22
      obtain ⟨g1, g2⟩ := stX_gd (tp := tp) (n := n) (N := N) hc h1 D u hp.2 hD hT (Or.inr (by omega)) (Or.inl hne)
      have eX : bnd (stX tp n s N D u) (fun t1 => bkX tp n (stX tp n s N D) r t1) = X := (if_neg hne).symm.trans hX
      obtain ⟨Y, eY⟩ : ∃ z, stX tp n s N D u = z := ⟨_, rfl⟩
      rw [eY] at eX g1 g2
      have hcY : u.2.2.2.2.2 ≤ cN Y ∧ cN Y ≤ cN X := by
        cases Y with
        | inl e9 => rw [bnd_l rfl] at eX; rw [← eX]; exact ⟨hT.2.2.1.2, Int.le_refl _⟩
        | inr v =>
          rw [bnd_r rfl] at eX
          obtain ⟨-, k2, k3, k4, k5, k6⟩ := g2 v rfl
          refine ⟨Int.le_of_lt k6, ?_⟩
          have hd1 := k2.2.1
          obtain ⟨-, m2⟩ := bkX_sea (stX_gd (N := N) hc h1 D) r v k2.1.2 (by omega) (by omega) (by omega) k3
          cases X with
          | inl e9 => exact k3.2.2.1.2
          | inr x => exact (m2 x eX).2.1.2.2.2.1
      have hw4 : w3 + 1 = u.2.2.2.1 := hw.symm
      refine aw_aload_n dX8_block_45 rfl ?_
      refine aw_aload_n dX8_block_46 rfl ?_
      refine aw_aload dX8_block_47 rfl ?_
      refine aw_iload_n dX8_block_49 rfl ?_
      refine aw_iconst dX8_block_50 (by decide) ?_
      refine aw_iaddr dX8_block_51 (by omega) ?_
      rw [hw4]
      refine c_X8_229a (kc1 := (3 * (cN Y - u.2.2.2.2.2)).toNat) (ks1 := (130 * (cN Y - u.2.2.2.2.2)).toNat) (kc2 := (3 * (cN X - cN Y)).toNat) (ks2 := (130 * (cN X - cN Y)).toNat) (by omega) (by omega) rfl dX8_block_52 ha (Nat.le_of_ble_eq_true rfl) (by omega) (hS u Y Z h5 hD hT (Or.inr (by omega)) (Or.inl hne) hB eY (fun k9 pl9 sz9 im9 ct9 e9 q9 => ?_) (fun v own9 sz9 im9 ct9 e9 HR9 h59 F9 B9 => ?_))
      · rw [e9, bnd_l rfl] at eX
        exact aK_x (ax_out rfl (hF _ _ _ _ _ eX.symm (hFS.g4 oa ob ot q9)))
      subst e9
      rw [bnd_r rfl] at eX
      obtain ⟨-, k2, k3, k4, k5, k6⟩ := g2 v rfl
      have hd1 := k2.2.1
      refine aK_v ?_
      refine aw_goto (tgt := 36) dX8_block_55 (by decide) ?_
      exact ih v own9 sz9 im9 ct9 (by omega) eX (Z.tg4 F9.1 (fun x hx => ⟨(F9.2.1 x hx).1, (F9.2.1 x hx).2.1, fun x3 x4 => (F9.2.1 x hx).2.2 (fun z => x3 (by rw [z]; exact oa1)) (fun z => x4 (by rw [z]; exact ob1)) (fun z => x4 (by rw [z]; exact hB.2.2.1))⟩) HR9) h59 (by omega) (by omega) hw0 k3 (hFS.trans F9) B9 (by omega) (fun q hq => (k2.2.2.2.2.2 q (by omega)).trans (hR0 q hq))
