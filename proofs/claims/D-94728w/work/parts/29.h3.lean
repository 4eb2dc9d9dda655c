/-! H3: more of hives: the order is a bijection; writes of an object's own fields -/
theorem fld_div {n k : Int} (h0 : 0 ≤ k) : fld n k / 16 = ordF n (k / 16) ∧ fld n k % 16 = k % 16 := by
  unfold fld
  omega
theorem fld_inj {n i j : Int} (h0 : 0 ≤ i) (h1 : i < 16 * n) (h2 : 0 ≤ j) (h3 : j < 16 * n) (h : fld n i = fld n j) : i = j := by
  have a := fld_div (n := n) h0
  have b := fld_div (n := n) h2
  rw [h] at a
  have e := ordF_inj (n := n) (i := i / 16) (j := j / 16) (by omega) (by omega) (by omega) (by omega) (by omega)
  omega
theorem ordF_surj {n f : Int} (h0 : 0 ≤ f) (h1 : f < n) : ∃ j, 0 ≤ j ∧ j < n ∧ ordF n j = f := by
  by_cases h : (n - 1) / 2 < f
  · refine ⟨2 * (f - (n - 1) / 2) - 1, by omega, by omega, ?_⟩
    unfold ordF
    rw [if_pos (by omega)]
    omega
  · refine ⟨2 * ((n - 1) / 2 - f), by omega, by omega, ?_⟩
    unfold ordF
    rw [if_neg (by omega)]
    omega
theorem fld_surj {n i : Int} (h0 : 0 ≤ i) (h1 : i < 16 * n) : ∃ j, 0 ≤ j ∧ j < 16 * n ∧ fld n j = i := by
  obtain ⟨j, j0, j1, e⟩ := ordF_surj (n := n) (f := i / 16) (by omega) (by omega)
  refine ⟨16 * j + i % 16, by omega, by omega, ?_⟩
  have a : (16 * j + i % 16) / 16 = j := by omega
  have b : (16 * j + i % 16) % 16 = i % 16 := by omega
  unfold fld
  rw [a, b, e]
  omega
/-- said of all places in the order of laying is said of all fields -/
theorem all_fld {n : Int} {p : Int → Prop} (h : ∀ j, 0 ≤ j → j < 16 * n → p (fld n j)) : ∀ i, 0 ≤ i → i < 16 * n → p i := by
  intro i i0 i1
  obtain ⟨j, j0, j1, e⟩ := fld_surj i0 i1
  rw [← e]
  exact h j j0 j1
theorem hvf_self {sz : Int} {im : Int → aIm} {ct : Int → Int → Int} {a n : Int} {c : Int → Int} (hS : HvS sz im a n) (h : HvC sz im ct a n c) : ¬ hvf im ct a n a := by
  rintro ⟨f, f0, f1, e⟩
  exact aob_ne hS.1 (h.2.1 f f0 f1) (by decide) e
theorem HvC.self {sz : Int} {im : Int → aIm} {ct : Int → Int → Int} {a n i v : Int} {c : Int → Int} (hS : HvS sz im a n) (h : HvC sz im ct a n c) :
    HvC sz im (aup ct a i v) a n c ∧ ∀ j, aup ct a i v ((im a).2.2 1) j = ct ((im a).2.2 1) j := by
  have n1 := aob_ne hS.1 hS.2.1 (by decide)
  have n2 := aob_ne hS.1 hS.2.2.1 (by decide)
  have e1 : ∀ j, aup ct a i v ((im a).2.2 1) j = ct ((im a).2.2 1) j := fun j => aup_n fun z => n1 z.1.symm
  refine ⟨h.ext (fun j => aup_n fun z => n2 z.1.symm) e1 (fun f j f0 f1 j0 j1 => ?_) (fun _ _ _ => rfl), e1⟩
  exact aup_n fun z => aob_ne hS.1 (h.2.1 f f0 f1) (by decide) z.1.symm
theorem HvC.cong {sz : Int} {im : Int → aIm} {ct : Int → Int → Int} {a n : Int} {c c' : Int → Int} (h : HvC sz im ct a n c) (e : eqF n c c') : HvC sz im ct a n c' :=
  h.ext (fun _ => rfl) (fun _ => rfl) (fun _ _ _ _ _ _ => rfl) e
theorem layE_eq {n : Int} {k : Nat} {c c' : Int → Int} {e : Int} (hk : (k : Int) ≤ 16 * n) (h : eqF n c c') : eqF n (layE n k c e) (layE n k c' e) := layE_ext hk h
theorem eqF.symm {n : Int} {c c' : Int → Int} (h : eqF n c c') : eqF n c' c := fun i i0 i1 => (h i i0 i1).symm
theorem eqF.trans {n : Int} {c c' c2 : Int → Int} (h : eqF n c c') (h' : eqF n c' c2) : eqF n c c2 := fun i i0 i1 => (h i i0 i1).trans (h' i i0 i1)
theorem eqF.rg {n : Int} {c c' : Int → Int} (h : eqF n c c') (r : rgF n c) : rgF n c' := fun i i0 i1 => by rw [← h i i0 i1]; exact r i i0 i1
theorem ageC_eq {n : Int} {c : Int → Int} : eqF n (ageC n c) (fun i => agef (c i)) := fun i i0 i1 => if_pos ⟨i0, i1⟩
theorem agef_rg {n : Int} {c : Int → Int} (r : rgF n c) : rgF n (ageC n c) := fun i i0 i1 => by rw [ageC_eq i i0 i1]; exact agef_bd (r i i0 i1).1 (r i i0 i1).2
theorem dCame_bd {n : Int} {c : Int → Int} (hn : 0 ≤ n) : 0 ≤ dCame n c ∧ dCame n c ≤ 16 * n := by
  have h := isum_bd (g := fun i => if 121 ≤ c i then (1 : Int) else 0) (B := 1) (n := nF n) fun i i0 i1 => by split <;> omega
  unfold dCame
  unfold nF at *
  omega
theorem dCame_fld {n : Int} {c : Int → Int} (h1 : 1 ≤ n) (h2 : n ≤ 12) : isum (fun k => if 121 ≤ c (fld n k) then (1 : Int) else 0) (nF n) = dCame n c :=
  isum_fld (fun i => if 121 ≤ c i then (1 : Int) else 0) h1 h2
theorem layE_cong {n : Int} {c c' : Int → Int} {y : Int} (h : eqF n c c') (hn : 0 ≤ n) : eqF n (layE n (nF n) c y) (layE n (nF n) c' y) := layE_ext (by unfold nF; omega) h
theorem dLaid_rg {n : Int} {c : Int → Int} {y : Int} (hn : 0 ≤ n) (r : rgF n c) : rgF n (dLaid n c y) := layE_rg (by unfold nF; omega) (agef_rg r)
theorem dEat_bd {n : Int} {c : Int → Int} {b u y : Int} (hn : 0 ≤ n) (r : rgF n c) (hb : 0 ≤ b) (hu : 0 ≤ u) : rgF n (dC n c b u y) ∧ 0 ≤ (dEat n c b u y).2 ∧ (dEat n c b u y).2 ≤ dWant n c b u := by
  have h := dCame_bd (n := n) (c := c) hn
  have := eatE_rg (n := n) (k := nF n) (c := dLaid n c y) (l := dWant n c b u) (by unfold nF; omega) (dLaid_rg hn r) (by unfold dWant; omega)
  exact this
/-! the row of a hive in a slot, by its fields -/
def sh (h : Int) (s : Int → Int) : Int → Int := fun j => s (h + 6 + j)
def us (h : Int) (c : Int → Int) : Int → Int := fun i => c (i - (h + 6))
theorem us_sh {h : Int} {s : Int → Int} : us h (sh h s) = s := by
  funext i
  show s (h + 6 + (i - (h + 6))) = s i
  rw [show h + 6 + (i - (h + 6)) = i by omega]
theorem sh_us {h : Int} {c : Int → Int} : sh h (us h c) = c := by
  funext i
  show c (h + 6 + i - (h + 6)) = c i
  rw [show h + 6 + i - (h + 6) = i by omega]
theorem sh_upA {h f v : Int} {s : Int → Int} : sh h (upA s (h + 6 + f) v) = upA (sh h s) f v := by
  funext i
  unfold sh upA
  by_cases e : i = f
  · subst e; simp
  · rw [if_neg (by omega), if_neg e]
theorem sh_upO {h f v : Int} {s : Int → Int} (hf : f < h + 6 ∨ h + 6 + 192 ≤ f) {n : Int} (hn : n ≤ 12) : eqF n (sh h (upA s f v)) (sh h s) := by
  intro i i0 i1
  unfold sh upA
  rw [if_neg (by omega)]
theorem sh_upE {h f v : Int} {c : Int → Int} (hf : f < h + 6) : ∀ i, 0 ≤ i → sh h (upA (us h c) f v) i = c i := by
  intro i i0
  unfold sh upA us
  rw [if_neg (by omega), show h + 6 + i - (h + 6) = i by omega]
theorem aup_r {ct : Int → Int → Int} {a i v : Int} : aup ct a i v a = upA (ct a) i v := by
  funext j
  simp [aup, upA]
theorem aup_rn {ct : Int → Int → Int} {a i v b : Int} (h : b ≠ a) : aup ct a i v b = ct b := by
  funext j
  simp [aup, h]
theorem stor_out {n : Int} : ∀ {k : Nat} {c : Int → Int} {l : Int}, (k : Int) ≤ 16 * n → ∀ i, (i < 0 ∨ 16 * n ≤ i) → (stor n k c l).1 i = c i
  | 0, c, l, _, i, hi => rfl
  | k + 1, c, l, hk, i, hi => by
    have hf := fld_in (n := n) (k := k) (by omega) (by omega)
    simp only [stor]
    split
    · rfl
    · split
      · exact stor_out (by omega) i hi
      · rw [stor_out (by omega) i hi, upA_n (by omega)]
theorem layE_out {n : Int} : ∀ {k : Nat} {c : Int → Int} {l : Int}, (k : Int) ≤ 16 * n → ∀ i, (i < 0 ∨ 16 * n ≤ i) → layE n k c l i = c i
  | 0, c, l, _, i, hi => rfl
  | k + 1, c, l, hk, i, hi => by
    have hf := fld_in (n := n) (k := 16 * n - (k + 1)) (by omega) (by omega)
    simp only [layE]
    split
    · rfl
    · split
      · exact layE_out (by omega) i hi
      · rw [layE_out (by omega) i hi, upA_n (by omega)]
theorem eatE_out {n : Int} : ∀ {k : Nat} {c : Int → Int} {l : Int}, (k : Int) ≤ 16 * n → ∀ i, (i < 0 ∨ 16 * n ≤ i) → (eatE n k c l).1 i = c i
  | 0, c, l, _, i, hi => rfl
  | k + 1, c, l, hk, i, hi => by
    have hf := fld_in (n := n) (k := 16 * n - (k + 1)) (by omega) (by omega)
    simp only [eatE]
    split
    · rfl
    · split
      · exact eatE_out (by omega) i hi
      · rw [eatE_out (by omega) i hi, upA_n (by omega)]
theorem ageC_out {n : Int} {c : Int → Int} {i : Int} (hi : i < 0 ∨ 16 * n ≤ i) : ageC n c i = c i := by
  unfold ageC
  rw [if_neg (by omega)]
theorem dC_out {n : Int} {c : Int → Int} {b u y : Int} (hn : 0 ≤ n) : ∀ i, (i < 0 ∨ 16 * n ≤ i) → dC n c b u y i = c i := by
  intro i hi
  have e1 : (eatE n (nF n) (dLaid n c y) (dWant n c b u)).1 i = dLaid n c y i := eatE_out (by unfold nF; omega) i hi
  have e2 : layE n (nF n) (ageC n c) y i = ageC n c i := layE_out (by unfold nF; omega) i hi
  exact e1.trans (e2.trans (ageC_out hi))
/-- a frame is harvested up to its place k -/
def harC (f k : Int) (c : Int → Int) : Int → Int := fun j => if 16 * f ≤ j ∧ j < 16 * f + k ∧ c j ≤ 100 then 0 else c j
def harN (f : Int) (k : Nat) (c : Int → Int) : Int := isum (fun i => sv 0 (c (16 * f + i))) k
theorem harC_0 {f : Int} {c : Int → Int} : harC f 0 c = c := by
  funext j
  unfold harC
  rw [if_neg (by omega)]
theorem harC_rg {n f k : Int} {c : Int → Int} (r : rgF n c) : rgF n (harC f k c) := by
  intro j j0 j1
  have := r j j0 j1
  unfold harC
  split <;> omega
theorem harC_put {f k : Int} {c : Int → Int} (h0 : 0 ≤ k) (h : c (16 * f + k) ≤ 100) : upA (harC f k c) (16 * f + k) 0 = harC f (k + 1) c := by
  funext j
  unfold harC
  by_cases e : j = 16 * f + k
  · subst e; rw [upA_s, if_pos (by omega)]
  · rw [upA_n e]
    by_cases q : 16 * f ≤ j ∧ j < 16 * f + k ∧ c j ≤ 100
    · rw [if_pos q, if_pos (by omega)]
    · rw [if_neg q, if_neg (by omega)]
theorem harC_skip {f k : Int} {c : Int → Int} (h0 : 0 ≤ k) (h : 100 < c (16 * f + k) ∨ c (16 * f + k) = 0) : harC f k c = harC f (k + 1) c := by
  funext j
  unfold harC
  by_cases e : j = 16 * f + k
  · subst e
    rw [if_neg (by omega)]
    by_cases q : c (16 * f + k) ≤ 100
    · rw [if_pos (by omega)]; omega
    · rw [if_neg (by omega)]
  · by_cases q : 16 * f ≤ j ∧ j < 16 * f + k ∧ c j ≤ 100
    · rw [if_pos q, if_pos (by omega)]
    · rw [if_neg q, if_neg (by omega)]
theorem acp_n {ct : Int → Int → Int} {a sp b dp n x : Int} (h : x ≠ b) : acp ct a sp b dp n x = ct x := upA_n h
theorem acp_in {ct : Int → Int → Int} {a sp b dp n j : Int} (h0 : dp ≤ j) (h1 : j < dp + n) : acp ct a sp b dp n b j = ct a (sp + (j - dp)) := by
  unfold acp
  rw [upA_s, if_pos ⟨h0, h1⟩]
theorem acp_out {ct : Int → Int → Int} {a sp b dp n j : Int} (h : j < dp ∨ dp + n ≤ j) : acp ct a sp b dp n b j = ct b j := by
  unfold acp
  rw [upA_s, if_neg (by omega)]
/-- a frame of a is copied over -/
theorem HvC.cpy {sz : Int} {im : Int → aIm} {ct : Int → Int → Int} {a n f src : Int} {c g : Int → Int} (hS : HvS sz im a n) (h : HvC sz im ct a n c) (h0 : 0 ≤ f) (h1 : f < n) (hsrc : ∀ j, 0 ≤ j → j < 16 → ct src j = g (16 * f + j)) :
    HvC sz im (acp ct src 0 (ct ((im a).2.2 1) f) 0 16) a n (fun i => if 16 * f ≤ i ∧ i < 16 * f + 16 then g i else c i) ∧ (∀ j, acp ct src 0 (ct ((im a).2.2 1) f) 0 16 ((im a).2.2 1) j = ct ((im a).2.2 1) j) := by
  obtain ⟨s1, s2, s3, s4, s5⟩ := hS
  obtain ⟨c1, c2, c3, c4⟩ := h
  have n1 : (im a).2.2 1 ≠ ct ((im a).2.2 1) f := aar_ne s2 (c2 f h0 h1) (by decide)
  have n2 : (im a).2.2 2 ≠ ct ((im a).2.2 1) f := aar_ne s3 (c2 f h0 h1) (by decide)
  have e1 : ∀ j, acp ct src 0 (ct ((im a).2.2 1) f) 0 16 ((im a).2.2 1) j = ct ((im a).2.2 1) j := fun j => by rw [acp_n n1]
  refine ⟨⟨fun j j0 j1 => ?_, fun q g0 g1 => ?_, fun q g' g0 g1 g2 g3 e => ?_, fun q j g0 g1 j0 j1 => ?_⟩, e1⟩
  · rw [acp_n n2]; exact c1 j j0 j1
  · rw [e1]; exact c2 q g0 g1
  · rw [e1, e1] at e; exact c3 q g' g0 g1 g2 g3 e
  · rw [e1]
    by_cases hq : q = f
    · subst hq
      rw [acp_in (by omega) (by omega)]
      dsimp only
      rw [if_pos (by omega), show 0 + (j - 0) = j by omega, hsrc j j0 j1]
    · rw [acp_n (fun z => hq (c3 q f g0 g1 h0 h1 z))]
      dsimp only
      rw [if_neg (by omega)]; exact c4 q j g0 g1 j0 j1
/-- no frame of the one is a frame of the other -/
def hvD (im : Int → aIm) (ct : Int → Int → Int) (a n b nb : Int) : Prop := ∀ x, hvf im ct a n x → ¬ hvf im ct b nb x
theorem HvC.apart {sz : Int} {im : Int → aIm} {ct ct' : Int → Int → Int} {a n b nb : Int} {c : Int → Int} (hS : HvS sz im b nb) (h : HvC sz im ct b nb c) (hx : ∀ x j, ¬ hvf im ct a n x → ct' x j = ct x j) (hd : hvD im ct a n b nb)
    (h1 : ¬ hvf im ct a n ((im b).2.2 1)) (h2 : ¬ hvf im ct a n ((im b).2.2 2)) : HvC sz im ct' b nb c ∧ ∀ j, ct' ((im b).2.2 1) j = ct ((im b).2.2 1) j := by
  refine ⟨h.ext (fun j => hx _ j h2) (fun j => hx _ j h1) (fun f i f0 f1 i0 i1 => hx _ i fun z => hd _ z ⟨f, f0, f1, rfl⟩) (fun _ _ _ => rfl), fun j => hx _ j h1⟩
/-- an array of another kind is no frame -/
theorem hvf_k {sz : Int} {im : Int → aIm} {ct : Int → Int → Int} {a n x N : Int} {t : Nat} {c : Int → Int} (h : HvC sz im ct a n c) (hx : aar sz im x t N) (ht : t ≠ 1) : ¬ hvf im ct a n x := by
  rintro ⟨f, f0, f1, e⟩
  exact aar_ne hx (h.2.1 f f0 f1) ht e
theorem hvf_o {sz : Int} {im : Int → aIm} {ct : Int → Int → Int} {a n x : Int} {t : Nat} {c : Int → Int} (h : HvC sz im ct a n c) (hx : aob sz im x t) (ht : t < 50) : ¬ hvf im ct a n x := by
  rintro ⟨f, f0, f1, e⟩
  exact aob_ne hx (h.2.1 f f0 f1) ht e
