set_option maxRecDepth 100000
/-! kin: plain -/
def kinO (g : Int → Int → Int) (x y : Int) : Int := if x < 0 ∨ y < 0 then 0 else g x y
def kinS (g : Int → Int → Int) (s : Int → Int) (a b : Int) : Int := if 8 ≤ a then kinO g (mot s a) b else (kinO g (mot s a) b + kinO g (fat s a) b) / 2
def kinG (W : Int) (s : Int → Int) : Nat → Int → Int → Int
  | 0, _, _ => 0
  | r + 1, a, b => if a = b then (if 8 ≤ a then W else (W + kinO (kinG W s r) (mot s a) (fat s a)) / 2) else if tld s b < tld s a then kinS (kinG W s r) s a b else kinS (kinG W s r) s b a
theorem kinO_b {g : Int → Int → Int} {W x y : Int} (hW : 0 ≤ W) (h : 0 ≤ g x y ∧ g x y ≤ W) : 0 ≤ kinO g x y ∧ kinO g x y ≤ W := by
  unfold kinO
  split <;> omega
theorem kinG_bd {W : Int} {s : Int → Int} (hW : 0 ≤ W) : ∀ {r : Nat} {a b : Int}, 0 ≤ kinG W s r a b ∧ kinG W s r a b ≤ W
  | 0, a, b => by simp only [kinG]; omega
  | r + 1, a, b => by
    have h1 := kinO_b (g := kinG W s r) (x := mot s a) (y := fat s a) hW (kinG_bd hW)
    have h2 := kinO_b (g := kinG W s r) (x := mot s a) (y := b) hW (kinG_bd hW)
    have h3 := kinO_b (g := kinG W s r) (x := fat s a) (y := b) hW (kinG_bd hW)
    have h4 := kinO_b (g := kinG W s r) (x := mot s b) (y := a) hW (kinG_bd hW)
    have h5 := kinO_b (g := kinG W s r) (x := fat s b) (y := a) hW (kinG_bd hW)
    simp only [kinG, kinS]
    (repeat' split) <;> omega
theorem kinO_bd {W : Int} {s : Int → Int} {r : Nat} {x y : Int} (hW : 0 ≤ W) : 0 ≤ kinO (kinG W s r) x y ∧ kinO (kinG W s r) x y ≤ W := kinO_b hW (kinG_bd hW)
theorem kinG_d {W : Int} {s : Int → Int} {r : Nat} {a b : Int} (e : a = b) (h : 8 ≤ a) : kinG W s (r + 1) a b = W := by
  simp only [kinG, if_pos e, if_pos h]
theorem kinG_q {W : Int} {s : Int → Int} {r : Nat} {a b : Int} (e : a = b) (h : a < 8) : kinG W s (r + 1) a b = (W + kinO (kinG W s r) (mot s a) (fat s a)) / 2 := by
  simp only [kinG, if_pos e, if_neg (show ¬ 8 ≤ a by omega)]
theorem kinG_a {W : Int} {s : Int → Int} {r : Nat} {a b : Int} (e : a ≠ b) (h : tld s b < tld s a) : kinG W s (r + 1) a b = kinS (kinG W s r) s a b := by
  simp only [kinG, if_neg e, if_pos h]
theorem kinG_b {W : Int} {s : Int → Int} {r : Nat} {a b : Int} (e : a ≠ b) (h : ¬ tld s b < tld s a) : kinG W s (r + 1) a b = kinS (kinG W s r) s b a := by
  simp only [kinG, if_neg e, if_neg h]
theorem kinS_d {g : Int → Int → Int} {s : Int → Int} {a b : Int} (h : 8 ≤ a) : kinS g s a b = kinO g (mot s a) b := by
  unfold kinS
  rw [if_pos h]
theorem kinS_q {g : Int → Int → Int} {s : Int → Int} {a b : Int} (h : a < 8) : kinS g s a b = (kinO g (mot s a) b + kinO g (fat s a) b) / 2 := by
  unfold kinS
  rw [if_neg (by omega)]
/-- one that was told before t, or none -/
def bef (s : Int → Int) (t : Int) (x : Int) : Prop := x = -1 ∨ (one s x ∧ tld s x < t)
theorem bef.mono {s : Int → Int} {t t' x : Int} (h : bef s t x) (k : t ≤ t') : bef s t' x := by
  rcases h with h | ⟨h1, h2⟩
  · exact Or.inl h
  · exact Or.inr ⟨h1, by omega⟩
theorem bef_m {s : Int → Int} {a : Int} (hp : PQ s) (h : one s a) : bef s (tld s a) (mot s a) := by
  rcases (hp.2.2.2.1 a h).2.1 with e | ⟨e1, e2⟩
  · exact Or.inl e
  · exact Or.inr ⟨Or.inl e1, e2⟩
theorem bef_f {s : Int → Int} {a : Int} (hp : PQ s) (h : one s a) : bef s (tld s a) (fat s a) := by
  rcases (hp.2.2.2.1 a h).2.2 with e | ⟨e1, e2⟩
  · exact Or.inl e
  · exact Or.inr ⟨Or.inr e1, e2⟩
theorem one_nn {s : Int → Int} {a : Int} (h : one s a) : 0 ≤ a := by
  unfold one at h
  omega
theorem kinO_fu {W : Int} {s : Int → Int} {t x y : Int} {g g' : Int → Int → Int} (h : ∀ a b, one s a → one s b → tld s a < t → tld s b < t → g a b = g' a b) (hx : bef s t x) (hy : bef s t y) : kinO g x y = kinO g' x y := by
  unfold kinO
  split
  · rfl
  · rename_i q
    rcases hx with hx | ⟨hx1, hx2⟩
    · omega
    · rcases hy with hy | ⟨hy1, hy2⟩
      · omega
      · exact h x y hx1 hy1 hx2 hy2
theorem kinS_fu {W : Int} {s : Int → Int} {a b : Int} {g g' : Int → Int → Int} (hp : PQ s) (ha : one s a) (hb : one s b) (hl : tld s b < tld s a) (h : ∀ u v, one s u → one s v → tld s u < tld s a → tld s v < tld s a → g u v = g' u v) : kinS g s a b = kinS g' s a b := by
  unfold kinS
  rw [kinO_fu (W := W) h (bef_m hp ha) (Or.inr ⟨hb, hl⟩), kinO_fu (W := W) h (bef_f hp ha) (Or.inr ⟨hb, hl⟩)]
theorem kinG_fu {W : Int} {s : Int → Int} (hp : PQ s) : ∀ {r r' : Nat} {a b : Int}, one s a → one s b → tld s a < r → tld s b < r → tld s a < r' → tld s b < r' → kinG W s r a b = kinG W s r' a b
  | 0, r', a, b, ha, hb, h1, h2, h3, h4 => by have := (hp.2.2.2.1 a ha).1; omega
  | r + 1, 0, a, b, ha, hb, h1, h2, h3, h4 => by have := (hp.2.2.2.1 a ha).1; omega
  | r + 1, r' + 1, a, b, ha, hb, h1, h2, h3, h4 => by
    have ih : ∀ t : Int, t ≤ r → t ≤ r' → ∀ u v, one s u → one s v → tld s u < t → tld s v < t → kinG W s r u v = kinG W s r' u v := fun t t1 t2 u v hu hv u1 v1 => kinG_fu hp hu hv (by omega) (by omega) (by omega) (by omega)
    by_cases e : a = b
    · by_cases q : 8 ≤ a
      · rw [kinG_d e q, kinG_d e q]
      · rw [kinG_q e (by omega), kinG_q e (by omega), kinO_fu (W := W) (ih (tld s a) (by omega) (by omega)) (bef_m hp ha) (bef_f hp ha)]
    · by_cases q : tld s b < tld s a
      · rw [kinG_a e q, kinG_a e q]
        exact kinS_fu (W := W) hp ha hb q (ih (tld s a) (by omega) (by omega))
      · rw [kinG_b e q, kinG_b e q]
        have q2 : tld s a < tld s b := by
          have := hp.2.2.2.2.1 a b ha hb
          rcases (by omega : tld s a = tld s b ∨ tld s a < tld s b) with z | z
          · exact absurd (this z) e
          · exact z
        exact kinS_fu (W := W) hp hb ha q2 (ih (tld s b) (by omega) (by omega))
/-- how many queens were told up to t -/
def qnN (s : Int → Int) (t : Int) : Nat → Nat
  | 0 => 0
  | n + 1 => qnN s t n + (if tld s n ≤ t then 1 else 0)
theorem qnN_le {s : Int → Int} {t : Int} : ∀ {n : Nat}, qnN s t n ≤ n
  | 0 => Nat.le_refl _
  | n + 1 => by
    have := qnN_le (s := s) (t := t) (n := n)
    simp only [qnN]
    split <;> omega
theorem qnN_mono {s : Int → Int} {t t' : Int} (h : t ≤ t') : ∀ {n : Nat}, qnN s t n ≤ qnN s t' n
  | 0 => Nat.le_refl _
  | n + 1 => by
    have := qnN_mono (s := s) h (n := n)
    simp only [qnN]
    (repeat' split) <;> omega
theorem qnN_lt {s : Int → Int} {t t' : Int} {q : Nat} (h1 : t < tld s q) (h2 : tld s q ≤ t') : ∀ {n : Nat}, q < n → qnN s t n + 1 ≤ qnN s t' n
  | 0, h => by omega
  | n + 1, h => by
    have m := qnN_mono (s := s) (t := t) (t' := t') (by omega) (n := n)
    simp only [qnN]
    by_cases e : q = n
    · subst e
      rw [if_neg (by omega), if_pos h2]
      omega
    · have := qnN_lt (s := s) h1 h2 (n := n) (by omega)
      (repeat' split) <;> omega
def dv (i : Nat) (x : Int) : Prop := ∃ k : Int, x * 2 ^ i = 65536 * k
theorem dv_0 {i : Nat} : dv i 0 := ⟨0, by simp⟩
theorem dv_W {i : Nat} : dv i 65536 := ⟨2 ^ i, rfl⟩
theorem dv_up {i : Nat} {x : Int} (h : dv i x) : dv (i + 1) x := by
  obtain ⟨k, e⟩ := h
  refine ⟨k * 2, ?_⟩
  rw [Int.pow_succ, ← Int.mul_assoc, e, Int.mul_assoc]
theorem dv_mono {x : Int} {i : Nat} (h : dv i x) : ∀ {j : Nat}, i ≤ j → dv j x
  | 0, hj => by have e : i = 0 := by omega
                subst e; exact h
  | j + 1, hj => by
    by_cases e : i = j + 1
    · subst e; exact h
    · exact dv_up (dv_mono h (j := j) (by omega))
theorem dv_add {i : Nat} {x y : Int} (h : dv i x) (k : dv i y) : dv i (x + y) := by
  obtain ⟨a, e⟩ := h
  obtain ⟨b, f⟩ := k
  exact ⟨a + b, by rw [Int.add_mul, e, f, Int.mul_add]⟩
theorem dv_half {i : Nat} {x : Int} (h : dv i x) (hi : i ≤ 7) : x % 2 = 0 ∧ dv (i + 1) (x / 2) := by
  obtain ⟨k, e⟩ := h
  have hh : x % 2 = 0 := by
    match i, hi with
    | 0, _ => simp at e; omega
    | 1, _ => simp at e; omega
    | 2, _ => simp at e; omega
    | 3, _ => simp at e; omega
    | 4, _ => simp at e; omega
    | 5, _ => simp at e; omega
    | 6, _ => simp at e; omega
    | 7, _ => simp at e; omega
    | n + 8, h => omega
  refine ⟨hh, k, ?_⟩
  rw [Int.pow_succ, Int.mul_comm (2 ^ i) 2, ← Int.mul_assoc, show x / 2 * 2 = x by omega]
  exact e
def ksc (s : Int → Int) (t : Int) (x y : Int) : Prop := dv (qnN s t (s 1).toNat) x ∧ y = 1048576 * x
theorem kin_sc {s : Int → Int} (hp : PQ s) : ∀ {r : Nat} {a b : Int}, one s a → one s b → tld s a < r → tld s b < r → ksc s (max (tld s a) (tld s b)) (kinG 65536 s r a b) (kinG 68719476736 s r a b)
  | 0, a, b, ha, hb, h1, h2 => by have := (hp.2.2.2.1 a ha).1; omega
  | r + 1, a, b, ha, hb, h1, h2 => by
    have ko : ∀ t x y : Int, t ≤ r → bef s t x → bef s t y → ksc s (t - 1) (kinO (kinG 65536 s r) x y) (kinO (kinG 68719476736 s r) x y) := fun t x y ht hx hy => by
      unfold kinO
      split
      · exact ⟨dv_0, rfl⟩
      · rename_i q
        rcases hx with hx | ⟨hx1, hx2⟩
        · omega
        · rcases hy with hy | ⟨hy1, hy2⟩
          · omega
          · have := kin_sc hp (r := r) hx1 hy1 (by omega) (by omega)
            exact ⟨dv_mono this.1 (qnN_mono (by omega)), this.2⟩
    have q8 := hp.1
    have hq : ∀ w, one s w → w < 8 → qnN s (tld s w - 1) (s 1).toNat + 1 ≤ qnN s (tld s w) (s 1).toNat ∧ qnN s (tld s w) (s 1).toNat ≤ 8 := fun w hw h8 => by
      have w0 := one_nn hw
      have w1 : w < s 1 := by unfold one at hw; omega
      refine ⟨qnN_lt (q := w.toNat) ?_ ?_ (by omega), ?_⟩
      · rw [show ((w.toNat : Nat) : Int) = w by omega]; omega
      · rw [show ((w.toNat : Nat) : Int) = w by omega]; omega
      · have := qnN_le (s := s) (t := tld s w) (n := (s 1).toNat)
        omega
    have sS : ∀ u v : Int, one s u → one s v → tld s v < tld s u → tld s u < (r + 1 : Nat) → ksc s (tld s u) (kinS (kinG 65536 s r) s u v) (kinS (kinG 68719476736 s r) s u v) := fun u v hu hv hl hr => by
      have k1 := ko (tld s u) (mot s u) v (by omega) (bef_m hp hu) (Or.inr ⟨hv, hl⟩)
      have k2 := ko (tld s u) (fat s u) v (by omega) (bef_f hp hu) (Or.inr ⟨hv, hl⟩)
      by_cases z : 8 ≤ u
      · rw [kinS_d z, kinS_d z]
        exact ⟨dv_mono k1.1 (qnN_mono (by omega)), k1.2⟩
      · rw [kinS_q (by omega), kinS_q (by omega)]
        have w := hq u hu (by omega)
        have d := dv_half (dv_add k1.1 k2.1) (by omega)
        refine ⟨dv_mono d.2 (by omega), ?_⟩
        have e1 := k1.2
        have e2 := k2.2
        omega
    by_cases e : a = b
    · subst e
      rw [show max (tld s a) (tld s a) = tld s a by omega]
      by_cases z : 8 ≤ a
      · rw [kinG_d rfl z, kinG_d rfl z]
        exact ⟨dv_W, rfl⟩
      · rw [kinG_q rfl (by omega), kinG_q rfl (by omega)]
        have k1 := ko (tld s a) (mot s a) (fat s a) (by omega) (bef_m hp ha) (bef_f hp ha)
        have w := hq a ha (by omega)
        have d := dv_half (dv_add dv_W k1.1) (by omega)
        refine ⟨dv_mono d.2 (by omega), ?_⟩
        have e1 := k1.2
        omega
    · by_cases z : tld s b < tld s a
      · rw [kinG_a e z, kinG_a e z, show max (tld s a) (tld s b) = tld s a by omega]
        exact sS a b ha hb z h1
      · have z2 : tld s a < tld s b := by
          have := hp.2.2.2.2.1 a b ha hb
          rcases (by omega : tld s a = tld s b ∨ tld s a < tld s b) with y | y
          · exact absurd (this y) e
          · exact y
        rw [kinG_b e z, kinG_b e z, show max (tld s a) (tld s b) = tld s b by omega]
        exact sS b a hb ha z2 h2
theorem gq_sc {x : Int} (h : 0 ≤ x) : (1048576 * x) / gq (1048576 * x) 68719476736 = x / gq x 65536 ∧ 68719476736 / gq (1048576 * x) 68719476736 = 65536 / gq x 65536 := by
  have e : gq (1048576 * x) 68719476736 = 1048576 * gq x 65536 := by
    unfold gq
    have e1 : (1048576 * x).toNat = 1048576 * x.toNat := by omega
    have e2 : (68719476736 : Int).toNat = 1048576 * (65536 : Int).toNat := by decide
    rw [e1, e2, Nat.gcd_mul_left]
    simp
  rw [e]
  refine ⟨Int.mul_ediv_mul_of_pos _ _ (by decide), ?_⟩
  rw [show (68719476736 : Int) = 1048576 * 65536 by decide]
  exact Int.mul_ediv_mul_of_pos _ _ (by decide)
/-- by all that were told: enough fuel -/
def kinX (W : Int) (s : Int → Int) (a b : Int) : Int := kinG W s 17 a b
theorem PQ.t16 {s : Int → Int} {a : Int} (hp : PQ s) (h : one s a) : 0 ≤ tld s a ∧ tld s a < 16 := by
  have := (hp.2.2.2.1 a h).1
  have := hp.1
  have := hp.2.1
  omega
theorem kinX_sc {s : Int → Int} {a b : Int} (hp : PQ s) (ha : one s a) (hb : one s b) : kinX 68719476736 s a b = 1048576 * kinX 65536 s a b :=
  (kin_sc hp (r := 17) ha hb (by have := hp.t16 ha; omega) (by have := hp.t16 hb; omega)).2
theorem kinX_bd {W : Int} {s : Int → Int} {a b : Int} (hW : 0 ≤ W) : 0 ≤ kinX W s a b ∧ kinX W s a b ≤ W := kinG_bd hW
theorem kinX_f {W : Int} {s : Int → Int} (hp : PQ s) : ∀ u v, one s u → one s v → tld s u < 16 → tld s v < 16 → kinG W s 16 u v = kinX W s u v := fun u v hu hv h1 h2 => kinG_fu hp hu hv (by omega) (by omega) (by omega) (by omega)
theorem kinX_l {W : Int} {s : Int → Int} {a b : Int} (hp : PQ s) (ha : one s a) (hb : one s b) (h : tld s b < tld s a) : kinX W s a b = kinS (kinX W s) s a b ∧ kinX W s b a = kinS (kinX W s) s a b := by
  have ne : a ≠ b := fun z => by rw [z] at h; omega
  have ta := hp.t16 ha
  have e := kinS_fu (W := W) (g := kinG W s 16) (g' := kinX W s) hp ha hb h (fun u v hu hv h1 h2 => kinX_f hp u v hu hv (by omega) (by omega))
  refine ⟨?_, ?_⟩
  · exact (kinG_a ne h).trans e
  · exact (kinG_b (fun z => ne z.symm) (by omega)).trans e
theorem kinX_d {W : Int} {s : Int → Int} {a : Int} (h : 8 ≤ a) : kinX W s a a = W := kinG_d rfl h
theorem kinX_q {W : Int} {s : Int → Int} {a : Int} (hp : PQ s) (ha : one s a) (h : a < 8) : kinX W s a a = (W + kinO (kinX W s) (mot s a) (fat s a)) / 2 := by
  have ta := hp.t16 ha
  have e := kinO_fu (W := W) (g := kinG W s 16) (g' := kinX W s) (t := tld s a) (fun u v hu hv h1 h2 => kinX_f hp u v hu hv (by omega) (by omega)) (bef_m hp ha) (bef_f hp ha)
  exact (kinG_q rfl h).trans (by rw [e])
/-- the table's part that is laid -/
def KT (s : Int → Int) (i : Int) (kk : Int → Int) : Prop := ∀ u v, one s u → one s v → tld s u < i → tld s v < i → kk (16 * u + v) = kinX 68719476736 s u v
def KI (s : Int → Int) (i a k : Int) (kk : Int → Int) : Prop := KT s i kk ∧ ∀ b, one s b → tld s b < k → kk (16 * a + b) = kinX 68719476736 s a b ∧ kk (16 * b + a) = kinX 68719476736 s b a
theorem KI.put {s : Int → Int} {i a k b v : Int} {kk : Int → Int} (hp : PQ s) (h : KI s i a k kk) (ha : one s a) (hb : one s b) (ta : tld s a = i) (tb : tld s b = k) (hki : k < i) (hv : v = kinS (kinX 68719476736 s) s a b) : KI s i a (k + 1) (upA (upA kk (16 * a + b) v) (16 * b + a) v) := by
  have hl := kinX_l (W := 68719476736) hp ha hb (by omega)
  have ab := one_bd hp.1 ha
  have bb := one_bd hp.1 hb
  have nab : a ≠ b := fun z => by rw [z] at ta; omega
  refine ⟨fun u w hu hw hu1 hw1 => ?_, fun c hc hc1 => ?_⟩
  · have ub := one_bd hp.1 hu
    have wb := one_bd hp.1 hw
    have n1 : u ≠ a := fun z => by rw [z] at hu1; omega
    have n2 : w ≠ a := fun z => by rw [z] at hw1; omega
    rw [upA_n (by omega), upA_n (by omega)]
    exact h.1 u w hu hw hu1 hw1
  · have cb := one_bd hp.1 hc
    by_cases e : c = b
    · subst e
      rw [upA_s, upA_n (by omega), upA_s, hv]
      exact ⟨hl.1.symm, hl.2.symm⟩
    · have tc : tld s c < k := by
        rcases (by omega : tld s c = k ∨ tld s c < k) with z | z
        · exact absurd (hp.2.2.2.2.1 c b hc hb (by omega)) e
        · exact z
      have nca : c ≠ a := fun z => by rw [z] at tc; omega
      rw [upA_n (by omega), upA_n (by omega), upA_n (by omega), upA_n (by omega)]
      exact h.2 c hc tc
theorem KI.done {s : Int → Int} {i a v : Int} {kk : Int → Int} (hp : PQ s) (h : KI s i a i kk) (ha : one s a) (ta : tld s a = i) (hv : v = kinX 68719476736 s a a) : KT s (i + 1) (upA kk (17 * a) v) := by
  have ab := one_bd hp.1 ha
  have un : ∀ u, one s u → tld s u < i + 1 → u = a ∨ tld s u < i := fun u hu h1 => by
    rcases (by omega : tld s u = i ∨ tld s u < i) with z | z
    · exact Or.inl (hp.2.2.2.2.1 u a hu ha (by omega))
    · exact Or.inr z
  intro u w hu hw hu1 hw1
  have ub := one_bd hp.1 hu
  have wb := one_bd hp.1 hw
  rcases un u hu hu1 with e | e
  · rcases un w hw hw1 with f | f
    · subst e f
      rw [show 16 * w + w = 17 * w by omega, upA_s]; exact hv
    · have nwa : w ≠ a := fun z => by rw [z] at f; omega
      subst e
      rw [upA_n (by omega)]
      exact (h.2 w hw f).1
  · have nua : u ≠ a := fun z => by rw [z] at e; omega
    rcases un w hw hw1 with f | f
    · subst f
      rw [upA_n (by omega)]
      exact (h.2 u hu e).2
    · have nwa : w ≠ a := fun z => by rw [z] at f; omega
      rw [upA_n (by omega)]
      exact h.1 u w hu hw e f
/-- the nearest of kin -/
def suiF (g : Int → Int → Int) (q : Int) : Nat → Int
  | 0 => 8
  | k + 1 => if g q (9 + k) < g q (suiF g q k) then 9 + k else suiF g q k
theorem suiF_bd {g : Int → Int → Int} {q : Int} : ∀ {k : Nat}, 8 ≤ suiF g q k ∧ suiF g q k ≤ 8 + k
  | 0 => by simp [suiF]
  | k + 1 => by
    have := suiF_bd (g := g) (q := q) (k := k)
    simp only [suiF]
    split <;> omega
theorem suiF_sc {s : Int → Int} {q : Int} (hp : PQ s) (hq : one s q) : ∀ {k : Nat}, 8 + (k : Int) < 8 + s 2 → suiF (kinX 68719476736 s) q k = suiF (kinX 65536 s) q k
  | 0, _ => by simp only [suiF]
  | k + 1, h => by
    have ih := suiF_sc hp hq (k := k) (by omega)
    have b := suiF_bd (g := kinX 65536 s) (q := q) (k := k)
    have o1 : one s (9 + k) := Or.inr ⟨by omega, by omega⟩
    have o2 : one s (suiF (kinX 65536 s) q k) := Or.inr ⟨by omega, by omega⟩
    simp only [suiF]
    rw [ih, kinX_sc hp hq o1, kinX_sc hp hq o2]
    by_cases z : kinX 65536 s q (9 + k) < kinX 65536 s q (suiF (kinX 65536 s) q k)
    · rw [if_pos z, if_pos (by omega)]
    · rw [if_neg z, if_neg (by omega)]
