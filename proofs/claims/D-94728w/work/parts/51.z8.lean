/-! H8: one hive's numbers change, or the swarm's -/
theorem PI.one {s s' : Int → Int} {k : Int} (h : PI s) (k0 : 0 ≤ k) (k1 : k < s 0) (hd : ∀ i, (i < 64 + 198 * k + 1 ∨ 64 + 198 * k + 5 < i) → i ≠ 11 → i ≠ 12 → s' i = s i) (hb : 0 ≤ s' (64 + 198 * k + 1)) (hu : 0 ≤ s' (64 + 198 * k + 2)) (hq : -1 ≤ s' (64 + 198 * k + 3) ∧ s' (64 + 198 * k + 3) < s 1)
    (hw : 0 ≤ s' (64 + 198 * k + 4) ∧ s' (64 + 198 * k + 4) ≤ 99999) (hm : 0 ≤ s' (64 + 198 * k + 5) ∧ s' (64 + 198 * k + 5) ≤ 9999 * s' (64 + 198 * k + 4)) (hB : s' (64 + 198 * k + 1) + max (s' 11) 0 ≤ s (64 + 198 * k + 1) + max (s 11) 0) (hU : s' (64 + 198 * k + 2) ≤ s (64 + 198 * k + 2))
    (ps : -1 ≤ s' 11 ∧ (-1 ≤ s' 12 ∧ s' 12 < s 1) ∧ (s' 11 = -1 ↔ s' 12 = -1)) : PI s' := by
  obtain ⟨a1, a2, a3, a4, ⟨a5, a6⟩, a7⟩ := h
  have e : ∀ i, i < 64 → i ≠ 11 → i ≠ 12 → s' i = s i := fun i i0 i1 i2 => hd i (by omega) i1 i2
  have e0 := e 0 (by omega) (by omega) (by omega)
  have e1 := e 1 (by omega) (by omega) (by omega)
  have e3 := e 3 (by omega) (by omega) (by omega)
  have b := sumB_upd (s := s) (s' := s') e0 k0 k1 fun j j0 j1 ne => hd _ (by omega) (by omega) (by omega)
  have u := sumU_upd (s := s) (s' := s') e0 k0 k1 fun j j0 j1 ne => hd _ (by omega) (by omega) (by omega)
  rw [show 65 + 198 * k = 64 + 198 * k + 1 by omega] at b
  rw [show 66 + 198 * k = 64 + 198 * k + 2 by omega] at u
  refine ⟨by rw [e0]; exact a1, by rw [e3]; exact a2, fun j j0 j1 => ?_, a4.ext e1 (e 2 (by omega) (by omega) (by omega)) (fun i i0 i1 => e i i1 (by omega) (by omega)), ⟨by rw [e3]; omega, by omega⟩, by rw [e1]; exact ps⟩
  rw [e0] at j1
  obtain ⟨p1, p2, p3, p4, p5, p6, p7⟩ := a3 j j0 j1
  have r0 : s' (64 + 198 * j) = s (64 + 198 * j) := hd _ (by omega) (by omega) (by omega)
  have rg : rgF (s (64 + 198 * j)) (sh (64 + 198 * j) s') := by
    intro i i0 i1
    unfold sh
    rw [hd _ (by omega) (by omega) (by omega)]
    exact p2 i i0 i1
  unfold PH
  rw [r0, e1]
  by_cases ne : j = k
  · subst ne
    exact ⟨p1, rg, hb, hu, hq, hw, hm⟩
  · rw [hd (64 + 198 * j + 1) (by omega) (by omega) (by omega), hd (64 + 198 * j + 2) (by omega) (by omega) (by omega), hd (64 + 198 * j + 3) (by omega) (by omega) (by omega), hd (64 + 198 * j + 4) (by omega) (by omega) (by omega), hd (64 + 198 * j + 5) (by omega) (by omega) (by omega)]
    exact ⟨p1, rg, p3, p4, p5, p6, p7⟩
theorem YR.swq {own : Int → Int} {y sz : Int} {im : Int → aIm} {ct ct' : Int → Int → Int} {ya b q : Int} {s : Int → Int} {dd : Int} {N : Int → Int} (H : YR own y sz im ct ya s dd N) (hx : ∀ x j, ¬ (x = ya ∧ (j = 10 ∨ j = 11)) → ct' x j = ct x j) (h11 : ct' ya 11 = q) (h10 : q ≠ -1 → ct' ya 10 = b) : YR own y sz im ct' ya (upA (upA s 11 b) 12 q) dd N := by
  obtain ⟨-, -, -, -, -, ⟨b1, b2, b3, b4, b5, b6, b7, b8⟩, -, -⟩ := id H
  refine H.scal (fun x j ne => hx x j fun z => ne z.1) (fun i hi => by rw [upA_n (by omega), upA_n (by omega)]) (by rw [upA_n (by omega), upA_n (by omega)]) ⟨?_, ?_, ?_, ?_, ?_, ?_, ?_, ?_⟩ ⟨by rw [upA_s]; exact h11, fun z => ?_⟩
  · rw [hx _ _ (by omega), upA_n (by omega), upA_n (by omega)]; exact b1
  · rw [hx _ _ (by omega)]; exact b2
  · rw [hx _ _ (by omega), upA_n (by omega), upA_n (by omega)]; exact b3
  · rw [hx _ _ (by omega), upA_n (by omega), upA_n (by omega)]; exact b4
  · rw [hx _ _ (by omega), upA_n (by omega), upA_n (by omega)]; exact b5
  · rw [hx _ _ (by omega), upA_n (by omega), upA_n (by omega)]; exact b6
  · rw [hx _ _ (by omega), upA_n (by omega), upA_n (by omega)]; exact b7
  · rw [hx _ _ (by omega), upA_n (by omega), upA_n (by omega)]; exact b8
  · rw [upA_s] at z
    rw [upA_n (by omega), upA_s]; exact h10 z
theorem isum_lin (f g : Int → Int) (a b : Int) : ∀ n : Nat, isum (fun i => a * f i + b * g i) n = a * isum f n + b * isum g n
  | 0 => by simp [isum]
  | n + 1 => by
    simp only [isum]
    rw [isum_lin f g a b n, Int.mul_add, Int.mul_add]
    omega
theorem isum_const (a : Int) : ∀ n : Nat, isum (fun _ => a) n = a * n
  | 0 => by simp [isum]
  | n + 1 => by
    simp only [isum]
    rw [isum_const a n]
    have : a * ((n + 1 : Nat) : Int) = a * n + a := by rw [Int.natCast_add, Int.mul_add]; simp
    omega
theorem room_sum {n : Int} {c : Int → Int} (h : rgF n c) (hn : 0 ≤ n) : isum (fun i => max 0 (100 - c i)) (nF n) = 100 * (16 * n - isum (fun i => sv 1 (c i)) (nF n)) - isum (fun i => sv 0 (c i)) (nF n) := by
  have e : isum (fun i => max 0 (100 - c i)) (nF n) = isum (fun i => 100 * ((fun _ => 1) i) + (-1) * ((fun i => 100 * sv 1 (c i) + 1 * sv 0 (c i)) i)) (nF n) := by
    apply isum_congr
    intro i i0 i1
    have := h i i0 (by unfold nF at i1; omega)
    show max 0 (100 - c i) = 100 * 1 + -1 * (100 * sv 1 (c i) + 1 * sv 0 (c i))
    unfold sv
    rw [if_neg (by decide), if_pos rfl, if_pos rfl]
    by_cases q : 101 ≤ c i
    · rw [if_pos q, if_neg (by omega)]; omega
    · rw [if_neg q, if_pos (by omega)]; omega
  rw [e, isum_lin, isum_lin, isum_const]
  have : ((nF n : Nat) : Int) = 16 * n := by unfold nF; omega
  omega
/-- the greatest common divisor -/
def gq (a b : Int) : Int := ((Nat.gcd a.toNat b.toNat : Nat) : Int)
theorem gq_0 {u : Int} (h : 0 ≤ u) : gq u 0 = u := by
  unfold gq
  simp
  omega
theorem gq_step {u v : Int} (hu : 0 ≤ u) (hv : 0 < v) : gq v (u % v) = gq u v := by
  unfold gq
  have e : (u % v).toNat = u.toNat % v.toNat := Int.toNat_emod hu (by omega)
  rw [e, Nat.gcd_comm, ← Nat.gcd_rec, Nat.gcd_comm]
theorem gq_pos {u v : Int} (hv : 0 < v) : 0 < gq u v := by
  unfold gq
  have := Nat.gcd_pos_of_pos_right u.toNat (show 0 < v.toNat by omega)
  omega
/-- the best of hives, one after the other -/
def strF (s : Int → Int) : Nat → Int
  | 0 => -1
  | k + 1 => if s (64 + 198 * k + 3) ≠ -1 ∧ (strF s k = -1 ∨ s (64 + 198 * strF s k + 1) < s (64 + 198 * k + 1)) then k else strF s k
def worF (s : Int → Int) : Nat → Int
  | 0 => -1
  | k + 1 => if s (64 + 198 * k + 4) ≠ 0 ∧ (worF s k = -1 ∨ w64 (s (64 + 198 * worF s k + 5) * s (64 + 198 * k + 4)) < w64 (s (64 + 198 * k + 5) * s (64 + 198 * worF s k + 4))) then k else worF s k
theorem strF_bd {s : Int → Int} : ∀ {k : Nat}, -1 ≤ strF s k ∧ strF s k < k
  | 0 => by simp [strF]
  | k + 1 => by
    have := strF_bd (s := s) (k := k)
    simp only [strF]
    split <;> omega
theorem worF_bd {s : Int → Int} : ∀ {k : Nat}, -1 ≤ worF s k ∧ worF s k < k
  | 0 => by simp [worF]
  | k + 1 => by
    have := worF_bd (s := s) (k := k)
    simp only [worF]
    split <;> omega
/-- mites and washed bees of the hives that are asked for -/
def shF (s : Int → Int) (j a : Int) (k : Int) : Int := if a = -1 ∨ k = a then s (64 + 198 * k + j) else 0
/-- honey of hive k -/
def hoK (s : Int → Int) (k : Int) : Int := isum (fun i => sv 0 (sh (64 + 198 * k) s i)) (nF (s (64 + 198 * k)))
theorem hoK_bd {s : Int → Int} {k : Int} (h : PI s) (k0 : 0 ≤ k) (k1 : k < s 0) : 0 ≤ hoK s k ∧ hoK s k ≤ 19200 := by
  have gh := h.2.2.1 k k0 k1
  have gn := gh.1
  have := isum_bd (g := fun i => sv 0 (sh (64 + 198 * k) s i)) (B := 100) (n := nF (s (64 + 198 * k))) fun i i0 i1 => sv_bd (gh.2.1 i i0 (by unfold nF at i1; omega)).1
  have hn : ((nF (s (64 + 198 * k)) : Nat) : Int) = 16 * s (64 + 198 * k) := by unfold nF; omega
  unfold hoK
  omega
theorem even_sum {s : Int → Int} {l : Int} : ∀ n : Nat, isum (fun k => max 0 (hoK s k - l)) n = isum (fun k => max 0 (hoK s k - l - 1)) n + isum (fun k => if l < hoK s k then (1 : Int) else 0) n
  | 0 => by simp [isum]
  | n + 1 => by
    simp only [isum]
    rw [even_sum n]
    split <;> omega
theorem one_bd {s : Int → Int} {w : Int} (hq : ((0 ≤ s 1 ∧ s 1 ≤ 8) ∧ 0 ≤ s 2 ∧ s 2 ≤ 8)) (h : one s w) : 0 ≤ w ∧ w < 16 := by unfold one at h; omega
theorem LR.motE {own : Int → Int} {sz : Int} {im : Int → aIm} {ct : Int → Int → Int} {la w : Int} {s N : Int → Int} (H : LR own sz im ct la s N) (h : one s w) : ct ((im la).2.2 1) w = mot s w := by
  obtain ⟨h1, h2, h3, h4, h5, h6, h7⟩ := H
  unfold mot
  rcases h with ⟨a, b⟩ | ⟨a, b⟩
  · rw [if_pos (by omega)]; exact (h6 w a b).1
  · rw [if_neg (by omega)]
    have := (h7 (w - 8) (by omega) (by omega)).1
    rw [show 8 + (w - 8) = w by omega] at this
    exact this
theorem LR.fatE {own : Int → Int} {sz : Int} {im : Int → aIm} {ct : Int → Int → Int} {la w : Int} {s N : Int → Int} (H : LR own sz im ct la s N) (h : one s w) : ct ((im la).2.2 2) w = fat s w := by
  obtain ⟨h1, h2, h3, h4, h5, h6, h7⟩ := H
  unfold fat
  rcases h with ⟨a, b⟩ | ⟨a, b⟩
  · rw [(h6 w a b).2.1]
    by_cases e : s (16 + 4 * w) = -1
    · rw [if_pos e, if_pos (Or.inr e)]
    · rw [if_neg e, if_neg (by omega)]
  · rw [if_pos (by omega)]
    have := (h7 (w - 8) (by omega) (by omega)).2.1
    rw [show 8 + (w - 8) = w by omega] at this
    exact this
theorem LR.tldE {own : Int → Int} {sz : Int} {im : Int → aIm} {ct : Int → Int → Int} {la w : Int} {s N : Int → Int} (H : LR own sz im ct la s N) (h : one s w) : ct ((im la).2.2 3) w = tld s w := by
  obtain ⟨h1, h2, h3, h4, h5, h6, h7⟩ := H
  unfold tld
  rcases h with ⟨a, b⟩ | ⟨a, b⟩
  · rw [if_pos (by omega)]; exact (h6 w a b).2.2.1
  · rw [if_neg (by omega)]
    have := (h7 (w - 8) (by omega) (by omega)).2.2.1
    rw [show 8 + (w - 8) = w by omega] at this
    exact this
/-- a chain of mothers that ends in f steps -/
def chn (s : Int → Int) (f : Nat) (k : Int) : Prop := k = -1 ∨ (one s k ∧ tld s k < f)
theorem chn.step {s : Int → Int} {f : Nat} {k : Int} (hp : PQ s) (h : one s k) (ht : tld s k < (f + 1 : Nat)) : chn s f (mot s k) := by
  have := (hp.2.2.2.1 k h).2.1
  rcases this with e | ⟨e1, e2⟩
  · exact Or.inl e
  · exact Or.inr ⟨Or.inl e1, by omega⟩
theorem chn.of {s : Int → Int} {k : Int} (hp : PQ s) (h : one s k) : chn s 16 k := Or.inr ⟨h, by have := (hp.2.2.2.1 k h).1; have := hp.1; have := hp.2.1; omega⟩
theorem chn.zero {s : Int → Int} {k : Int} (hp : PQ s) (h : chn s 0 k) : k = -1 := by
  rcases h with h | ⟨h, e⟩
  · exact h
  · have := (hp.2.2.2.1 k h).1
    omega
def momN (s : Int → Int) : Nat → Int → Int
  | 0, _ => 0
  | f + 1, k => if k = -1 then 0 else momN s f (mot s k) + 1
theorem momN_n {s : Int → Int} : ∀ {f : Nat}, momN s f (-1) = 0
  | 0 => rfl
  | f + 1 => by simp [momN]
def inL (s : Int → Int) (w : Int) : Nat → Int → Int
  | 0, _ => 0
  | f + 1, k => if k = -1 then 0 else if k = w then 1 else inL s w f (mot s k)
theorem inL_n {s : Int → Int} {w : Int} : ∀ {f : Nat}, inL s w f (-1) = 0
  | 0 => rfl
  | f + 1 => by simp [inL]
theorem inL_01 {s : Int → Int} {w : Int} : ∀ {f : Nat} {k : Int}, inL s w f k = 0 ∨ inL s w f k = 1
  | 0, _ => Or.inl rfl
  | f + 1, k => by
    simp only [inL]
    split
    · exact Or.inl rfl
    · split
      · exact Or.inr rfl
      · exact inL_01
def neaF (s : Int → Int) (b : Int) : Nat → Int → Int
  | 0, _ => -1
  | f + 1, i => if i = -1 then -1 else if inL s i 16 b = 1 then i else neaF s b f (mot s i)
theorem neaF_n {s : Int → Int} {b : Int} : ∀ {f : Nat}, neaF s b f (-1) = -1
  | 0 => rfl
  | f + 1 => by simp [neaF]
theorem neaF_bd {s : Int → Int} {b : Int} (hp : PQ s) : ∀ {f : Nat} {i : Int}, chn s f i → -1 ≤ neaF s b f i
  | 0, _, _ => by simp [neaF]
  | f + 1, i, h => by
    simp only [neaF]
    split
    · omega
    · rcases h with h | ⟨h, e⟩
      · omega
      · split
        · have := one_bd hp.1 h; omega
        · exact neaF_bd hp (chn.step hp h e)
theorem PQ.f16 {s : Int → Int} {q : Int} (h : PQ s) (q0 : 0 ≤ q) (q1 : q < s 1) : -1 ≤ s (16 + 4 * q) ∧ s (16 + 4 * q) < s 2 := by
  have h8 := h.1
  have h9 := (h.2.2.1 q q0 q1).2
  have hf := (h.2.2.2.1 q (Or.inl ⟨q0, q1⟩)).2.2
  unfold fat at hf
  by_cases e : s (16 + 4 * q) = -1
  · omega
  · rw [if_neg (by omega)] at hf
    omega
theorem isum_ge {g : Int → Int} {k : Int} : ∀ {n : Nat}, (∀ i : Int, 0 ≤ i → i < n → 0 ≤ g i) → 0 ≤ k → k < n → g k ≤ isum g n
  | 0, _, h0, h1 => by omega
  | n + 1, h, h0, h1 => by
    have hn : 0 ≤ isum g n := by
      clear h1
      induction n with
      | zero => simp [isum]
      | succ m ih =>
        simp only [isum]
        have := ih (fun i i0 i1 => h i i0 (by omega))
        have := h m (by omega) (by omega)
        omega
    simp only [isum]
    by_cases e : k = n
    · subst e; omega
    · have := isum_ge (n := n) (fun i i0 i1 => h i i0 (by omega)) h0 (by omega)
      have := h n (by omega) (by omega)
      omega
theorem sumB_ge {s : Int → Int} {k : Int} (h : PI s) (k0 : 0 ≤ k) (k1 : k < s 0) : s (64 + 198 * k + 1) ≤ sumB s := by
  unfold sumB
  rw [show 64 + 198 * k + 1 = 65 + 198 * k by omega]
  refine isum_ge (g := fun k => s (65 + 198 * k)) (fun i i0 i1 => ?_) k0 (by omega)
  have := (h.2.2.1 i i0 (by omega)).2.2.1
  rw [show 64 + 198 * i + 1 = 65 + 198 * i by omega] at this
  exact this
/-- the sort of a field: empty, honey, brood -/
def fso (v c : Int) : Int := if (if v = 0 then (0 : Int) else if v ≤ 100 then 1 else 2) = c then 1 else 0
theorem fso_bd {v c : Int} : 0 ≤ fso v c ∧ fso v c ≤ 1 := by
  unfold fso
  split <;> omega
/-- the youngest or the oldest brood -/
def agT (c : Int → Int) (m : Int) (w r : Int) : Prop := (r = -1 ∧ ∀ i, 0 ≤ i → i < m → c i < 101) ∨ ∃ i, 0 ≤ i ∧ i < m ∧ 101 ≤ c i ∧ r = c i - 101 ∧ ∀ j, 0 ≤ j → j < m → 101 ≤ c j → (w = 0 → r ≤ c j - 101) ∧ (w ≠ 0 → c j - 101 ≤ r)
theorem agT_0 {c : Int → Int} {w : Int} : agT c 0 w (-1) := Or.inl ⟨rfl, fun i i0 i1 => by omega⟩
theorem agT.skip {c : Int → Int} {m w r : Int} (h : agT c m w r) (hv : c m < 101) : agT c (m + 1) w r := by
  rcases h with ⟨h1, h2⟩ | ⟨i, i0, i1, h1, h2, h3⟩
  · exact Or.inl ⟨h1, fun j j0 j1 => by
      by_cases e : j = m
      · subst e; exact hv
      · exact h2 j j0 (by omega)⟩
  · exact Or.inr ⟨i, i0, by omega, h1, h2, fun j j0 j1 hj => by
      by_cases e : j = m
      · subst e; omega
      · exact h3 j j0 (by omega) hj⟩
theorem agT.keep {c : Int → Int} {m w r : Int} (h : agT c m w r) (hr : r ≠ -1) (h0 : w = 0 → r ≤ c m - 101) (h9 : w ≠ 0 → c m - 101 ≤ r) : agT c (m + 1) w r := by
  rcases h with ⟨h1, h2⟩ | ⟨i, i0, i1, h1, h2, h3⟩
  · exact absurd h1 hr
  · exact Or.inr ⟨i, i0, by omega, h1, h2, fun j j0 j1 hj => by
      by_cases e : j = m
      · subst e; exact ⟨h0, h9⟩
      · exact h3 j j0 (by omega) hj⟩
theorem agT.new {c : Int → Int} {m w r : Int} (hm : 0 ≤ m) (h : agT c m w r) (hv : 101 ≤ c m) (h0 : r ≠ -1 → w = 0 → c m - 101 ≤ r) (h9 : r ≠ -1 → w ≠ 0 → r ≤ c m - 101) : agT c (m + 1) w (c m - 101) := by
  refine Or.inr ⟨m, hm, by omega, hv, rfl, fun j j0 j1 hj => ?_⟩
  by_cases e : j = m
  · subst e; omega
  · rcases h with ⟨h1, h2⟩ | ⟨i, i0, i1, h1, h2, h3⟩
    · have := h2 j j0 (by omega)
      omega
    · have q := h3 j j0 (by omega) hj
      have a := h0 (by omega)
      have b := h9 (by omega)
      exact ⟨fun z => by have := q.1 z; have := a z; omega, fun z => by have := q.2 z; have := b z; omega⟩
theorem agT.uniq {c : Int → Int} {m w r r' : Int} (h : agT c m w r) (k : agT c m w r') : r = r' := by
  rcases h with ⟨h1, h2⟩ | ⟨i, i0, i1, h1, h2, h3⟩
  · rcases k with ⟨k1, k2⟩ | ⟨j, j0, j1, k1, k2, k3⟩
    · omega
    · have := h2 j j0 j1; omega
  · rcases k with ⟨k1, k2⟩ | ⟨j, j0, j1, k1, k2, k3⟩
    · have := k2 i i0 i1; omega
    · have a := h3 j j0 j1 k1
      have b := k3 i i0 i1 h1
      by_cases e : w = 0
      · have := a.1 e; have := b.1 e; omega
      · have := a.2 e; have := b.2 e; omega
theorem agT.bd {c : Int → Int} {m w r : Int} (h : agT c m w r) : -1 ≤ r := by
  rcases h with ⟨h1, h2⟩ | ⟨i, i0, i1, h1, h2, h3⟩ <;> omega
theorem agT.fldE {c : Int → Int} {n w r : Int} (h : agT (fun k => c (fld n k)) (16 * n) w r) : agT c (16 * n) w r := by
  rcases h with ⟨h1, h2⟩ | ⟨i, i0, i1, h1, h2, h3⟩
  · exact Or.inl ⟨h1, all_fld h2⟩
  · have hf := fld_in i0 i1
    exact Or.inr ⟨fld n i, hf.1, hf.2, h1, h2, all_fld (p := fun j => 101 ≤ c j → (w = 0 → r ≤ c j - 101) ∧ (w ≠ 0 → c j - 101 ≤ r)) h3⟩
/-- the frame with most honey -/
def ricF (c : Int → Int) : Nat → Int
  | 0 => 0
  | k + 1 => if harN (ricF c k) 16 c < harN k 16 c then k else ricF c k
theorem ricF_bd {c : Int → Int} : ∀ {k : Nat}, 0 ≤ ricF c k ∧ (ricF c k = 0 ∨ ricF c k < k)
  | 0 => by simp [ricF]
  | k + 1 => by
    have := ricF_bd (c := c) (k := k)
    simp only [ricF]
    split <;> omega
theorem harN_bd {c : Int → Int} {n f : Int} {k : Nat} (r : rgF n c) (f0 : 0 ≤ f) (f1 : f < n) (hk : k ≤ 16) : 0 ≤ harN f k c ∧ harN f k c ≤ 100 * k :=
  isum_bd (g := fun i => sv 0 (c (16 * f + i))) (B := 100) (n := k) fun i i0 i1 => sv_bd (r _ (by omega) (by omega)).1
