set_option maxRecDepth 100000
/-! P1: the reading of texts, in plain terms: tokens -/
abbrev ltr (c : Int) : Prop := 97 ≤ c ∧ c ≤ 122
abbrev dgt (c : Int) : Prop := 48 ≤ c ∧ c ≤ 57
abbrev wsp (c : Int) : Prop := c = 10 ∨ c = 32
abbrev sgc (c : Int) : Prop := c = 59 ∨ c = 60 ∨ c = 62 ∨ c = 61
noncomputable def ska (g : Int → Prop) (tp : Int → Int) : Nat → Int → Int
  | 0, p => p
  | r + 1, p => by classical exact if g (tp p) then ska g tp r (p + 1) else p
theorem ska_y {g : Int → Prop} {tp : Int → Int} {r : Nat} {p : Int} (h : g (tp p)) : ska g tp (r + 1) p = ska g tp r (p + 1) := if_pos h
theorem ska_n {g : Int → Prop} {tp : Int → Int} {r : Nat} {p : Int} (h : ¬ g (tp p)) : ska g tp r p = p := by
  cases r with
  | zero => rfl
  | succ r => exact if_neg h
theorem ska_bd {g : Int → Prop} {tp : Int → Int} : ∀ {r : Nat} {p : Int}, p ≤ ska g tp r p ∧ ska g tp r p ≤ p + r
  | 0, p => ⟨Int.le_refl _, by show p ≤ p + ((0 : Nat) : Int); omega⟩
  | r + 1, p => by
    by_cases h : g (tp p)
    · rw [ska_y h]
      have := ska_bd (g := g) (tp := tp) (r := r) (p := p + 1)
      omega
    · rw [ska_n h]
      omega
theorem ska_in {g : Int → Prop} {tp : Int → Int} : ∀ {r : Nat} {p j : Int}, p ≤ j → j < ska g tp r p → g (tp j)
  | 0, p, j, h1, h2 => by
    have : j < p := h2
    omega
  | r + 1, p, j, h1, h2 => by
    by_cases h : g (tp p)
    · rw [ska_y h] at h2
      by_cases e : j = p
      · subst e; exact h
      · exact ska_in (p := p + 1) (by omega) h2
    · rw [ska_n h] at h2
      omega
theorem ska_1 {g : Int → Prop} {tp : Int → Int} {r : Nat} {p : Int} (hr : 1 ≤ r) (h : g (tp p)) : p + 1 ≤ ska g tp r p := by
  obtain ⟨m, rfl⟩ : ∃ m, r = m + 1 := ⟨r - 1, by omega⟩
  rw [ska_y h]
  exact ska_bd.1
/-- where the token behind p begins -/
noncomputable def tF (tp : Int → Int) (n p : Int) : Int := ska wsp tp (n - p).toNat p
/-- where it ends -/
noncomputable def tE (tp : Int → Int) (n p : Int) : Int := by
  classical exact if n ≤ tF tp n p then tF tp n p else if ltr (tp (tF tp n p)) then ska ltr tp (n - tF tp n p).toNat (tF tp n p) else if dgt (tp (tF tp n p)) then ska dgt tp (n - tF tp n p).toNat (tF tp n p) else tF tp n p + 1
/-- its kind: none, a word, a number, a sign, none of these -/
noncomputable def tK (tp : Int → Int) (n p : Int) : Int := by
  classical exact if n ≤ tF tp n p then 0 else if ltr (tp (tF tp n p)) then 1 else if dgt (tp (tF tp n p)) then (if 4 < tE tp n p - tF tp n p then 4 else 2) else if sgc (tp (tF tp n p)) then 3 else 4
/-- digits as a number -/
def dV (tp : Int → Int) (f : Int) : Nat → Int
  | 0 => 0
  | k + 1 => 10 * dV tp f k + tp (f + k) - 48
noncomputable def tV (tp : Int → Int) (n p : Int) : Int := dV tp (tF tp n p) (tE tp n p - tF tp n p).toNat
theorem dV_bd {tp : Int → Int} {f : Int} : ∀ {k : Nat}, (∀ j : Int, 0 ≤ j → j < k → dgt (tp (f + j))) → 0 ≤ dV tp f k ∧ dV tp f k < 10 ^ k
  | 0, _ => by simp [dV]
  | k + 1, h => by
    have h1 := dV_bd (k := k) fun j j0 j1 => h j j0 (by omega)
    have h2 := h k (by omega) (by omega)
    skip
    simp only [dV]
    have e : (10 : Int) ^ (k + 1) = 10 ^ k * 10 := Int.pow_succ 10 k
    omega
theorem tF_bd {tp : Int → Int} {n p : Int} (h : p ≤ n) : p ≤ tF tp n p ∧ tF tp n p ≤ n := by
  have := ska_bd (g := wsp) (tp := tp) (r := (n - p).toNat) (p := p)
  unfold tF
  omega
theorem tE_0 {tp : Int → Int} {n p : Int} (h : n ≤ tF tp n p) : tE tp n p = tF tp n p := if_pos h
theorem tK_0 {tp : Int → Int} {n p : Int} (h : n ≤ tF tp n p) : tK tp n p = 0 := if_pos h
theorem tE_1 {tp : Int → Int} {n p : Int} (h : ¬ n ≤ tF tp n p) (h1 : ltr (tp (tF tp n p))) : tE tp n p = ska ltr tp (n - tF tp n p).toNat (tF tp n p) := by
  unfold tE
  rw [if_neg h, if_pos h1]
theorem tK_1 {tp : Int → Int} {n p : Int} (h : ¬ n ≤ tF tp n p) (h1 : ltr (tp (tF tp n p))) : tK tp n p = 1 := by
  unfold tK
  rw [if_neg h, if_pos h1]
theorem tE_2 {tp : Int → Int} {n p : Int} (h : ¬ n ≤ tF tp n p) (h1 : ¬ ltr (tp (tF tp n p))) (h2 : dgt (tp (tF tp n p))) : tE tp n p = ska dgt tp (n - tF tp n p).toNat (tF tp n p) := by
  unfold tE
  rw [if_neg h, if_neg h1, if_pos h2]
theorem tK_2 {tp : Int → Int} {n p : Int} (h : ¬ n ≤ tF tp n p) (h1 : ¬ ltr (tp (tF tp n p))) (h2 : dgt (tp (tF tp n p))) : tK tp n p = if 4 < tE tp n p - tF tp n p then 4 else 2 := by
  unfold tK
  rw [if_neg h, if_neg h1, if_pos h2]
theorem tE_3 {tp : Int → Int} {n p : Int} (h : ¬ n ≤ tF tp n p) (h1 : ¬ ltr (tp (tF tp n p))) (h2 : ¬ dgt (tp (tF tp n p))) : tE tp n p = tF tp n p + 1 := by
  unfold tE
  rw [if_neg h, if_neg h1, if_neg h2]
theorem tK_3 {tp : Int → Int} {n p : Int} (h : ¬ n ≤ tF tp n p) (h1 : ¬ ltr (tp (tF tp n p))) (h2 : ¬ dgt (tp (tF tp n p))) (h3 : sgc (tp (tF tp n p))) : tK tp n p = 3 := by
  unfold tK
  rw [if_neg h, if_neg h1, if_neg h2, if_pos h3]
theorem tK_4 {tp : Int → Int} {n p : Int} (h : ¬ n ≤ tF tp n p) (h1 : ¬ ltr (tp (tF tp n p))) (h2 : ¬ dgt (tp (tF tp n p))) (h3 : ¬ sgc (tp (tF tp n p))) : tK tp n p = 4 := by
  unfold tK
  rw [if_neg h, if_neg h1, if_neg h2, if_neg h3]
theorem tE_bd {tp : Int → Int} {n p : Int} (h : p ≤ n) : tF tp n p ≤ tE tp n p ∧ tE tp n p ≤ n := by
  have hb := tF_bd (tp := tp) h
  by_cases h0 : n ≤ tF tp n p
  · rw [tE_0 h0]; omega
  · by_cases h1 : ltr (tp (tF tp n p))
    · rw [tE_1 h0 h1]
      have := ska_bd (g := ltr) (tp := tp) (r := (n - tF tp n p).toNat) (p := tF tp n p)
      omega
    · by_cases h2 : dgt (tp (tF tp n p))
      · rw [tE_2 h0 h1 h2]
        have := ska_bd (g := dgt) (tp := tp) (r := (n - tF tp n p).toNat) (p := tF tp n p)
        omega
      · rw [tE_3 h0 h1 h2]; omega
/-- a token is there: it is not empty -/
theorem tE_lt {tp : Int → Int} {n p : Int} (h : p ≤ n) (hk : tK tp n p ≠ 0) : tF tp n p < tE tp n p ∧ tF tp n p < n := by
  have h0 : ¬ n ≤ tF tp n p := fun z => hk (tK_0 z)
  refine ⟨?_, by omega⟩
  by_cases h1 : ltr (tp (tF tp n p))
  · rw [tE_1 h0 h1]
    have := ska_1 (g := ltr) (tp := tp) (r := (n - tF tp n p).toNat) (p := tF tp n p) (by omega) h1
    omega
  · by_cases h2 : dgt (tp (tF tp n p))
    · rw [tE_2 h0 h1 h2]
      have := ska_1 (g := dgt) (tp := tp) (r := (n - tF tp n p).toNat) (p := tF tp n p) (by omega) h2
      omega
    · rw [tE_3 h0 h1 h2]; omega
theorem tK_bd {tp : Int → Int} {n p : Int} : 0 ≤ tK tp n p ∧ tK tp n p ≤ 4 := by
  unfold tK
  split
  · omega
  · split
    · omega
    · split
      · split <;> omega
      · split <;> omega
theorem tK_nz {tp : Int → Int} {n p : Int} : tK tp n p = 0 ↔ n ≤ tF tp n p := by
  constructor
  · intro h
    by_cases h0 : n ≤ tF tp n p
    · exact h0
    · unfold tK at h
      rw [if_neg h0] at h
      split at h
      · omega
      · split at h
        · split at h <;> omega
        · split at h <;> omega
  · exact tK_0
theorem tK_w {tp : Int → Int} {n p : Int} (h : tK tp n p = 1) : ¬ n ≤ tF tp n p ∧ ltr (tp (tF tp n p)) := by
  have h0 : ¬ n ≤ tF tp n p := fun z => by rw [tK_0 z] at h; omega
  refine ⟨h0, ?_⟩
  by_cases h1 : ltr (tp (tF tp n p))
  · exact h1
  · unfold tK at h
    rw [if_neg h0, if_neg h1] at h
    split at h
    · split at h <;> omega
    · split at h <;> omega
theorem tK_word {tp : Int → Int} {n p : Int} (h : tK tp n p = 1) : ∀ j, tF tp n p ≤ j → j < tE tp n p → ltr (tp j) := by
  obtain ⟨h0, h1⟩ := tK_w h
  intro j j0 j1
  rw [tE_1 h0 h1] at j1
  exact ska_in j0 j1
theorem tK_d {tp : Int → Int} {n p : Int} (h : tK tp n p = 2) : ¬ n ≤ tF tp n p ∧ ¬ ltr (tp (tF tp n p)) ∧ dgt (tp (tF tp n p)) ∧ tE tp n p - tF tp n p ≤ 4 := by
  have h0 : ¬ n ≤ tF tp n p := fun z => by rw [tK_0 z] at h; omega
  have h1 : ¬ ltr (tp (tF tp n p)) := fun z => by rw [tK_1 h0 z] at h; omega
  have h2 : dgt (tp (tF tp n p)) := by
    by_cases h2 : dgt (tp (tF tp n p))
    · exact h2
    · unfold tK at h
      rw [if_neg h0, if_neg h1, if_neg h2] at h
      split at h <;> omega
  rw [tK_2 h0 h1 h2] at h
  refine ⟨h0, h1, h2, ?_⟩
  split at h <;> omega
theorem tV_bd {tp : Int → Int} {n p : Int} (hp : p ≤ n) (h : tK tp n p = 2) : 0 ≤ tV tp n p ∧ tV tp n p ≤ 9999 := by
  obtain ⟨h0, h1, h2, h3⟩ := tK_d h
  have hb := tE_bd (tp := tp) hp
  have h4 := dV_bd (tp := tp) (f := tF tp n p) (k := (tE tp n p - tF tp n p).toNat) fun j j0 j1 => by
    refine ska_in (r := (n - tF tp n p).toNat) (p := tF tp n p) (by omega) ?_
    rw [← tE_2 h0 h1 h2]
    omega
  unfold tV
  have e : (tE tp n p - tF tp n p).toNat = 0 ∨ (tE tp n p - tF tp n p).toNat = 1 ∨ (tE tp n p - tF tp n p).toNat = 2 ∨ (tE tp n p - tF tp n p).toNat = 3 ∨ (tE tp n p - tF tp n p).toNat = 4 := by omega
  rcases e with e | e | e | e | e <;> (rw [e] at h4 ⊢; omega)
/-- the words that are kept: KEYS' i-th is the literal kxL i, stands in KEYS from kst i on -/
abbrev kxL : List Nat := [0, 3, 5, 1, 2, 17, 18, 4, 6, 7, 8, 9, 10, 11, 12, 13, 14, 20, 21, 22, 15, 16, 19]
abbrev kiL : List Nat := [0, 3, 4, 1, 7, 2, 8, 9, 10, 11, 12, 13, 14, 15, 16, 20, 21, 5, 6, 22, 17, 18, 19]
abbrev kstL : List Nat := [1, 6, 12, 18, 24, 31, 36, 42, 45, 50, 53, 56, 61, 67, 75, 80, 86, 91, 96, 101, 105, 110, 118]
def kx (i : Nat) : Nat := kxL.getD i 0
def ki (k : Nat) : Nat := kiL.getD k 0
def kst (i : Nat) : Nat := kstL.getD i 0
theorem kxi : ∀ i, i < 23 → kx i < 23 ∧ ki (kx i) = i := by decide
theorem kix : ∀ k, k < 23 → ki k < 23 ∧ kx (ki k) = k := by decide
theorem kln : ∀ k, k < 23 → 1 ≤ awSL.getD k 0 ∧ awSL.getD k 0 ≤ 7 := by decide
theorem kch : ∀ i, i < 23 → sch 23 ((kst i + awSL.getD (kx i) 0 : Nat) : Int) = 32 ∧ ∀ j, j < awSL.getD (kx i) 0 → sch 23 ((kst i + j : Nat) : Int) = sch (kx i) (j : Nat) ∧ sch (kx i) (j : Nat) ≠ 32 := by decide +kernel
theorem knx : ∀ i, i < 22 → kst (i + 1) = kst i + awSL.getD (kx i) 0 + 1 := by decide
theorem kend : kst 22 + awSL.getD (kx 22) 0 + 1 = awSL.getD 23 0 := by decide
theorem kne : ∀ i, i < 23 → ∀ j, j < 23 → i ≠ j → awSL.getD i 0 ≠ awSL.getD j 0 ∨ ∃ t, t < awSL.getD i 0 ∧ sch i (t : Nat) ≠ sch j (t : Nat) := by decide +kernel
/-- from f to e the literal k stands -/
def wq (tp : Int → Int) (f e : Int) (k : Nat) : Prop := e - f = slen k ∧ ∀ j, 0 ≤ j → j < slen k → tp (f + j) = sch k j
theorem wq_one {tp : Int → Int} {f e : Int} {i j : Nat} (hi : i < 23) (hj : j < 23) (h1 : wq tp f e i) (h2 : wq tp f e j) : i = j := by
  by_cases q : i = j
  · exact q
  · exfalso
    obtain ⟨a1, a2⟩ := h1
    obtain ⟨b1, b2⟩ := h2
    unfold slen at *
    rcases kne i hi j hj q with z | ⟨t, t0, t1⟩
    · omega
    · refine t1 ?_
      rw [← a2 t (by omega) (by omega), ← b2 t (by omega) (by omega)]
/-- which kept word stands from f to e, from the i-th on -/
noncomputable def wF (tp : Int → Int) (f e : Int) : Nat → Nat → Int
  | 0, _ => -1
  | r + 1, i => by classical exact if wq tp f e (kx i) then (i : Int) else wF tp f e r (i + 1)
theorem wF_y {tp : Int → Int} {f e : Int} {r i : Nat} (h : wq tp f e (kx i)) : wF tp f e (r + 1) i = i := if_pos h
theorem wF_n {tp : Int → Int} {f e : Int} {r i : Nat} (h : ¬ wq tp f e (kx i)) : wF tp f e (r + 1) i = wF tp f e r (i + 1) := if_neg h
theorem wF_sp {tp : Int → Int} {f e : Int} : ∀ {r i : Nat}, (∃ j, i ≤ j ∧ j < i + r ∧ wF tp f e r i = (j : Nat) ∧ wq tp f e (kx j)) ∨ (wF tp f e r i = -1 ∧ ∀ j, i ≤ j → j < i + r → ¬ wq tp f e (kx j))
  | 0, i => Or.inr ⟨rfl, fun j h1 h2 => by omega⟩
  | r + 1, i => by
    by_cases h : wq tp f e (kx i)
    · exact Or.inl ⟨i, Nat.le_refl _, by omega, wF_y h, h⟩
    · rw [wF_n h]
      rcases wF_sp (tp := tp) (f := f) (e := e) (r := r) (i := i + 1) with ⟨j, h1, h2, h3, h4⟩ | ⟨h1, h2⟩
      · exact Or.inl ⟨j, by omega, by omega, h3, h4⟩
      · refine Or.inr ⟨h1, fun j j0 j1 => ?_⟩
        by_cases q : j = i
        · subst q; exact h
        · exact h2 j (by omega) (by omega)
/-- the kept word of the token behind p, or -1 -/
noncomputable def tW (tp : Int → Int) (n p : Int) : Int := by classical exact if tK tp n p = 1 then wF tp (tF tp n p) (tE tp n p) 23 0 else -1
theorem tW_n {tp : Int → Int} {n p : Int} (h : ¬ tK tp n p = 1) : tW tp n p = -1 := if_neg h
theorem tW_y {tp : Int → Int} {n p : Int} (h : tK tp n p = 1) : tW tp n p = wF tp (tF tp n p) (tE tp n p) 23 0 := if_pos h
theorem tW_bd {tp : Int → Int} {n p : Int} : -1 ≤ tW tp n p ∧ tW tp n p < 23 := by
  by_cases h : tK tp n p = 1
  · rw [tW_y h]
    rcases wF_sp (tp := tp) (f := tF tp n p) (e := tE tp n p) (r := 23) (i := 0) with ⟨j, h1, h2, h3, h4⟩ | ⟨h1, h2⟩ <;> omega
  · rw [tW_n h]; omega
theorem tW_k {tp : Int → Int} {n p : Int} (h : 0 ≤ tW tp n p) : tK tp n p = 1 := by
  by_cases h1 : tK tp n p = 1
  · exact h1
  · rw [tW_n h1] at h; omega
theorem tW_iff {tp : Int → Int} {n p : Int} {k : Nat} (hk : k < 23) : (tK tp n p = 1 ∧ wq tp (tF tp n p) (tE tp n p) k) ↔ tW tp n p = ki k := by
  have hki := kix k hk
  constructor
  · rintro ⟨h, hw⟩
    rw [tW_y h]
    rcases wF_sp (tp := tp) (f := tF tp n p) (e := tE tp n p) (r := 23) (i := 0) with ⟨j, h1, h2, h3, h4⟩ | ⟨h1, h2⟩
    · have hj := kxi j (by omega)
      have e := wq_one hj.1 hk h4 hw
      rw [h3, ← hj.2, e]
    · exact absurd (by rw [hki.2]; exact hw) (h2 (ki k) (by omega) (by omega))
  · intro h
    have h1 := tW_k (tp := tp) (n := n) (p := p) (by omega)
    refine ⟨h1, ?_⟩
    rw [tW_y h1] at h
    rcases wF_sp (tp := tp) (f := tF tp n p) (e := tE tp n p) (r := 23) (i := 0) with ⟨j, j1, h2, h3, h4⟩ | ⟨j1, h2⟩
    · have e : j = ki k := by omega
      rw [e, hki.2] at h4
      exact h4
    · omega
/-! names, by 32 and by 256 -/
def nX (tp : Int → Int) (f : Int) : Nat → Int
  | 0 => 0
  | k + 1 => nX tp f k * 32 + tp (f + k) - 96
def nM (tp : Int → Int) (f : Int) : Nat → Int
  | 0 => 0
  | k + 1 => nM tp f k * 256 + tp (f + k)
def lsT (tp : Int → Int) (f : Int) : Nat → List Int
  | 0 => []
  | k + 1 => lsT tp f k ++ [tp (f + k)]
theorem e32_s (l : List Int) (c : Int) : e32 (l ++ [c]) = e32 l * 32 + c - 96 := by simp [e32, List.foldl_append]
theorem e256_s (l : List Int) (c : Int) : e256 (l ++ [c]) = e256 l * 256 + c := by simp [e256, List.foldl_append]
theorem lsT_e {tp : Int → Int} {f : Int} : ∀ k : Nat, e32 (lsT tp f k) = nX tp f k ∧ e256 (lsT tp f k) = nM tp f k ∧ (lsT tp f k).length = k
  | 0 => ⟨rfl, rfl, rfl⟩
  | k + 1 => by
    obtain ⟨h1, h2, h3⟩ := lsT_e (tp := tp) (f := f) k
    refine ⟨?_, ?_, ?_⟩
    · show e32 (lsT tp f k ++ [tp (f + k)]) = _
      rw [e32_s, h1]; rfl
    · show e256 (lsT tp f k ++ [tp (f + k)]) = _
      rw [e256_s, h2]; rfl
    · show (lsT tp f k ++ [tp (f + k)]).length = _
      simp [h3]
theorem lsT_m {tp : Int → Int} {f : Int} : ∀ {k : Nat}, (∀ j : Int, 0 ≤ j → j < k → ltr (tp (f + j))) → ∀ c ∈ lsT tp f k, 97 ≤ c ∧ c ≤ 122
  | 0, _, c, hc => by cases hc
  | k + 1, h, c, hc => by
    rcases List.mem_append.mp hc with hc | hc
    · exact lsT_m (k := k) (fun j j0 j1 => h j j0 (by omega)) c hc
    · rw [List.mem_singleton.mp hc]
      exact h k (by omega) (by omega)
theorem NE_of {tp : Int → Int} {f : Int} {k : Nat} (h1 : 1 ≤ k) (h8 : k ≤ 8) (h : ∀ j : Int, 0 ≤ j → j < k → ltr (tp (f + j))) : NE (nX tp f k) (nM tp f k) := by
  obtain ⟨a, b, c⟩ := lsT_e (tp := tp) (f := f) k
  exact ⟨lsT tp f k, by omega, by omega, lsT_m h, a.symm, b.symm⟩
theorem snoc_of (l : List Int) : l = [] ∨ ∃ l2 c, l = l2 ++ [c] := by
  by_cases h : l = []
  · exact Or.inl h
  · exact Or.inr ⟨l.dropLast, l.getLast h, (List.dropLast_concat_getLast h).symm⟩
theorem e32_pos : ∀ (m : Nat) {l : List Int}, l.length = m → (∀ c ∈ l, 97 ≤ c ∧ c ≤ 122) → 0 ≤ e32 l ∧ (l ≠ [] → 0 < e32 l)
  | 0, l, hn, _ => by
    have : l = [] := List.length_eq_zero_iff.mp hn
    subst this
    exact ⟨Int.le_refl _, fun z => absurd rfl z⟩
  | m + 1, l, hn, h => by
    rcases snoc_of l with rfl | ⟨l2, c, rfl⟩
    · cases hn
    · have := e32_pos m (l := l2) (by simpa using hn) (fun c hc => h c (List.mem_append_left _ hc))
      have hc := h c (List.mem_append_right _ List.mem_cons_self)
      rw [e32_s]
      exact ⟨by omega, fun _ => by omega⟩
theorem e256_pos : ∀ (m : Nat) {l : List Int}, l.length = m → (∀ c ∈ l, 97 ≤ c ∧ c ≤ 122) → 0 ≤ e256 l ∧ (l ≠ [] → 0 < e256 l)
  | 0, l, hn, _ => by
    have : l = [] := List.length_eq_zero_iff.mp hn
    subst this
    exact ⟨Int.le_refl _, fun z => absurd rfl z⟩
  | m + 1, l, hn, h => by
    rcases snoc_of l with rfl | ⟨l2, c, rfl⟩
    · cases hn
    · have := e256_pos m (l := l2) (by simpa using hn) (fun c hc => h c (List.mem_append_left _ hc))
      have hc := h c (List.mem_append_right _ List.mem_cons_self)
      rw [e256_s]
      exact ⟨by omega, fun _ => by omega⟩
theorem e32_inj : ∀ (m : Nat) {l l' : List Int}, l.length = m → (∀ c ∈ l, 97 ≤ c ∧ c ≤ 122) → (∀ c ∈ l', 97 ≤ c ∧ c ≤ 122) → e32 l = e32 l' → l = l'
  | 0, l, l', hn, _, h', e => by
    have : l = [] := List.length_eq_zero_iff.mp hn
    subst this
    by_cases q : l' = []
    · exact q.symm
    · have := (e32_pos _ rfl h').2 q
      rw [← e] at this
      exact absurd this (by decide)
  | m + 1, l, l', hn, h, h', e => by
    rcases snoc_of l with rfl | ⟨l2, c, rfl⟩
    · cases hn
    · rcases snoc_of l' with rfl | ⟨l3, c', rfl⟩
      · have := (e32_pos _ rfl h).2 (by simp)
        rw [e] at this
        exact absurd this (by decide)
      · rw [e32_s, e32_s] at e
        have hc := h c (List.mem_append_right _ List.mem_cons_self)
        have hc' := h' c' (List.mem_append_right _ List.mem_cons_self)
        have e1 : c = c' := by omega
        have e2 : e32 l2 = e32 l3 := by omega
        rw [e1, e32_inj m (by simpa using hn) (fun c hc => h c (List.mem_append_left _ hc)) (fun c hc => h' c (List.mem_append_left _ hc)) e2]
theorem e256_inj : ∀ (m : Nat) {l l' : List Int}, l.length = m → (∀ c ∈ l, 97 ≤ c ∧ c ≤ 122) → (∀ c ∈ l', 97 ≤ c ∧ c ≤ 122) → e256 l = e256 l' → l = l'
  | 0, l, l', hn, _, h', e => by
    have : l = [] := List.length_eq_zero_iff.mp hn
    subst this
    by_cases q : l' = []
    · exact q.symm
    · have := (e256_pos _ rfl h').2 q
      rw [← e] at this
      exact absurd this (by decide)
  | m + 1, l, l', hn, h, h', e => by
    rcases snoc_of l with rfl | ⟨l2, c, rfl⟩
    · cases hn
    · rcases snoc_of l' with rfl | ⟨l3, c', rfl⟩
      · have := (e256_pos _ rfl h).2 (by simp)
        rw [e] at this
        exact absurd this (by decide)
      · rw [e256_s, e256_s] at e
        have hc := h c (List.mem_append_right _ List.mem_cons_self)
        have hc' := h' c' (List.mem_append_right _ List.mem_cons_self)
        have e1 : c = c' := by omega
        have e2 : e256 l2 = e256 l3 := by omega
        rw [e1, e256_inj m (by simpa using hn) (fun c hc => h c (List.mem_append_left _ hc)) (fun c hc => h' c (List.mem_append_left _ hc)) e2]
theorem NE_iff {x m x' m' : Int} (h : NE x m) (h' : NE x' m') : x = x' ↔ m = m' := by
  obtain ⟨l, -, -, a, rfl, rfl⟩ := h
  obtain ⟨l', -, -, a', rfl, rfl⟩ := h'
  constructor
  · intro e; rw [e32_inj _ rfl a a' e]
  · intro e; rw [e256_inj _ rfl a a' e]
theorem nM_bd {tp : Int → Int} {f : Int} : ∀ {k : Nat}, (∀ j : Int, 0 ≤ j → j < (k + 1 : Nat) → ltr (tp (f + j))) → 0 ≤ nM tp f (k + 1) ∧ nM tp f (k + 1) < 124 * 256 ^ k
  | 0, h => by
    have h2 := h 0 (by omega) (by omega)
    skip
    rw [Int.add_zero] at h2
    have e2 : nM tp f (0 + 1) = 0 * 256 + tp (f + ((0 : Nat) : Int)) := rfl
    rw [e2, show f + ((0 : Nat) : Int) = f from Int.add_zero f, Int.pow_zero]
    omega
  | k + 1, h => by
    have h1 := nM_bd (k := k) fun j j0 j1 => h j j0 (by omega)
    have h2 := h (k + 1 : Nat) (by omega) (by omega)
    skip
    have e : (256 : Int) ^ (k + 1) = 256 ^ k * 256 := Int.pow_succ 256 k
    have e2 : nM tp f (k + 1 + 1) = nM tp f (k + 1) * 256 + tp (f + ((k + 1 : Nat) : Int)) := rfl
    rw [e2, e]
    omega
theorem nX_bd {tp : Int → Int} {f : Int} : ∀ {k : Nat}, (∀ j : Int, 0 ≤ j → j < k → ltr (tp (f + j))) → 0 ≤ nX tp f k ∧ nX tp f k < 32 ^ k
  | 0, _ => by simp [nX]
  | k + 1, h => by
    have h1 := nX_bd (k := k) fun j j0 j1 => h j j0 (by omega)
    have h2 := h k (by omega) (by omega)
    skip
    simp only [nX]
    have e : (32 : Int) ^ (k + 1) = 32 ^ k * 32 := Int.pow_succ 32 k
    omega
