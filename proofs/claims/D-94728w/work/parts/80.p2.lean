set_option maxRecDepth 100000
/-! P2: the reading of texts, in plain terms: names, numbers, parts of a yard -/
abbrev PF : Type := Int × Int
def bnd {α β : Type} (r : PF ⊕ α) (f : α → PF ⊕ β) : PF ⊕ β := match r with
  | .inl e => .inl e
  | .inr a => f a
theorem bnd_r {α β : Type} {r : PF ⊕ α} {f : α → PF ⊕ β} {a : α} (h : r = .inr a) : bnd r f = f a := by rw [h]; rfl
theorem bnd_l {α β : Type} {r : PF ⊕ α} {f : α → PF ⊕ β} {e : PF} (h : r = .inl e) : bnd r f = .inl e := by rw [h]; rfl
noncomputable def wr (tp : Int → Int) (n p : Int) : Int := if tK tp n p = 4 then 1 else 2
noncomputable def numP (tp : Int → Int) (n p lo hi : Int) : PF ⊕ (Int × Int) := if tK tp n p ≠ 2 then .inl (wr tp n p, tF tp n p) else if tV tp n p < lo ∨ hi < tV tp n p then .inl (4, tF tp n p) else .inr (tV tp n p, tE tp n p)
noncomputable def wnumP (tp : Int → Int) (n p w lo hi : Int) : PF ⊕ (Int × Int) := if tW tp n p ≠ w then .inl (wr tp n p, tF tp n p) else numP tp n (tE tp n p) lo hi
abbrev isNm (tp : Int → Int) (n p : Int) : Prop := tK tp n p = 1 ∧ tE tp n p - tF tp n p ≤ 8 ∧ tW tp n p = -1
noncomputable def nmX (tp : Int → Int) (n p : Int) : Int := nX tp (tF tp n p) (tE tp n p - tF tp n p).toNat
noncomputable def nmM (tp : Int → Int) (n p : Int) : Int := nM tp (tF tp n p) (tE tp n p - tF tp n p).toNat
noncomputable def nameP (tp : Int → Int) (n p : Int) : PF ⊕ Int := if isNm tp n p then .inr (nmX tp n p) else .inl (wr tp n p, tF tp n p)
def fndF (N : Int → Int) (b x : Int) : Nat → Int → Int
  | 0, _ => -1
  | r + 1, k => if N (b + k) = x then k else fndF N b x r (k + 1)
def fnd (N : Int → Int) (b c x : Int) : Int := fndF N b x c.toNat 0
theorem fndF_bd {N : Int → Int} {b x : Int} : ∀ {r : Nat} {k : Int}, 0 ≤ k → fndF N b x r k = -1 ∨ (k ≤ fndF N b x r k ∧ fndF N b x r k < k + r ∧ N (b + fndF N b x r k) = x)
  | 0, _, _ => Or.inl rfl
  | r + 1, k, h => by
    simp only [fndF]
    by_cases e : N (b + k) = x
    · rw [if_pos e]; exact Or.inr ⟨Int.le_refl _, by omega, e⟩
    · rw [if_neg e]
      rcases fndF_bd (N := N) (b := b) (x := x) (r := r) (k := k + 1) (by omega) with h1 | ⟨h1, h2, h3⟩
      · exact Or.inl h1
      · exact Or.inr ⟨by omega, by omega, h3⟩
theorem fnd_bd {N : Int → Int} {b c x : Int} (hc : 0 ≤ c) : -1 ≤ fnd N b c x ∧ fnd N b c x < max c 0 ∧ (fnd N b c x ≠ -1 → fnd N b c x < c) := by
  unfold fnd
  rcases fndF_bd (N := N) (b := b) (x := x) (r := c.toNat) (k := 0) (by decide) with h | ⟨h1, h2, -⟩ <;> omega
/-- found by either way of writing a name -/
theorem fndF_eq {N M : Int → Int} {b b' x m : Int} (hx : NE x m) : ∀ {r : Nat} {k : Int}, (∀ j, k ≤ j → j < k + r → NE (N (b + j)) (M (b' + j))) → fndF N b x r k = fndF M b' m r k
  | 0, _, _ => rfl
  | r + 1, k, h => by
    simp only [fndF]
    have e := NE_iff (h k (by omega) (by omega)) hx
    by_cases q : N (b + k) = x
    · rw [if_pos q, if_pos (e.mp q)]
    · rw [if_neg q, if_neg (fun z => q (e.mpr z))]
      exact fndF_eq hx fun j j0 j1 => h j (by omega) (by omega)
theorem fnd_eq {N M : Int → Int} {b b' c x m : Int} (hx : NE x m) (h : ∀ j, 0 ≤ j → j < c → NE (N (b + j)) (M (b' + j))) : fnd N b c x = fnd M b' c m := fndF_eq hx fun j j0 j1 => h j j0 (by omega)
theorem nmNE {tp : Int → Int} {n p : Int} (hp : p ≤ n) (h : isNm tp n p) : NE (nmX tp n p) (nmM tp n p) := by
  have h1 := tE_lt hp (by omega : tK tp n p ≠ 0)
  have h2 := tK_word h.1
  exact NE_of (by omega) (by omega) fun j j0 j1 => h2 _ (by omega) (by omega)
noncomputable def freshP (tp : Int → Int) (n p : Int) (s N : Int → Int) : PF ⊕ (Int × Int) := bnd (nameP tp n p) fun x => if fnd N 0 (s 0) x ≠ -1 ∨ fnd N 12 (s 1) x ≠ -1 ∨ fnd N 4 (s 2) x ≠ -1 then .inl (3, tF tp n p) else .inr (x, tE tp n p)
noncomputable def oldP (tp : Int → Int) (n p : Int) (N : Int → Int) (b c : Int) : PF ⊕ (Int × Int) := bnd (nameP tp n p) fun x => if fnd N b c x = -1 then .inl (3, tF tp n p) else .inr (fnd N b c x, tE tp n p)
noncomputable def momP (tp : Int → Int) (n p : Int) (s N : Int → Int) : PF ⊕ (Int × Int) := if tW tp n p = 7 then oldP tp n (tE tp n p) N 12 (s 1) else .inr (-1, p)
/-- a row with one more hive -/
def addH (s : Int → Int) (m b h : Int) : Int → Int := fun i => if i = 0 then s 0 + 1 else if i = 4 then s 4 + 100 * h else if i = 64 + 198 * s 0 then m else if i = 65 + 198 * s 0 then b else if i = 67 + 198 * s 0 then -1 else if 70 + 198 * s 0 ≤ i ∧ i < 70 + 198 * s 0 + 192 then (stor m (nF m) (fun _ => 0) (100 * h)).1 (i - (70 + 198 * s 0)) else s i
def addD (s : Int → Int) (m : Int) : Int → Int := upA (upA (upA (upA s (46 + 2 * s 2) m) (47 + 2 * s 2) (s 13)) 13 (s 13 + 1)) 2 (s 2 + 1)
def addQ (s : Int → Int) (l m b h : Int) : Int → Int := upA (upA (upA (upA (upA (upA (if h = -1 then s else upA s (67 + 198 * h) (s 1)) (14 + 4 * s 1) l) (15 + 4 * s 1) m) (16 + 4 * s 1) b) (17 + 4 * s 1) (s 13)) 13 (s 13 + 1)) 1 (s 1 + 1)
abbrev PR : Type := PF ⊕ (Int × (Int → Int) × (Int → Int))
noncomputable def hiveP (tp : Int → Int) (n p : Int) (s N : Int → Int) : PR := if s 0 = 4 then .inl (6, tF tp n p) else bnd (freshP tp n (tE tp n p) s N) fun x => bnd (wnumP tp n x.2 3 1 3) fun b => bnd (wnumP tp n b.2 4 1 4) fun f => bnd (wnumP tp n f.2 5 0 9999) fun e =>
  bnd (if tW tp n e.2 = 6 then numP tp n (tE tp n e.2) 0 (16 * (b.1 * f.1)) else .inr (0, e.2)) fun h => .inr (h.2, addH s (b.1 * f.1) e.1 h.1, upA N (s 0) x.1)
noncomputable def droneP (tp : Int → Int) (n p : Int) (s N : Int → Int) : PR := if s 2 = 8 then .inl (6, tF tp n p) else bnd (freshP tp n (tE tp n p) s N) fun x => bnd (momP tp n x.2 s N) fun m => .inr (m.2, addD s m.1, upA N (4 + s 2) x.1)
noncomputable def homeP (tp : Int → Int) (n p : Int) (s N : Int → Int) : PF ⊕ (Int × Int) := bnd (nameP tp n p) fun x => if fnd N 0 (s 0) x = -1 then .inl (3, tF tp n p) else if s (67 + 198 * fnd N 0 (s 0) x) ≠ -1 then .inl (5, tF tp n p) else .inr (fnd N 0 (s 0) x, tE tp n p)
noncomputable def queenP (tp : Int → Int) (n p : Int) (s N : Int → Int) : PR := if s 1 = 8 then .inl (6, tF tp n p) else bnd (freshP tp n (tE tp n p) s N) fun x => bnd (wnumP tp n x.2 8 0 16) fun l => bnd (momP tp n l.2 s N) fun m =>
  bnd (if m.1 ≠ -1 ∧ tW tp n m.2 = 9 then oldP tp n (tE tp n m.2) N 4 (s 2) else .inr (-1, m.2)) fun b => bnd (if tW tp n b.2 = 10 then homeP tp n (tE tp n b.2) s N else .inr (-1, b.2)) fun h => .inr (h.2, addQ s l.1 m.1 b.1 h.1, upA N (12 + s 1) x.1)
noncomputable def partP (tp : Int → Int) (n p : Int) (s N : Int → Int) : PR := if tW tp n p = 0 then hiveP tp n p s N else if tW tp n p = 1 then droneP tp n p s N else if tW tp n p = 2 then queenP tp n p s N else .inl (wr tp n p, tF tp n p)
abbrev sgn (tp : Int → Int) (n p c : Int) : Prop := tK tp n p = 3 ∧ tp (tF tp n p) = c
noncomputable def yardP (tp : Int → Int) (n : Int) : Nat → Int → (Int → Int) → (Int → Int) → PR
  | 0, _, _, _ => .inl (0, 0)
  | r + 1, p, s, N => if tK tp n p = 0 then .inr (p, s, N) else bnd (partP tp n p s N) fun q => if sgn tp n q.1 59 then yardP tp n r (tE tp n q.1) q.2.1 q.2.2 else .inl (wr tp n q.1, tF tp n q.1)
/-! positions go on -/
theorem numP_p {tp : Int → Int} {n p lo hi v q : Int} (hp : p ≤ n) (h : numP tp n p lo hi = .inr (v, q)) : (p < q ∧ q ≤ n) ∧ lo ≤ v ∧ v ≤ hi := by
  unfold numP at h
  by_cases h1 : tK tp n p ≠ 2
  · rw [if_pos h1] at h; cases h
  · rw [if_neg h1] at h
    by_cases h2 : tV tp n p < lo ∨ hi < tV tp n p
    · rw [if_pos h2] at h; cases h
    · rw [if_neg h2] at h
      cases h
      have a := tE_lt hp (by omega : tK tp n p ≠ 0)
      have b := tE_bd (tp := tp) hp
      have c := tF_bd (tp := tp) hp
      omega
theorem wnumP_p {tp : Int → Int} {n p w lo hi v q : Int} (hp : p ≤ n) (h : wnumP tp n p w lo hi = .inr (v, q)) : (p < q ∧ q ≤ n) ∧ lo ≤ v ∧ v ≤ hi := by
  unfold wnumP at h
  split at h
  · cases h
  · have b := tE_bd (tp := tp) hp
    have c := tF_bd (tp := tp) hp
    have := numP_p b.2 h
    omega
theorem nameP_r {tp : Int → Int} {n p x : Int} (h : nameP tp n p = .inr x) : isNm tp n p ∧ x = nmX tp n p := by
  unfold nameP at h
  split at h
  · cases h
    rename_i q
    exact ⟨q, rfl⟩
  · cases h
theorem name_p {tp : Int → Int} {n p : Int} (hp : p ≤ n) (h : isNm tp n p) : p < tE tp n p ∧ tE tp n p ≤ n := by
  have a := tE_lt hp (by omega : tK tp n p ≠ 0)
  have b := tE_bd (tp := tp) hp
  have c := tF_bd (tp := tp) hp
  omega
theorem freshP_r {tp : Int → Int} {n p x q : Int} {s N : Int → Int} (hp : p ≤ n) (h : freshP tp n p s N = .inr (x, q)) : isNm tp n p ∧ x = nmX tp n p ∧ q = tE tp n p ∧ p < q ∧ q ≤ n := by
  unfold freshP at h
  cases e : nameP tp n p with
  | inl e2 => rw [bnd_l e] at h; cases h
  | inr x2 =>
    rw [bnd_r e] at h
    obtain ⟨e1, e2⟩ := nameP_r e
    have := name_p hp e1
    split at h
    · cases h
    · cases h
      exact ⟨e1, e2, rfl, this⟩
theorem oldP_r {tp : Int → Int} {n p x q b c : Int} {N : Int → Int} (hp : p ≤ n) (hc : 0 ≤ c) (h : oldP tp n p N b c = .inr (x, q)) : (0 ≤ x ∧ x < c) ∧ q = tE tp n p ∧ p < q ∧ q ≤ n := by
  unfold oldP at h
  cases e : nameP tp n p with
  | inl e2 => rw [bnd_l e] at h; cases h
  | inr x2 =>
    rw [bnd_r e] at h
    obtain ⟨e1, e2⟩ := nameP_r e
    have := name_p hp e1
    have hb := fnd_bd (N := N) (b := b) (c := c) (x := x2) hc
    split at h
    · cases h
    · rename_i z
      cases h
      exact ⟨⟨by omega, hb.2.2 z⟩, rfl, this⟩
theorem momP_r {tp : Int → Int} {n p x q : Int} {s N : Int → Int} (hp : p ≤ n) (hc : 0 ≤ s 1) (h : momP tp n p s N = .inr (x, q)) : (x = -1 ∨ (0 ≤ x ∧ x < s 1)) ∧ p ≤ q ∧ q ≤ n := by
  unfold momP at h
  split at h
  · have b := tE_bd (tp := tp) hp
    have c := tF_bd (tp := tp) hp
    have := oldP_r b.2 hc h
    omega
  · cases h
    omega
