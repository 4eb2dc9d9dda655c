/-! H1: plain arithmetic of hives, shared by both sides -/
def ordF (n j : Int) : Int := if j % 2 = 1 then (n - 1) / 2 + (j + 1) / 2 else (n - 1) / 2 - j / 2
def fld (n k : Int) : Int := 16 * ordF n (k / 16) + k % 16
theorem ordF_in {n j : Int} (h0 : 0 ≤ j) (h1 : j < n) : 0 ≤ ordF n j ∧ ordF n j < n := by
  unfold ordF
  split <;> omega
theorem fld_in {n k : Int} (h0 : 0 ≤ k) (h1 : k < 16 * n) : 0 ≤ fld n k ∧ fld n k < 16 * n := by
  have := ordF_in (n := n) (j := k / 16) (by omega) (by omega)
  unfold fld
  omega
theorem ordF_inj {n i j : Int} (h0 : 0 ≤ i) (h1 : i < n) (h2 : 0 ≤ j) (h3 : j < n) (h : ordF n i = ordF n j) : i = j := by
  unfold ordF at h
  split at h <;> split at h <;> omega
def isum (g : Int → Int) : Nat → Int
  | 0 => 0
  | n + 1 => isum g n + g n
theorem isum_bd {g : Int → Int} {B : Int} : ∀ {n : Nat}, (∀ i : Int, 0 ≤ i → i < n → 0 ≤ g i ∧ g i ≤ B) → 0 ≤ isum g n ∧ isum g n ≤ B * n
  | 0, _ => by simp [isum]
  | n + 1, h => by
    have h1 := isum_bd (n := n) fun i h0 h1 => h i h0 (by omega)
    have h2 := h n (by omega) (by omega)
    simp only [isum]
    have : B * ((n + 1 : Nat) : Int) = B * n + B := by rw [Int.natCast_add, Int.mul_add]; simp
    omega
theorem isum_congr {g g' : Int → Int} : ∀ {n : Nat}, (∀ i : Int, 0 ≤ i → i < n → g i = g' i) → isum g n = isum g' n
  | 0, _ => rfl
  | n + 1, h => by
    simp only [isum]
    rw [isum_congr (n := n) fun i h0 h1 => h i h0 (by omega), h n (by omega) (by omega)]
def sv (w v : Int) : Int := if w = 0 then (if v ≤ 100 then v else 0) else if w = 1 then (if 101 ≤ v then 1 else 0) else if v = 0 then 1 else 0
theorem sv_bd {w v : Int} (h0 : 0 ≤ v) : 0 ≤ sv w v ∧ sv w v ≤ 100 := by
  unfold sv
  split
  · split <;> omega
  · split
    · split <;> omega
    · split <;> omega
/-- honey comes in from the last field on -/
def stor (n : Int) : Nat → (Int → Int) → Int → (Int → Int) × Int
  | 0, c, l => (c, l)
  | k + 1, c, l => if l ≤ 0 then (c, l) else if 100 ≤ c (fld n k) then stor n k c l else stor n k (upA c (fld n k) (c (fld n k) + min l (100 - c (fld n k)))) (l - min l (100 - c (fld n k)))
def agef (v : Int) : Int := if v < 101 then v else if v + 1 ≤ 121 then v + 1 else 0
theorem agef_bd {v : Int} (h0 : 0 ≤ v) (h1 : v ≤ 121) : 0 ≤ agef v ∧ agef v ≤ 121 := by
  unfold agef
  split
  · omega
  · split <;> omega
/-- eggs are laid from the first field on -/
def layE (n : Int) : Nat → (Int → Int) → Int → (Int → Int)
  | 0, c, _ => c
  | r + 1, c, e => if e ≤ 0 then c else if c (fld n (16 * n - (r + 1))) ≠ 0 then layE n r c e else layE n r (upA c (fld n (16 * n - (r + 1))) 101) (e - 1)
/-- honey is eaten from the first field on -/
def eatE (n : Int) : Nat → (Int → Int) → Int → (Int → Int) × Int
  | 0, c, l => (c, l)
  | r + 1, c, l => if l ≤ 0 then (c, l) else if c (fld n (16 * n - (r + 1))) = 0 ∨ 100 < c (fld n (16 * n - (r + 1))) then eatE n r c l else eatE n r (upA c (fld n (16 * n - (r + 1))) (c (fld n (16 * n - (r + 1))) - min l (c (fld n (16 * n - (r + 1)))))) (l - min l (c (fld n (16 * n - (r + 1)))))
def eqF (n : Int) (c c' : Int → Int) : Prop := ∀ i : Int, 0 ≤ i → i < 16 * n → c i = c' i
def rgF (n : Int) (c : Int → Int) : Prop := ∀ i : Int, 0 ≤ i → i < 16 * n → 0 ≤ c i ∧ c i ≤ 121
theorem upA_eqF {n f v : Int} {c c' : Int → Int} (h : eqF n c c') : eqF n (upA c f v) (upA c' f v) := by
  intro i h0 h1
  unfold upA
  split
  · rfl
  · exact h i h0 h1
theorem upA_rgF {n f v : Int} {c : Int → Int} (h : rgF n c) (hv : 0 ≤ v ∧ v ≤ 121) : rgF n (upA c f v) := by
  intro i h0 h1
  unfold upA
  split
  · exact hv
  · exact h i h0 h1
theorem stor_ext {n : Int} : ∀ {k : Nat} {c c' : Int → Int} {l : Int}, (k : Int) ≤ 16 * n → eqF n c c' → eqF n (stor n k c l).1 (stor n k c' l).1 ∧ (stor n k c l).2 = (stor n k c' l).2
  | 0, c, c', l, _, h => ⟨h, rfl⟩
  | k + 1, c, c', l, hk, h => by
    have hf := fld_in (n := n) (k := k) (by omega) (by omega)
    have e := h (fld n k) hf.1 hf.2
    simp only [stor]
    rw [e]
    split
    · exact ⟨h, rfl⟩
    · split
      · exact stor_ext (by omega) h
      · exact stor_ext (by omega) (upA_eqF h)
theorem layE_ext {n : Int} : ∀ {k : Nat} {c c' : Int → Int} {l : Int}, (k : Int) ≤ 16 * n → eqF n c c' → eqF n (layE n k c l) (layE n k c' l)
  | 0, c, c', l, _, h => h
  | k + 1, c, c', l, hk, h => by
    have hf := fld_in (n := n) (k := 16 * n - (k + 1)) (by omega) (by omega)
    have e := h _ hf.1 hf.2
    simp only [layE]
    rw [e]
    split
    · exact h
    · split
      · exact layE_ext (by omega) h
      · exact layE_ext (by omega) (upA_eqF h)
theorem eatE_ext {n : Int} : ∀ {k : Nat} {c c' : Int → Int} {l : Int}, (k : Int) ≤ 16 * n → eqF n c c' → eqF n (eatE n k c l).1 (eatE n k c' l).1 ∧ (eatE n k c l).2 = (eatE n k c' l).2
  | 0, c, c', l, _, h => ⟨h, rfl⟩
  | k + 1, c, c', l, hk, h => by
    have hf := fld_in (n := n) (k := 16 * n - (k + 1)) (by omega) (by omega)
    have e := h _ hf.1 hf.2
    simp only [eatE]
    rw [e]
    split
    · exact ⟨h, rfl⟩
    · split
      · exact eatE_ext (by omega) h
      · exact eatE_ext (by omega) (upA_eqF h)
theorem stor_rg {n : Int} : ∀ {k : Nat} {c : Int → Int} {l : Int}, (k : Int) ≤ 16 * n → rgF n c → 0 ≤ l → rgF n (stor n k c l).1 ∧ 0 ≤ (stor n k c l).2 ∧ (stor n k c l).2 ≤ l
  | 0, c, l, _, h, h0 => ⟨h, h0, Int.le_refl _⟩
  | k + 1, c, l, hk, h, h0 => by
    have hf := fld_in (n := n) (k := k) (by omega) (by omega)
    have hv := h _ hf.1 hf.2
    simp only [stor]
    split
    · exact ⟨h, h0, Int.le_refl _⟩
    · split
      · exact stor_rg (by omega) h h0
      · have := stor_rg (n := n) (k := k) (c := upA c (fld n k) (c (fld n k) + min l (100 - c (fld n k)))) (l := l - min l (100 - c (fld n k))) (by omega) (upA_rgF h (by omega)) (by omega)
        exact ⟨this.1, this.2.1, by omega⟩
theorem layE_rg {n : Int} : ∀ {k : Nat} {c : Int → Int} {l : Int}, (k : Int) ≤ 16 * n → rgF n c → rgF n (layE n k c l)
  | 0, c, l, _, h => h
  | k + 1, c, l, hk, h => by
    simp only [layE]
    split
    · exact h
    · split
      · exact layE_rg (by omega) h
      · exact layE_rg (by omega) (upA_rgF h (by omega))
theorem eatE_rg {n : Int} : ∀ {k : Nat} {c : Int → Int} {l : Int}, (k : Int) ≤ 16 * n → rgF n c → 0 ≤ l → rgF n (eatE n k c l).1 ∧ 0 ≤ (eatE n k c l).2 ∧ (eatE n k c l).2 ≤ l
  | 0, c, l, _, h, h0 => ⟨h, h0, Int.le_refl _⟩
  | k + 1, c, l, hk, h, h0 => by
    have hf := fld_in (n := n) (k := 16 * n - (k + 1)) (by omega) (by omega)
    have hv := h _ hf.1 hf.2
    simp only [eatE]
    split
    · exact ⟨h, h0, Int.le_refl _⟩
    · split
      · exact eatE_rg (by omega) h h0
      · have := eatE_rg (n := n) (k := k) (c := upA c (fld n (16 * n - (k + 1))) (c (fld n (16 * n - (k + 1))) - min l (c (fld n (16 * n - (k + 1)))))) (l := l - min l (c (fld n (16 * n - (k + 1))))) (by omega) (upA_rgF h (by omega)) (by omega)
        exact ⟨this.1, this.2.1, by omega⟩
/-- a day in a hive of n frames, fields c, b bees, hunger u, whose queen lays y -/
def nF (n : Int) : Nat := (16 * n).toNat
def dCame (n : Int) (c : Int → Int) : Int := isum (fun i => if 121 ≤ c i then 1 else 0) (nF n)
def ageC (n : Int) (c : Int → Int) : Int → Int := fun i => if 0 ≤ i ∧ i < 16 * n then agef (c i) else c i
def dLaid (n : Int) (c : Int → Int) (y : Int) : Int → Int := layE n (nF n) (ageC n c) y
def dWant (n : Int) (c : Int → Int) (b u : Int) : Int := (u + (b + dCame n c)) / 10
def dEat (n : Int) (c : Int → Int) (b u y : Int) : (Int → Int) × Int := eatE n (nF n) (dLaid n c y) (dWant n c b u)
def dC (n : Int) (c : Int → Int) (b u y : Int) : Int → Int := (dEat n c b u y).1
def dAte (n : Int) (c : Int → Int) (b u y : Int) : Int := dWant n c b u - (dEat n c b u y).2
def dStar (n : Int) (c : Int → Int) (b u y : Int) : Int := min (10 * (dEat n c b u y).2) (b + dCame n c)
def dB (n : Int) (c : Int → Int) (b u y : Int) : Int := b + dCame n c - dStar n c b u y
def dH (n : Int) (c : Int → Int) (b u : Int) : Int := (u + (b + dCame n c)) % 10
theorem isum_add (g : Int → Int) (m : Nat) : ∀ k : Nat, isum g (m + k) = isum g m + isum (fun i => g (m + i)) k
  | 0 => by simp [isum]
  | k + 1 => by
    have e : m + (k + 1) = (m + k) + 1 := by omega
    rw [e]
    simp only [isum]
    rw [isum_add g m k]
    have e2 : ((m + k : Nat) : Int) = (m : Int) + k := by omega
    rw [e2]
    omega
theorem isum_blk (g : Int → Int) : ∀ n : Nat, isum g (16 * n) = isum (fun j => isum (fun i => g (16 * j + i)) 16) n
  | 0 => rfl
  | n + 1 => by
    have e : 16 * (n + 1) = 16 * n + 16 := by omega
    rw [e, isum_add, isum_blk g n]
    simp only [isum]
    have e2 : ((16 * n : Nat) : Int) = 16 * (n : Int) := by omega
    simp only [e2]
theorem isum_ord (B : Int → Int) {n : Int} (h1 : 1 ≤ n) (h2 : n ≤ 12) : isum (fun j => B (ordF n j)) n.toNat = isum B n.toNat := by
  have h : n = 1 ∨ n = 2 ∨ n = 3 ∨ n = 4 ∨ n = 5 ∨ n = 6 ∨ n = 7 ∨ n = 8 ∨ n = 9 ∨ n = 10 ∨ n = 11 ∨ n = 12 := by omega
  rcases h with rfl | rfl | rfl | rfl | rfl | rfl | rfl | rfl | rfl | rfl | rfl | rfl <;> (simp [isum, ordF]) <;> omega
theorem isum_fld (g : Int → Int) {n : Int} (h1 : 1 ≤ n) (h2 : n ≤ 12) : isum (fun k => g (fld n k)) (nF n) = isum g (nF n) := by
  obtain ⟨m, rfl⟩ : ∃ m : Nat, n = (m : Int) := ⟨n.toNat, by omega⟩
  have e : nF (m : Int) = 16 * m := by unfold nF; omega
  rw [e, isum_blk, isum_blk]
  have e1 : ∀ j : Int, isum (fun i => g (fld m (16 * j + i))) 16 = isum (fun i => g (16 * ordF m j + i)) 16 := by
    intro j
    apply isum_congr
    intro i i0 i1
    have a1 : (16 * j + i) / 16 = j := by omega
    have a2 : (16 * j + i) % 16 = i := by omega
    simp only [fld, a1, a2]
  have e2 : isum (fun j => isum (fun i => g (fld m (16 * j + i))) 16) m = isum (fun j => (fun f => isum (fun i => g (16 * f + i)) 16) (ordF m j)) m := isum_congr fun j _ _ => e1 j
  rw [e2]
  have := isum_ord (fun f => isum (fun i => g (16 * f + i)) 16) h1 h2
  simpa using this
