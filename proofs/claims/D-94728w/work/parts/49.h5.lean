/-! H5: the two worlds, and how they hang together -/
/-- a name, by 32 and by 256 -/
def e32 (l : List Int) : Int := l.foldl (fun n c => n * 32 + c - 96) 0
def e256 (l : List Int) : Int := l.foldl (fun n c => n * 256 + c) 0
def NE (x m : Int) : Prop := ∃ l : List Int, 1 ≤ l.length ∧ l.length ≤ 8 ∧ (∀ c ∈ l, 97 ≤ c ∧ c ≤ 122) ∧ x = e32 l ∧ m = e256 l
/-- the names of a yard s: hives at 0, drones at 4, queens at 12 -/
def NRl (N c2 : Int → Int) (s : Int → Int) : Prop := (∀ k, 0 ≤ k → k < s 0 → NE (N k) (c2 k)) ∧ (∀ d, 0 ≤ d → d < s 2 → NE (N (4 + d)) (c2 (4 + d))) ∧ ∀ q, 0 ≤ q → q < s 1 → NE (N (12 + q)) (c2 (12 + q))
/-- what a step's row may say in a yard s -/
def ROW (s : Int → Int) (r : Int) : Prop :=
  (s r = 11 ∧ 1 ≤ s (r + 1) ∧ s (r + 1) ≤ 30) ∨ (s r = 12 ∧ (0 ≤ s (r + 1) ∧ s (r + 1) < s 0) ∧ 0 ≤ s (r + 2) ∧ s (r + 2) ≤ 999) ∨ (s r = 13 ∧ (0 ≤ s (r + 1) ∧ s (r + 1) < s 0) ∧ 0 ≤ s (r + 2) ∧ s (r + 2) < s (64 + 198 * s (r + 1))) ∨
  (s r = 14 ∧ ((0 ≤ s (r + 1) ∧ s (r + 1) < s 0) ∧ 0 ≤ s (r + 2) ∧ s (r + 2) < s (64 + 198 * s (r + 1))) ∧ (0 ≤ s (r + 3) ∧ s (r + 3) < s 0) ∧ 0 ≤ s (r + 5) ∧ s (r + 5) < s (64 + 198 * s (r + 3))) ∨
  (s r = 15 ∧ 1 ≤ s (r + 1) ∧ s (r + 1) ≤ 16) ∨ (s r = 16 ∧ (0 ≤ s (r + 1) ∧ s (r + 1) < s 1) ∧ 0 ≤ s (r + 2) ∧ s (r + 2) < s 0) ∨ s r = 20
/-- a step o of a season stands in the rows from i to j -/
def STs (own : Int → Int) (sz : Int) (im : Int → aIm) (ct : Int → Int → Int) (s : Int → Int) : Nat → Int → Int → Int → Prop
  | 0, _, _, _ => False
  | n + 1, o, i, j => own o = -1 ∧ 0 ≤ i ∧ j ≤ 60 ∧
    ((aob sz im o 12 ∧ j = i + 1 ∧ ROW s (860 + 6 * i) ∧ (im o).2.2 0 = (if s (860 + 6 * i) = 20 then 6 else s (860 + 6 * i) - 11) ∧ (im o).2.2 1 = s (861 + 6 * i) ∧ (im o).2.2 2 = s (862 + 6 * i) ∧ (im o).2.2 3 = s (863 + 6 * i) ∧ (im o).2.2 4 = s (865 + 6 * i)) ∨
     ((aob sz im o 10 ∧ s (860 + 6 * i) = 18 ∧ (im o).2.2 2 = s (861 + 6 * i) ∧ 1 ≤ s (861 + 6 * i) ∧ s (861 + 6 * i) ≤ 99) ∨
      (aob sz im o 11 ∧ (im o).2.2 3 = s (861 + 6 * i) ∧ (0 ≤ s (861 + 6 * i) ∧ s (861 + 6 * i) < s 0) ∧ (im o).2.2 4 = s (865 + 6 * i) ∧ (im o).2.2 5 = s (862 + 6 * i) ∧
        ((s (860 + 6 * i) = 1721 ∧ (im o).2.2 2 = 0) ∨ (s (860 + 6 * i) = 1705 ∧ (im o).2.2 2 = 1) ∨ (s (860 + 6 * i) = 1706 ∧ (im o).2.2 2 = 2) ∨ (s (860 + 6 * i) = 1722 ∧ (im o).2.2 2 = 3)))) ∧
     i + 2 ≤ j ∧ s (860 + 6 * (j - 1)) = 19 ∧ s (864 + 6 * (j - 1)) = i ∧ s (864 + 6 * i) = j - 1 ∧
     ∃ (cap : Int) (p : Int → Int), aar sz im (ct o 0) 8 cap ∧ own (ct o 0) = -1 ∧ 0 ≤ ct o 1 ∧ ct o 1 ≤ cap ∧ p 0 = i + 1 ∧ p (ct o 1) = j - 1 ∧ ∀ k, 0 ≤ k → k < ct o 1 → STs own sz im ct s n (ct (ct o 0) k) (p k) (p (k + 1)))
/-- the season -/
def SE (own : Int → Int) (sz : Int) (im : Int → aIm) (ct : Int → Int → Int) (s : Int → Int) (l : Int) : Prop :=
  (l = -1 ∧ s 10 = -1) ∨ (aob sz im l 10 ∧ own l = -1 ∧ 0 ≤ s 10 ∧ s 10 ≤ 60 ∧ ∃ (cap : Int) (p : Int → Int), aar sz im (ct l 0) 8 cap ∧ own (ct l 0) = -1 ∧ 0 ≤ ct l 1 ∧ ct l 1 ≤ cap ∧ p 0 = 0 ∧ p (ct l 1) = s 10 ∧ ∀ k, 0 ≤ k → k < ct l 1 → STs own sz im ct s 4 (ct (ct l 0) k) (p k) (p (k + 1)))
theorem STs.frame {own : Int → Int} {sz : Int} {im : Int → aIm} {ct ct' : Int → Int → Int} {s : Int → Int} (hf : ∀ x j, own x = -1 → ct' x j = ct x j) : ∀ {n : Nat} {o i j : Int}, STs own sz im ct s n o i j → STs own sz im ct' s n o i j
  | 0, _, _, _, h => h
  | n + 1, o, i, j, h => by
    obtain ⟨h1, h2, h3, h4⟩ := h
    refine ⟨h1, h2, h3, ?_⟩
    rcases h4 with h4 | ⟨g1, g2, g3, g4, g5, cap, p, g6, g7, g8, g9, g10, g11, g12⟩
    · exact Or.inl h4
    · have e0 := hf o 0 h1
      have e1 := hf o 1 h1
      refine Or.inr ⟨g1, g2, g3, g4, g5, cap, p, by rw [e0]; exact g6, by rw [e0]; exact g7, by rw [e1]; exact g8, by rw [e1]; exact g9, g10, by rw [e1]; exact g11, fun k k0 k1 => ?_⟩
      rw [e0, hf _ _ g7]
      rw [e1] at k1
      exact STs.frame hf (g12 k k0 k1)
theorem ROW.row {s s' : Int → Int} {r : Int} (h : ROW s r) (h0 : s' 0 = s 0) (h1 : s' 1 = s 1) (hn : ∀ k, 0 ≤ k → k < s 0 → s' (64 + 198 * k) = s (64 + 198 * k)) (hr : ∀ i, r ≤ i → i < r + 6 → s' i = s i) : ROW s' r := by
  have r0 := hr r (by omega) (by omega)
  have r1 := hr (r + 1) (by omega) (by omega)
  have r2 := hr (r + 2) (by omega) (by omega)
  have r3 := hr (r + 3) (by omega) (by omega)
  have r5 := hr (r + 5) (by omega) (by omega)
  unfold ROW
  rw [r0, r1, r2, r3, r5, h0, h1]
  rcases h with h | h | ⟨a, b, c, d⟩ | ⟨a, ⟨b, c, d⟩, e, f, g⟩ | h | h | h
  · exact Or.inl h
  · exact Or.inr (Or.inl h)
  · exact Or.inr (Or.inr (Or.inl ⟨a, b, c, by rw [hn _ b.1 b.2]; exact d⟩))
  · exact Or.inr (Or.inr (Or.inr (Or.inl ⟨a, ⟨b, c, by rw [hn _ b.1 b.2]; exact d⟩, e, f, by rw [hn _ e.1 e.2]; exact g⟩)))
  · exact Or.inr (Or.inr (Or.inr (Or.inr (Or.inl h))))
  · exact Or.inr (Or.inr (Or.inr (Or.inr (Or.inr (Or.inl h)))))
  · exact Or.inr (Or.inr (Or.inr (Or.inr (Or.inr (Or.inr h)))))
theorem STs.row {own : Int → Int} {sz : Int} {im : Int → aIm} {ct : Int → Int → Int} {s s' : Int → Int} (h0 : s' 0 = s 0) (h1 : s' 1 = s 1) (hn : ∀ k, 0 ≤ k → k < s 0 → s' (64 + 198 * k) = s (64 + 198 * k)) (hr : ∀ i, 860 ≤ i → i < 1225 → s' i = s i) : ∀ {n : Nat} {o i j : Int}, STs own sz im ct s n o i j → STs own sz im ct s' n o i j
  | 0, _, _, _, h => h
  | n + 1, o, i, j, h => by
    obtain ⟨a1, a2, a3, a4⟩ := h
    refine ⟨a1, a2, a3, ?_⟩
    rcases a4 with ⟨b1, b2, b3, b4, b5, b6, b7, b8⟩ | ⟨g1, g2, g3, g4, g5, cap, p, g6, g7, g8, g9, g10, g11, g12⟩
    · exact Or.inl ⟨b1, b2, b3.row h0 h1 hn fun q q0 q1 => hr q (by omega) (by omega), by rw [hr _ (by omega) (by omega)]; exact b4, by rw [hr _ (by omega) (by omega)]; exact b5, by rw [hr _ (by omega) (by omega)]; exact b6, by rw [hr _ (by omega) (by omega)]; exact b7, by rw [hr _ (by omega) (by omega)]; exact b8⟩
    · refine Or.inr ⟨?_, g2, by rw [hr _ (by omega) (by omega)]; exact g3, by rw [hr _ (by omega) (by omega)]; exact g4, by rw [hr _ (by omega) (by omega)]; exact g5, cap, p, g6, g7, g8, g9, g10, g11, fun k k0 k1 => STs.row h0 h1 hn hr (g12 k k0 k1)⟩
      rw [hr (860 + 6 * i) (by omega) (by omega), hr (861 + 6 * i) (by omega) (by omega), hr (862 + 6 * i) (by omega) (by omega), hr (865 + 6 * i) (by omega) (by omega), h0]
      exact g1
theorem SE.frame {own : Int → Int} {sz : Int} {im : Int → aIm} {ct ct' : Int → Int → Int} {s : Int → Int} {l : Int} (h : SE own sz im ct s l) (hf : ∀ x j, own x = -1 → ct' x j = ct x j) : SE own sz im ct' s l := by
  rcases h with h | ⟨g1, g2, g3, g4, cap, p, g6, g7, g8, g9, g10, g11, g12⟩
  · exact Or.inl h
  · have e0 := hf l 0 g2
    have e1 := hf l 1 g2
    refine Or.inr ⟨g1, g2, g3, g4, cap, p, by rw [e0]; exact g6, by rw [e0]; exact g7, by rw [e1]; exact g8, by rw [e1]; exact g9, g10, by rw [e1]; exact g11, fun k k0 k1 => ?_⟩
    rw [e0, hf _ _ g7]
    rw [e1] at k1
    exact (g12 k k0 k1).frame hf
theorem SE.row {own : Int → Int} {sz : Int} {im : Int → aIm} {ct : Int → Int → Int} {s s' : Int → Int} {l : Int} (h : SE own sz im ct s l) (h0 : s' 0 = s 0) (h1 : s' 1 = s 1) (h10 : s' 10 = s 10) (hn : ∀ k, 0 ≤ k → k < s 0 → s' (64 + 198 * k) = s (64 + 198 * k)) (hr : ∀ i, 860 ≤ i → i < 1225 → s' i = s i) : SE own sz im ct s' l := by
  rcases h with ⟨g1, g2⟩ | ⟨g1, g2, g3, g4, cap, p, g6, g7, g8, g9, g10, g11, g12⟩
  · exact Or.inl ⟨g1, by rw [h10]; exact g2⟩
  · exact Or.inr ⟨g1, g2, by rw [h10]; exact g3, by rw [h10]; exact g4, cap, p, g6, g7, g8, g9, g10, by rw [h10]; exact g11, fun k k0 k1 => (g12 k k0 k1).row h0 h1 hn hr⟩
/-! bounds of a slot -/
def PH (s : Int → Int) (k : Int) : Prop := (1 ≤ s (64 + 198 * k) ∧ s (64 + 198 * k) ≤ 12) ∧ rgF (s (64 + 198 * k)) (sh (64 + 198 * k) s) ∧ 0 ≤ s (64 + 198 * k + 1) ∧ 0 ≤ s (64 + 198 * k + 2) ∧ (-1 ≤ s (64 + 198 * k + 3) ∧ s (64 + 198 * k + 3) < s 1) ∧ (0 ≤ s (64 + 198 * k + 4) ∧ s (64 + 198 * k + 4) ≤ 99999) ∧ 0 ≤ s (64 + 198 * k + 5) ∧ s (64 + 198 * k + 5) ≤ 9999 * s (64 + 198 * k + 4)
def tld (s : Int → Int) (w : Int) : Int := if w < 8 then s (17 + 4 * w) else s (47 + 2 * (w - 8))
def one (s : Int → Int) (w : Int) : Prop := (0 ≤ w ∧ w < s 1) ∨ (8 ≤ w ∧ w < 8 + s 2)
def mot (s : Int → Int) (w : Int) : Int := if w < 8 then s (15 + 4 * w) else s (46 + 2 * (w - 8))
def fat (s : Int → Int) (w : Int) : Int := if 8 ≤ w ∨ s (16 + 4 * w) = -1 then -1 else 8 + s (16 + 4 * w)
/-- of descent -/
def PQ (s : Int → Int) : Prop := ((0 ≤ s 1 ∧ s 1 ≤ 8) ∧ 0 ≤ s 2 ∧ s 2 ≤ 8) ∧ s 13 = s 1 + s 2 ∧ (∀ q, 0 ≤ q → q < s 1 → (0 ≤ s (14 + 4 * q) ∧ s (14 + 4 * q) ≤ 16) ∧ -1 ≤ s (16 + 4 * q)) ∧
  (∀ w, one s w → (0 ≤ tld s w ∧ tld s w < s 13) ∧ (mot s w = -1 ∨ ((0 ≤ mot s w ∧ mot s w < s 1) ∧ tld s (mot s w) < tld s w)) ∧ (fat s w = -1 ∨ ((8 ≤ fat s w ∧ fat s w < 8 + s 2) ∧ tld s (fat s w) < tld s w))) ∧
  (∀ v w, one s v → one s w → tld s v = tld s w → v = w) ∧ ∀ i, 0 ≤ i → i < s 13 → ∃ w, one s w ∧ tld s w = i
def sumB (s : Int → Int) : Int := isum (fun k => s (65 + 198 * k)) (s 0).toNat
def sumU (s : Int → Int) : Int := isum (fun k => s (66 + 198 * k)) (s 0).toNat
def PI (s : Int → Int) : Prop := (0 ≤ s 0 ∧ s 0 ≤ 4) ∧ (0 ≤ s 3 ∧ s 3 ≤ 9999) ∧ (∀ k, 0 ≤ k → k < s 0 → PH s k) ∧ PQ s ∧ (sumB s + max (s 11) 0 ≤ 39996 + 768 * s 3 ∧ sumU s ≤ 36) ∧ (-1 ≤ s 11 ∧ (-1 ≤ s 12 ∧ s 12 < s 1) ∧ (s 11 = -1 ↔ s 12 = -1))
/-- the fixed part of BeeYard's heap -/
def RT (own : Int → Int) (sz : Int) (im : Int → aIm) (ct : Int → Int → Int) : Prop :=
  (aob sz im 0 0 ∧ own 0 = -2) ∧ ((im 0).2.2 0 = 1 ∧ (im 0).2.2 1 = 6 ∧ (im 0).2.2 5 = 7 ∧ (im 0).2.2 6 = 8 ∧ (im 0).2.2 10 = 9 ∧ (im 0).2.2 11 = 19 ∧ (im 0).2.2 13 = 20 ∧ (im 0).2.2 14 = 29) ∧
  (aar sz im 1 4 4 ∧ own 1 = -2 ∧ ∀ t, 0 ≤ t → t < 4 → ct 1 t = 2 + t ∧ aob sz im (2 + t) 1 ∧ own (2 + t) = -2) ∧ (aar sz im 6 0 900 ∧ own 6 = -2) ∧ (aob sz im 7 2 ∧ own 7 = -2) ∧ (aob sz im 8 3 ∧ own 8 = -2) ∧ (aob sz im 9 4 ∧ own 9 = -2 ∧ (im 9).2.2 0 = 10) ∧ (aar sz im 19 6 3 ∧ own 19 = -2) ∧ (aar sz im 29 2 3 ∧ own 29 = -2)
/-- a tray -/
def TRY (own : Int → Int) (sz : Int) (im : Int → aIm) (ct cm : Int → Int → Int) (t : Int) : Prop :=
  (ct (2 + t) 0 = -1 ∧ cm 4 t = -1) ∨ ((0 ≤ cm 3 t ∧ cm 3 t ≤ 3) ∧ (0 ≤ cm 4 t ∧ cm 4 t ≤ 60) ∧ aar sz im (ct (2 + t) 0) (cm 3 t).toNat (cm 4 t) ∧ own (ct (2 + t) 0) = -10 - t ∧ ∀ j, 0 ≤ j → j < cm 4 t → ct (ct (2 + t) 0) j = cm 5 (60 * t + j))
/-- a slot, and its names -/
def slt (cm : Int → Int → Int) (y : Int) : Int → Int := fun i => if 0 ≤ i ∧ i < 1230 then cm 1 (1230 * y + i) else 0
def nms (cm : Int → Int → Int) (y : Int) : Int → Int := fun i => if 0 ≤ i ∧ i < 20 then cm 2 (20 * y + i) else 0
/-- a mark -/
def MRK (own : Int → Int) (sz : Int) (im : Int → aIm) (ct cm : Int → Int → Int) (j : Int) : Prop :=
  (ct 19 j = -1 ∧ cm 0 35 ≤ j) ∨ (aob sz im (ct 19 j) 4 ∧ own (ct 19 j) = 10 * (j + 1) + 9 ∧ (∃ s dd N, YR own (j + 1) sz im ct ((im (ct 19 j)).2.2 0) s dd N) ∧
    (j < cm 0 35 → PI (slt cm (j + 1)) ∧ ∃ N, YR own (j + 1) sz im ct ((im (ct 19 j)).2.2 0) (slt cm (j + 1)) (slt cm (j + 1) 3) N ∧ LR own sz im ct (ct ((im (ct 19 j)).2.2 0) 0) (slt cm (j + 1)) N ∧ NRl N (nms cm (j + 1)) (slt cm (j + 1)) ∧ SE own sz im ct (slt cm (j + 1)) (ct (ct 19 j) 1)))
/-- all but the yard that is now -/
def XO (own : Int → Int) (sz : Int) (im : Int → aIm) (ct cm : Int → Int → Int) : Prop :=
  (∀ t, 0 ≤ t → t < 4 → TRY own sz im ct cm t) ∧ ((0 ≤ cm 0 35 ∧ cm 0 35 ≤ 3) ∧ ct 0 12 = cm 0 35 ∧ ∀ j, 0 ≤ j → j < 3 → MRK own sz im ct cm j) ∧ (∃ s dd N, YR own 4 sz im ct 20 s dd N) ∧
  (ct 0 2 = cm 0 10 ∧ (0 ≤ cm 0 10 ∧ cm 0 10 ≤ 900) ∧ ct 0 3 = cm 0 16 ∧ ct 0 4 = cm 0 17 ∧ ct 0 15 = cm 0 34 ∧ (cm 0 34 = 0 ∨ cm 0 34 = 1)) ∧ (∀ j, 0 ≤ j → j < 900 → ct 6 j = cm 6 j ∧ -128 ≤ cm 6 j ∧ cm 6 j < 128) ∧ (∀ j, 0 ≤ j → j < 3 → ct 29 j = cm 13 j)
/-- the two worlds say the same -/
def XR (G : aG) (cm : Int → Int → Int) : Prop := ∃ own N, RT own G.1 G.2.1 G.2.2 ∧ YR own 0 G.1 G.2.1 G.2.2 10 (cm 1) (cm 1 3) N ∧ LR own G.1 G.2.1 G.2.2 (G.2.2 10 0) (cm 1) N ∧ NRl N (cm 2) (cm 1) ∧ SE own G.1 G.2.1 G.2.2 (cm 1) (G.2.2 9 1) ∧ PI (cm 1) ∧ Fok cm ∧ XO own G.1 G.2.1 G.2.2 cm ∧
  (G.2.2 0 7 = cm 0 2 ∧ G.2.2 0 8 = cm 0 3 ∧ G.2.2 0 9 = cm 0 4)
/-- BeeYardModel wrote nothing that the rest is bound to -/
theorem slt_eq {cm cm' : Int → Int → Int} {y : Int} (h : ∀ i, 1230 * y ≤ i → i < 1230 * y + 1230 → cm' 1 i = cm 1 i) : slt cm' y = slt cm y := by
  funext i
  unfold slt
  split
  · exact h _ (by omega) (by omega)
  · rfl
theorem nms_eq {cm cm' : Int → Int → Int} {y : Int} (h : ∀ i, 20 * y ≤ i → i < 20 * y + 20 → cm' 2 i = cm 2 i) : nms cm' y = nms cm y := by
  funext i
  unfold nms
  split
  · exact h _ (by omega) (by omega)
  · rfl
abbrev mag (cm cm' : Int → Int → Int) : Prop := (∀ i, i = 10 ∨ i = 16 ∨ i = 17 ∨ i = 34 ∨ i = 35 → cm' 0 i = cm 0 i) ∧ (∀ i, 1230 ≤ i → i < 4920 → cm' 1 i = cm 1 i) ∧ (∀ i, i < 80 → cm' 2 i = cm 2 i) ∧ cm' 3 = cm 3 ∧ cm' 4 = cm 4 ∧ cm' 5 = cm 5 ∧ cm' 6 = cm 6 ∧ cm' 13 = cm 13
/-- BeeYard wrote the yard that is now alone, and the status and the fraction -/
abbrev xag (own : Int → Int) (ct ct' : Int → Int → Int) : Prop := ∀ x j, ¬ (0 ≤ own x ∧ own x < 10) → ¬ (x = 0 ∧ (j = 7 ∨ j = 8 ∨ j = 9)) → ct' x j = ct x j
theorem MRK.frame {own : Int → Int} {sz : Int} {im : Int → aIm} {ct ct' cm cm' : Int → Int → Int} {j : Int} (j0 : 0 ≤ j) (j1 : j < 3) (hR : RT own sz im ct) (h : MRK own sz im ct cm j) (hx : xag own ct ct') (hm : mag cm cm') : MRK own sz im ct' cm' j := by
  obtain ⟨⟨r1, r2⟩, -, -, -, -, -, -, ⟨r3, r4⟩, -⟩ := hR
  have e1 : ct' 19 j = ct 19 j := hx _ _ (by omega) (by omega)
  have e2 : cm' 0 35 = cm 0 35 := hm.1 _ (by omega)
  have e3 : slt cm' (j + 1) = slt cm (j + 1) := slt_eq fun i i0 i1 => hm.2.1 _ (by omega) (by omega)
  have e4 : nms cm' (j + 1) = nms cm (j + 1) := nms_eq fun i i0 i1 => hm.2.2.1 _ (by omega)
  unfold MRK
  rw [e1, e2, e3, e4]
  rcases h with h | ⟨h1, h2, ⟨s, dd, N, h3⟩, h4⟩
  · exact Or.inl h
  · have hne : ct 19 j ≠ 0 := fun e => by rw [e] at h2; omega
    have e5 : ct' (ct 19 j) 1 = ct (ct 19 j) 1 := hx _ _ (by omega) (by omega)
    have hy : ∀ x i, 10 * (j + 1) ≤ own x → own x < 10 * (j + 1) + 10 → ct' x i = ct x i := fun x i a b => hx x i (by omega) (fun z => by rw [z.1] at a; omega)
    have hl : ∀ x i, own x = -1 → ct' x i = ct x i := fun x i a => hx x i (by omega) (fun z => by rw [z.1] at a; omega)
    refine Or.inr ⟨h1, h2, ⟨s, dd, N, h3.frame hy⟩, fun hj => ?_⟩
    obtain ⟨g1, N2, g2, g3, g4, g5⟩ := h4 hj
    have hya : 10 * (j + 1) ≤ own ((im (ct 19 j)).2.2 0) ∧ own ((im (ct 19 j)).2.2 0) < 10 * (j + 1) + 10 := by have := g2.2.1; omega
    have e6 : ct' ((im (ct 19 j)).2.2 0) 0 = ct ((im (ct 19 j)).2.2 0) 0 := hy _ _ hya.1 hya.2
    exact ⟨g1, N2, g2.frame hy, by rw [e6]; exact g3.frame hl, g4, by rw [e5]; exact g5.frame hl⟩
theorem XO.frame {own : Int → Int} {sz : Int} {im : Int → aIm} {ct ct' cm cm' : Int → Int → Int} (hR : RT own sz im ct) (h : XO own sz im ct cm) (hx : xag own ct ct') (hm : mag cm cm') : XO own sz im ct' cm' := by
  obtain ⟨⟨r1, r2⟩, r5, ⟨r6, r7, r8⟩, ⟨r9, r10⟩, ⟨r11, r12⟩, ⟨r13, r14⟩, ⟨r15, r16, r17⟩, ⟨r18, r19⟩, ⟨r20, r21⟩⟩ := id hR
  obtain ⟨h1, ⟨h2, h3, h4⟩, ⟨s, dd, N, h5⟩, ⟨h6, h7, h8, h9, h10, h11⟩, h12, h13⟩ := h
  have e0 : ∀ i, i ≠ 7 → i ≠ 8 → i ≠ 9 → ct' 0 i = ct 0 i := fun i a b c => hx _ _ (by omega) (by omega)
  refine ⟨fun t t0 t1 => ?_, ⟨by rw [hm.1 _ (by omega)]; exact h2, by rw [e0 _ (by omega) (by omega) (by omega), hm.1 _ (by omega)]; exact h3, fun j j0 j1 => (h4 j j0 j1).frame j0 j1 hR hx hm⟩, ⟨s, dd, N, h5.frame fun x i a b => hx x i (by omega) (fun z => by rw [z.1] at a; omega)⟩,
    ⟨?_, ?_, ?_, ?_, ?_, ?_⟩, fun j j0 j1 => ?_, fun j j0 j1 => ?_⟩
  · obtain ⟨q1, q2, q3⟩ := r8 t t0 t1
    have e1 : ct' (2 + t) 0 = ct (2 + t) 0 := hx _ _ (by omega) (by omega)
    unfold TRY
    rw [e1, hm.2.2.2.1, hm.2.2.2.2.1, hm.2.2.2.2.2.1]
    rcases h1 t t0 t1 with g | ⟨g1, g2, g3, g4, g5⟩
    · exact Or.inl g
    · refine Or.inr ⟨g1, g2, g3, g4, fun j j0 j1 => ?_⟩
      rw [hx _ _ (by omega) (fun z => by rw [z.1] at g4; omega)]
      exact g5 j j0 j1
  · rw [e0 _ (by omega) (by omega) (by omega), hm.1 _ (by omega)]; exact h6
  · rw [hm.1 _ (by omega)]; exact h7
  · rw [e0 _ (by omega) (by omega) (by omega), hm.1 _ (by omega)]; exact h8
  · rw [e0 _ (by omega) (by omega) (by omega), hm.1 _ (by omega)]; exact h9
  · rw [e0 _ (by omega) (by omega) (by omega), hm.1 _ (by omega)]; exact h10
  · rw [hm.1 _ (by omega)]; exact h11
  · rw [hx 6 j (by omega) (by omega), hm.2.2.2.2.2.2.1]; exact h12 j j0 j1
  · rw [hx 29 j (by omega) (by omega), hm.2.2.2.2.2.2.2]; exact h13 j j0 j1
theorem RT.frame {own : Int → Int} {sz : Int} {im : Int → aIm} {ct ct' : Int → Int → Int} (hR : RT own sz im ct) (h : ∀ t, 0 ≤ t → t < 4 → ct' 1 t = ct 1 t) : RT own sz im ct' := by
  obtain ⟨r0, r5, ⟨r6, r7, r8⟩, r9⟩ := hR
  exact ⟨r0, r5, ⟨r6, r7, fun t t0 t1 => by rw [h t t0 t1]; exact r8 t t0 t1⟩, r9⟩
/-- the yard that is now was changed -/
theorem XR.mk {own N : Int → Int} {sz : Int} {im : Int → aIm} {ct ct' cm cm' : Int → Int → Int} (hR : RT own sz im ct) (hX : XO own sz im ct cm) (hY : YR own 0 sz im ct' 10 (cm' 1) (cm' 1 3) N) (hL : LR own sz im ct' (ct' 10 0) (cm' 1) N) (hN : NRl N (cm' 2) (cm' 1)) (hS : SE own sz im ct' (cm' 1) (ct' 9 1)) (hP : PI (cm' 1)) (hF : Fok cm')
    (hx : xag own ct ct') (hm : mag cm cm') (h2 : ct' 0 7 = cm' 0 2) (h3 : ct' 0 8 = cm' 0 3) (h4 : ct' 0 9 = cm' 0 4) : XR (sz, im, ct') cm' := by
  have r1 := hR.2.2.1.2.1
  exact ⟨own, N, hR.frame fun t t0 t1 => hx _ _ (by omega) (by omega), hY, hL, hN, hS, hP, hF, hX.frame hR hx hm, h2, h3, h4⟩
theorem PI.pd {s : Int → Int} (h : PI s) : PD s := by
  obtain ⟨h0, h3, hk, ⟨hq, -, hl, -⟩, ⟨hB, hU⟩, h11, -⟩ := h
  have e : s 0 = 0 ∨ s 0 = 1 ∨ s 0 = 2 ∨ s 0 = 3 ∨ s 0 = 4 := by omega
  have b : ∀ k, 0 ≤ k → k < s 0 → s (65 + 198 * k) ≤ 50000000 ∧ s (66 + 198 * k) ≤ 1000 := by
    intro k k0 k1
    have g : ∀ j, 0 ≤ j → j < s 0 → 0 ≤ s (65 + 198 * j) ∧ 0 ≤ s (66 + 198 * j) := fun j j0 j1 => by
      have := hk j j0 j1
      have e1 : 64 + 198 * j + 1 = 65 + 198 * j := by omega
      have e2 : 64 + 198 * j + 2 = 66 + 198 * j := by omega
      have z := this.2.2
      rw [e1, e2] at z
      exact ⟨z.1, z.2.1⟩
    unfold sumB at hB
    unfold sumU at hU
    rcases e with e | e | e | e | e
    · omega
    · have g0 := g 0 (by omega) (by omega)
      have : k = 0 := by omega
      subst this
      rw [e] at hB hU
      simp [isum] at hB hU g0 ⊢
      omega
    · have g0 := g 0 (by omega) (by omega)
      have g1 := g 1 (by omega) (by omega)
      have : k = 0 ∨ k = 1 := by omega
      rw [e] at hB hU
      rcases this with rfl | rfl <;> (simp [isum] at hB hU g0 g1 ⊢; omega)
    · have g0 := g 0 (by omega) (by omega)
      have g1 := g 1 (by omega) (by omega)
      have g2 := g 2 (by omega) (by omega)
      have : k = 0 ∨ k = 1 ∨ k = 2 := by omega
      rw [e] at hB hU
      rcases this with rfl | rfl | rfl <;> (simp [isum] at hB hU g0 g1 g2 ⊢; omega)
    · have g0 := g 0 (by omega) (by omega)
      have g1 := g 1 (by omega) (by omega)
      have g2 := g 2 (by omega) (by omega)
      have g3 := g 3 (by omega) (by omega)
      have : k = 0 ∨ k = 1 ∨ k = 2 ∨ k = 3 := by omega
      rw [e] at hB hU
      rcases this with rfl | rfl | rfl | rfl <;> (simp [isum] at hB hU g0 g1 g2 g3 ⊢; omega)
  refine ⟨h0, fun k k0 k1 => ?_, hq.1, fun q q0 q1 => (hl q q0 q1).1⟩
  obtain ⟨p1, p2, p3, p4, p5, -⟩ := hk k k0 k1
  have := b k k0 k1
  have e1 : 64 + 198 * k + 1 = 65 + 198 * k := by omega
  have e2 : 64 + 198 * k + 2 = 66 + 198 * k := by omega
  rw [e1] at p3
  rw [e2] at p4
  refine ⟨p1, p2, ?_, ?_, p5⟩
  · rw [e1]; omega
  · rw [e2]; omega
