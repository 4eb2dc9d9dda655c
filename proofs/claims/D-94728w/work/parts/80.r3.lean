set_option maxRecDepth 100000
/-! P3: a yard that is being read: what is kept of it, plainly -/
theorem stor_sum {n : Int} (hn : 0 ≤ n) : ∀ {k : Nat} {c : Int → Int} {l : Int}, (k : Int) ≤ 16 * n → rgF n c → 0 ≤ l → isum (fun i => sv 0 ((stor n k c l).1 i)) (nF n) + (stor n k c l).2 = isum (fun i => sv 0 (c i)) (nF n) + l
  | 0, _, _, _, _, _ => rfl
  | k + 1, c, l, hk, hr, hl => by
    have hf := fld_in (n := n) (k := k) (by omega) (by omega)
    have hv := hr _ hf.1 hf.2
    have hN : ((nF n : Nat) : Int) = 16 * n := by unfold nF; omega
    simp only [stor]
    split
    · rfl
    · split
      · exact stor_sum hn (by omega) hr hl
      · have h1 := stor_sum hn (k := k) (c := upA c (fld n k) (c (fld n k) + min l (100 - c (fld n k)))) (l := l - min l (100 - c (fld n k))) (by omega) (upA_rgF hr (by omega)) (by omega)
        have h2 := isum_upd (g := fun i => sv 0 (c i)) (g' := fun i => sv 0 (upA c (fld n k) (c (fld n k) + min l (100 - c (fld n k))) i)) (k := fld n k) (n := nF n) hf.1 (by omega) (fun j j0 j1 hj => by
          show sv 0 (upA c (fld n k) _ j) = sv 0 (c j)
          rw [upA_n hj])
        rw [h1, h2]
        show _ + sv 0 (upA c (fld n k) _ (fld n k)) - sv 0 (c (fld n k)) + _ = _
        rw [upA_s]
        unfold sv
        rw [if_pos rfl, if_pos rfl, if_pos (by omega), if_pos (by omega)]
        omega
theorem stor_left {n : Int} (hn : 0 ≤ n) : ∀ {k : Nat} {c : Int → Int} {l : Int}, (k : Int) ≤ 16 * n → (∀ j : Int, 0 ≤ j → j < k → c (fld n j) = 0) → 0 ≤ l → l ≤ 100 * k → (stor n k c l).2 = 0
  | 0, _, l, _, _, h0, h1 => by show l = 0; omega
  | k + 1, c, l, hk, hz, h0, h1 => by
    have hzk := hz k (by omega) (by omega)
    simp only [stor]
    split
    · omega
    · split
      · omega
      · refine stor_left hn (by omega) (fun j j0 j1 => ?_) (by omega) (by omega)
        rw [upA_n (fun z => by have := fld_inj (n := n) j0 (by omega) (by omega) (by omega) z; omega)]
        exact hz j j0 (by omega)
def YI (s : Int → Int) : Prop := PI s ∧ (sumB s ≤ 9999 * s 0 ∧ sumU s = 0) ∧ (s 3 = 0 ∧ s 10 = -1 ∧ s 11 = -1 ∧ s 12 = -1) ∧ s 4 = isum (hoK s) (s 0).toNat ∧ ∀ i, 64 + 198 * s 0 ≤ i → i < 860 → s i = 0
def row0 : Int → Int := fun i => if i = 10 ∨ i = 11 ∨ i = 12 then -1 else 0
theorem row0_YI : YI row0 := by
  have e : ∀ i, i ≠ 10 → i ≠ 11 → i ≠ 12 → row0 i = 0 := fun i a b c => if_neg (by omega)
  have e0 := e 0 (by decide) (by decide) (by decide)
  have e1 := e 1 (by decide) (by decide) (by decide)
  have e2 := e 2 (by decide) (by decide) (by decide)
  have e3 := e 3 (by decide) (by decide) (by decide)
  have e4 := e 4 (by decide) (by decide) (by decide)
  have e13 := e 13 (by decide) (by decide) (by decide)
  have e11 : row0 11 = -1 := if_pos (by omega)
  have e12 : row0 12 = -1 := if_pos (by omega)
  have e10 : row0 10 = -1 := if_pos (by omega)
  have b : sumB row0 = 0 := by unfold sumB; rw [e0]; rfl
  have u : sumU row0 = 0 := by unfold sumU; rw [e0]; rfl
  refine ⟨⟨by omega, by omega, fun k k0 k1 => by omega, ⟨by omega, by omega, fun q q0 q1 => by omega, fun w hw => ?_, fun v w hv hw => ?_, fun i i0 i1 => by omega⟩, by omega, by omega⟩, by omega, ⟨e3, e10, e11, e12⟩, by rw [e4, e0]; rfl, fun i i0 i1 => e i (by omega) (by omega) (by omega)⟩
  · unfold one at hw; omega
  · unfold one at hv; omega
theorem addH_n {s : Int → Int} {m b h i : Int} (h0 : i ≠ 0) (h4 : i ≠ 4) (hi : i < 64 + 198 * s 0 ∨ 262 + 198 * s 0 ≤ i) : addH s m b h i = s i := by
  unfold addH
  rw [if_neg h0, if_neg h4, if_neg (by omega), if_neg (by omega), if_neg (by omega), if_neg (by omega)]
theorem addH_f {s : Int → Int} {m b h j : Int} (k0 : 0 ≤ s 0) (h0 : 0 ≤ j) (h1 : j < 192) : addH s m b h (70 + 198 * s 0 + j) = (stor m (nF m) (fun _ => 0) (100 * h)).1 j := by
  unfold addH
  rw [if_neg (by omega), if_neg (by omega), if_neg (by omega), if_neg (by omega), if_neg (by omega), if_pos (by omega), show 70 + 198 * s 0 + j - (70 + 198 * s 0) = j by omega]
theorem YI_addH {s : Int → Int} {m b h : Int} (H : YI s) (h4 : s 0 < 4) (hm : 1 ≤ m ∧ m ≤ 12) (hb : 0 ≤ b ∧ b ≤ 9999) (hh : 0 ≤ h ∧ h ≤ 16 * m) : YI (addH s m b h) := by
  obtain ⟨⟨p0, p3, pk, pq, ⟨pB, pU⟩, ps⟩, ⟨yB, yU⟩, ⟨y3, y10, y11, y12⟩, yS, yz⟩ := id H
  have e0 : addH s m b h 0 = s 0 + 1 := if_pos rfl
  have r : ∀ i, i ≠ 0 → i ≠ 4 → (i < 64 + 198 * s 0 ∨ 262 + 198 * s 0 ≤ i) → addH s m b h i = s i := fun i a c d => addH_n a c d
  have e4 : addH s m b h 4 = s 4 + 100 * h := by unfold addH; rw [if_neg (by decide), if_pos rfl]
  have ek : addH s m b h (64 + 198 * s 0) = m := by unfold addH; rw [if_neg (by omega), if_neg (by omega), if_pos rfl]
  have ek1 : addH s m b h (64 + 198 * s 0 + 1) = b := by unfold addH; rw [if_neg (by omega), if_neg (by omega), if_neg (by omega), if_pos (by omega)]
  have ek3 : addH s m b h (64 + 198 * s 0 + 3) = -1 := by unfold addH; rw [if_neg (by omega), if_neg (by omega), if_neg (by omega), if_neg (by omega), if_pos (by omega)]
  have ez : ∀ i, i = 64 + 198 * s 0 + 2 ∨ i = 64 + 198 * s 0 + 4 ∨ i = 64 + 198 * s 0 + 5 → addH s m b h i = 0 := fun i hi => by
    unfold addH
    rw [if_neg (by omega), if_neg (by omega), if_neg (by omega), if_neg (by omega), if_neg (by omega), if_neg (by omega)]
    exact yz i (by omega) (by omega)
  have hz : rgF m (fun _ => (0 : Int)) := fun _ _ _ => ⟨by show (0 : Int) ≤ 0; decide, by show (0 : Int) ≤ 121; decide⟩
  have hsr := stor_rg (n := m) (k := nF m) (c := fun _ => 0) (l := 100 * h) (by unfold nF; omega) hz (by omega)
  have hfe : ∀ i, 0 ≤ i → i < 192 → sh (64 + 198 * s 0) (addH s m b h) i = (stor m (nF m) (fun _ => 0) (100 * h)).1 i := fun i i0 i1 => by
    have := addH_f (s := s) (m := m) (b := b) (h := h) (j := i) p0.1 i0 i1
    unfold sh
    rw [show 64 + 198 * s 0 + 6 + i = 70 + 198 * s 0 + i by omega]
    exact this
  have hrk : ∀ k, 0 ≤ k → k < s 0 → ∀ i, 0 ≤ i → i < 198 → addH s m b h (64 + 198 * k + i) = s (64 + 198 * k + i) := fun k k0 k1 i i0 i1 => r _ (by omega) (by omega) (by omega)
  have hPH : ∀ k, 0 ≤ k → k < s 0 + 1 → PH (addH s m b h) k := fun k k0 k1 => by
    by_cases q : k = s 0
    · subst q
      unfold PH
      rw [ek, ek1, ek3, ez _ (Or.inl rfl), ez _ (Or.inr (Or.inl rfl)), ez _ (Or.inr (Or.inr rfl)), r 1 (by decide) (by decide) (by omega)]
      have := pq.1
      refine ⟨hm, fun i i0 i1 => ?_, by omega, by omega, by omega, by omega, by omega⟩
      rw [hfe i i0 (by omega)]
      exact hsr.1 i i0 i1
    · have hk := pk k k0 (by omega)
      have g := hrk k k0 (by omega)
      have g0 := g 0 (by decide) (by decide)
      rw [Int.add_zero] at g0
      unfold PH at hk ⊢
      rw [g0, g 1 (by decide) (by decide), g 2 (by decide) (by decide), g 3 (by decide) (by decide), g 4 (by decide) (by decide), g 5 (by decide) (by decide), r 1 (by decide) (by decide) (by omega)]
      refine ⟨hk.1, fun i i0 i1 => ?_, hk.2.2⟩
      have h1 := hk.1
      unfold sh
      rw [show 64 + 198 * k + 6 + i = 64 + 198 * k + (6 + i) by omega, g (6 + i) (by omega) (by omega)]
      have := hk.2.1 i i0 i1
      unfold sh at this
      rw [show 64 + 198 * k + 6 + i = 64 + 198 * k + (6 + i) by omega] at this
      exact this
  have eN : (s 0 + 1).toNat = (s 0).toNat + 1 := by omega
  have eB : sumB (addH s m b h) = sumB s + b := by
    unfold sumB
    rw [e0, eN]
    simp only [isum]
    rw [isum_congr (g := fun k => addH s m b h (65 + 198 * k)) (g' := fun k => s (65 + 198 * k)) (fun k k0 k1 => r _ (by omega) (by omega) (by omega))]
    have : addH s m b h (65 + 198 * (((s 0).toNat : Nat) : Int)) = b := by
      rw [show (((s 0).toNat : Nat) : Int) = s 0 by omega, ← ek1]
      congr 1; omega
    omega
  have eU : sumU (addH s m b h) = sumU s := by
    unfold sumU
    rw [e0, eN]
    simp only [isum]
    rw [isum_congr (g := fun k => addH s m b h (66 + 198 * k)) (g' := fun k => s (66 + 198 * k)) (fun k k0 k1 => r _ (by omega) (by omega) (by omega))]
    have : addH s m b h (66 + 198 * (((s 0).toNat : Nat) : Int)) = 0 := by
      rw [show (((s 0).toNat : Nat) : Int) = s 0 by omega]
      exact ez _ (by omega)
    omega
  have eS : isum (hoK (addH s m b h)) (s 0 + 1).toNat = isum (hoK s) (s 0).toNat + 100 * h := by
    rw [eN]
    simp only [isum]
    rw [show (((s 0).toNat : Nat) : Int) = s 0 by omega]
    rw [isum_congr (g := hoK (addH s m b h)) (g' := hoK s) (fun k k0 k1 => ?_)]
    · have e1 : hoK (addH s m b h) (s 0) = 100 * h := by
        unfold hoK
        rw [ek]
        rw [isum_congr (g := fun i => sv 0 (sh (64 + 198 * s 0) (addH s m b h) i)) (g' := fun i => sv 0 ((stor m (nF m) (fun _ => 0) (100 * h)).1 i)) (fun i i0 i1 => by
          show sv 0 _ = sv 0 _
          rw [hfe i i0 (by unfold nF at i1; omega)])]
        have a1 := stor_sum (n := m) (by omega) (k := nF m) (c := fun _ => 0) (l := 100 * h) (by unfold nF; omega) hz (by omega)
        have a2 := stor_left (n := m) (by omega) (k := nF m) (c := fun _ => 0) (l := 100 * h) (by unfold nF; omega) (fun _ _ _ => rfl) (by omega) (by unfold nF; omega)
        have a3 : isum (fun _ => sv 0 (0 : Int)) (nF m) = 0 := by
          have := isum_const (sv 0 0) (nF m)
          rw [this]
          have : sv 0 0 = 0 := by decide
          rw [this]; omega
        have a1' : isum (fun i => sv 0 ((stor m (nF m) (fun _ => 0) (100 * h)).1 i)) (nF m) + (stor m (nF m) (fun _ => 0) (100 * h)).2 = isum (fun _ => sv 0 (0 : Int)) (nF m) + 100 * h := a1
        omega
      rw [e1]
    · have g := hrk k k0 (by omega)
      have g0 := g 0 (by decide) (by decide)
      rw [Int.add_zero] at g0
      have hk := (pk k k0 (by omega)).1
      unfold hoK
      rw [g0]
      refine isum_congr fun i i0 i1 => ?_
      show sv 0 _ = sv 0 _
      unfold sh
      rw [show 64 + 198 * k + 6 + i = 64 + 198 * k + (6 + i) by omega, g (6 + i) (by omega) (by unfold nF at i1; omega)]
  have r3 := r 3 (by decide) (by decide) (by omega)
  have r10 := r 10 (by decide) (by decide) (by omega)
  have r11 := r 11 (by decide) (by decide) (by omega)
  have r12 := r 12 (by decide) (by decide) (by omega)
  have r1 := r 1 (by decide) (by decide) (by omega)
  refine ⟨⟨by omega, by omega, fun k k0 k1 => hPH k k0 (by omega), pq.ext r1 (r 2 (by decide) (by decide) (by omega)) (fun i i0 i1 => r i (by omega) (by omega) (by omega)), by rw [eB, eU, r3, r11]; omega, by rw [r11, r12, r1]; exact ps⟩, by rw [eB, eU, e0]; omega, by rw [r3, r10, r11, r12]; exact ⟨y3, y10, y11, y12⟩, by rw [e4, e0, eS]; omega, fun i i0 i1 => ?_⟩
  rw [e0] at i0
  rw [r i (by omega) (by omega) (by omega)]
  exact yz i (by omega) i1
/-- one more drone -/
theorem addD_n {s : Int → Int} {m i : Int} (h1 : i ≠ 46 + 2 * s 2) (h2 : i ≠ 47 + 2 * s 2) (h3 : i ≠ 13) (h4 : i ≠ 2) : addD s m i = s i := by
  unfold addD
  rw [upA_n h4, upA_n h3, upA_n h2, upA_n h1]
theorem PQ_addD {s : Int → Int} {m : Int} (H : PQ s) (h8 : s 2 < 8) (hm : m = -1 ∨ (0 ≤ m ∧ m < s 1)) : PQ (addD s m) := by
  obtain ⟨⟨a1, a2⟩, a3, a4, a5, a6, a7⟩ := H
  have r : ∀ i, i ≠ 46 + 2 * s 2 → i ≠ 47 + 2 * s 2 → i ≠ 13 → i ≠ 2 → addD s m i = s i := fun i b c d e => addD_n b c d e
  have e1 : addD s m 1 = s 1 := r 1 (by omega) (by omega) (by decide) (by decide)
  have e2 : addD s m 2 = s 2 + 1 := upA_s
  have e13 : addD s m 13 = s 13 + 1 := by unfold addD; rw [upA_n (by decide), upA_s]
  have em : addD s m (46 + 2 * s 2) = m := by unfold addD; rw [upA_n (by omega), upA_n (by omega), upA_n (by omega), upA_s]
  have et : addD s m (47 + 2 * s 2) = s 13 := by unfold addD; rw [upA_n (by omega), upA_n (by omega), upA_s]
  have o : ∀ w, one (addD s m) w ↔ one s w ∨ w = 8 + s 2 := fun w => by unfold one; rw [e1, e2]; omega
  have ow : ∀ w, one s w → (0 ≤ w ∧ w < 8 ∧ w < s 1) ∨ (8 ≤ w ∧ w < 8 + s 2) := fun w hw => by unfold one at hw; omega
  have tO : ∀ w, one s w → tld (addD s m) w = tld s w := fun w hw => by
    have := ow w hw
    unfold tld
    split
    · exact r _ (by omega) (by omega) (by omega) (by omega)
    · exact r _ (by omega) (by omega) (by omega) (by omega)
  have mO : ∀ w, one s w → mot (addD s m) w = mot s w := fun w hw => by
    have := ow w hw
    unfold mot
    split
    · exact r _ (by omega) (by omega) (by omega) (by omega)
    · exact r _ (by omega) (by omega) (by omega) (by omega)
  have fO : ∀ w, one s w → fat (addD s m) w = fat s w := fun w hw => by
    have := ow w hw
    unfold fat
    by_cases e : 8 ≤ w
    · rw [if_pos (Or.inl e), if_pos (Or.inl e)]
    · rw [r (16 + 4 * w) (by omega) (by omega) (by omega) (by omega)]
  have tN : tld (addD s m) (8 + s 2) = s 13 := by
    unfold tld
    rw [if_neg (by omega), show 47 + 2 * (8 + s 2 - 8) = 47 + 2 * s 2 by omega]
    exact et
  have mN : mot (addD s m) (8 + s 2) = m := by
    unfold mot
    rw [if_neg (by omega), show 46 + 2 * (8 + s 2 - 8) = 46 + 2 * s 2 by omega]
    exact em
  have fN : fat (addD s m) (8 + s 2) = -1 := by
    unfold fat
    rw [if_pos (by omega)]
  refine ⟨by rw [e1, e2]; omega, by rw [e1, e2, e13]; omega, fun q q0 q1 => ?_, fun w hw => ?_, fun v w hv hw e => ?_, fun i i0 i1 => ?_⟩
  · rw [e1] at q1
    rw [r (14 + 4 * q) (by omega) (by omega) (by omega) (by omega), r (16 + 4 * q) (by omega) (by omega) (by omega) (by omega)]
    exact a4 q q0 q1
  · rcases (o w).mp hw with hw | hw
    · have q := a5 w hw
      rw [tO w hw, mO w hw, fO w hw, e13, e1, e2]
      refine ⟨by omega, ?_, ?_⟩
      · rcases q.2.1 with z | ⟨z1, z2⟩
        · exact Or.inl z
        · exact Or.inr ⟨z1, by rw [tO _ (Or.inl z1)]; exact z2⟩
      · rcases q.2.2 with z | ⟨z1, z2⟩
        · exact Or.inl z
        · exact Or.inr ⟨by omega, by rw [tO _ (Or.inr z1)]; exact z2⟩
    · subst hw
      rw [tN, mN, fN, e13, e1]
      refine ⟨by omega, ?_, Or.inl rfl⟩
      rcases hm with z | z
      · exact Or.inl z
      · exact Or.inr ⟨z, by rw [tO _ (Or.inl z)]; have := (a5 m (Or.inl z)).1; omega⟩
  · rcases (o v).mp hv with hv | hv
    · rcases (o w).mp hw with hw | hw
      · rw [tO v hv, tO w hw] at e
        exact a6 v w hv hw e
      · subst hw
        rw [tO v hv, tN] at e
        have := (a5 v hv).1
        omega
    · rcases (o w).mp hw with hw | hw
      · subst hv
        rw [tO w hw, tN] at e
        have := (a5 w hw).1
        omega
      · omega
  · rw [e13] at i1
    by_cases q : i = s 13
    · exact ⟨8 + s 2, (o _).mpr (Or.inr rfl), by rw [tN, q]⟩
    · obtain ⟨w, hw, e⟩ := a7 i i0 (by omega)
      exact ⟨w, (o w).mpr (Or.inl hw), by rw [tO w hw]; exact e⟩
/-- one more queen -/
theorem addQ_n {s : Int → Int} {l m b h i : Int} (h1 : i < 14 + 4 * s 1 ∨ 18 + 4 * s 1 ≤ i) (h3 : i ≠ 13) (h4 : i ≠ 1) (h5 : h = -1 ∨ i ≠ 67 + 198 * h) : addQ s l m b h i = s i := by
  unfold addQ
  rw [upA_n h4, upA_n h3, upA_n (by omega), upA_n (by omega), upA_n (by omega), upA_n (by omega)]
  by_cases e : h = -1
  · rw [if_pos e]
  · rw [if_neg e, upA_n (by omega)]
theorem PQ_addQ {s : Int → Int} {l m b h : Int} (H : PQ s) (h8 : s 1 < 8) (hh : h = -1 ∨ 0 ≤ h) (hl : 0 ≤ l ∧ l ≤ 16) (hm : m = -1 ∨ (0 ≤ m ∧ m < s 1)) (hb : b = -1 ∨ (0 ≤ b ∧ b < s 2)) : PQ (addQ s l m b h) := by
  obtain ⟨⟨a1, a2⟩, a3, a4, a5, a6, a7⟩ := H
  have r : ∀ i, (i < 14 + 4 * s 1 ∨ 18 + 4 * s 1 ≤ i) → i ≠ 13 → i ≠ 1 → i < 64 → addQ s l m b h i = s i := fun i b c d e => addQ_n b c d (by omega)
  have e1 : addQ s l m b h 1 = s 1 + 1 := upA_s
  have e2 : addQ s l m b h 2 = s 2 := r 2 (by omega) (by decide) (by decide) (by decide)
  have e13 : addQ s l m b h 13 = s 13 + 1 := by unfold addQ; rw [upA_n (by decide), upA_s]
  have el : addQ s l m b h (14 + 4 * s 1) = l := by unfold addQ; rw [upA_n (by omega), upA_n (by omega), upA_n (by omega), upA_n (by omega), upA_n (by omega), upA_s]
  have em : addQ s l m b h (15 + 4 * s 1) = m := by unfold addQ; rw [upA_n (by omega), upA_n (by omega), upA_n (by omega), upA_n (by omega), upA_s]
  have eb : addQ s l m b h (16 + 4 * s 1) = b := by unfold addQ; rw [upA_n (by omega), upA_n (by omega), upA_n (by omega), upA_s]
  have et : addQ s l m b h (17 + 4 * s 1) = s 13 := by unfold addQ; rw [upA_n (by omega), upA_n (by omega), upA_s]
  have o : ∀ w, one (addQ s l m b h) w ↔ one s w ∨ w = s 1 := fun w => by unfold one; rw [e1, e2]; omega
  have ow : ∀ w, one s w → (0 ≤ w ∧ w < s 1) ∨ (8 ≤ w ∧ w < 8 + s 2) := fun w hw => hw
  have tO : ∀ w, one s w → tld (addQ s l m b h) w = tld s w := fun w hw => by
    have := ow w hw
    unfold tld
    split
    · exact r _ (by omega) (by omega) (by omega) (by omega)
    · exact r _ (by omega) (by omega) (by omega) (by omega)
  have mO : ∀ w, one s w → mot (addQ s l m b h) w = mot s w := fun w hw => by
    have := ow w hw
    unfold mot
    split
    · exact r _ (by omega) (by omega) (by omega) (by omega)
    · exact r _ (by omega) (by omega) (by omega) (by omega)
  have fO : ∀ w, one s w → fat (addQ s l m b h) w = fat s w := fun w hw => by
    have := ow w hw
    unfold fat
    by_cases e : 8 ≤ w
    · rw [if_pos (Or.inl e), if_pos (Or.inl e)]
    · rw [r (16 + 4 * w) (by omega) (by omega) (by omega) (by omega)]
  have tN : tld (addQ s l m b h) (s 1) = s 13 := by
    unfold tld
    rw [if_pos (by omega)]
    exact et
  have mN : mot (addQ s l m b h) (s 1) = m := by
    unfold mot
    rw [if_pos (by omega)]
    exact em
  have fN : fat (addQ s l m b h) (s 1) = if b = -1 then -1 else 8 + b := by
    unfold fat
    rw [eb]
    by_cases e : b = -1
    · rw [if_pos (Or.inr e), if_pos e]
    · rw [if_neg (by omega), if_neg e]
  refine ⟨by rw [e1, e2]; omega, by rw [e1, e2, e13]; omega, fun q q0 q1 => ?_, fun w hw => ?_, fun v w hv hw e => ?_, fun i i0 i1 => ?_⟩
  · rw [e1] at q1
    by_cases z : q = s 1
    · subst z
      rw [el, eb]
      omega
    · rw [r (14 + 4 * q) (by omega) (by omega) (by omega) (by omega), r (16 + 4 * q) (by omega) (by omega) (by omega) (by omega)]
      exact a4 q q0 (by omega)
  · rcases (o w).mp hw with hw | hw
    · have q := a5 w hw
      rw [tO w hw, mO w hw, fO w hw, e13, e1, e2]
      refine ⟨by omega, ?_, ?_⟩
      · rcases q.2.1 with z | ⟨z1, z2⟩
        · exact Or.inl z
        · exact Or.inr ⟨by omega, by rw [tO _ (Or.inl z1)]; exact z2⟩
      · rcases q.2.2 with z | ⟨z1, z2⟩
        · exact Or.inl z
        · exact Or.inr ⟨z1, by rw [tO _ (Or.inr z1)]; exact z2⟩
    · subst hw
      rw [tN, mN, fN, e13, e1, e2]
      refine ⟨by omega, ?_, ?_⟩
      · rcases hm with z | z
        · exact Or.inl z
        · exact Or.inr ⟨by omega, by rw [tO _ (Or.inl z)]; have := (a5 m (Or.inl z)).1; omega⟩
      · rcases hb with z | z
        · exact Or.inl (if_pos z)
        · have hw : one s (8 + b) := Or.inr (by omega)
          rw [if_neg (by omega)]
          exact Or.inr ⟨by omega, by rw [tO _ hw]; have := (a5 _ hw).1; omega⟩
  · rcases (o v).mp hv with hv | hv
    · rcases (o w).mp hw with hw | hw
      · rw [tO v hv, tO w hw] at e
        exact a6 v w hv hw e
      · subst hw
        rw [tO v hv, tN] at e
        have := (a5 v hv).1
        omega
    · rcases (o w).mp hw with hw | hw
      · subst hv
        rw [tO w hw, tN] at e
        have := (a5 w hw).1
        omega
      · omega
  · rw [e13] at i1
    by_cases q : i = s 13
    · exact ⟨s 1, (o _).mpr (Or.inr rfl), by rw [tN, q]⟩
    · obtain ⟨w, hw, e⟩ := a7 i i0 (by omega)
      exact ⟨w, (o w).mpr (Or.inl hw), by rw [tO w hw]; exact e⟩
