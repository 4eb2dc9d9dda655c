set_option maxRecDepth 100000
/-! the fields of a hive are written: a rule on slots -/
theorem YR.cells {own : Int → Int} {y sz : Int} {im : Int → aIm} {ct ct2 : Int → Int → Int} {ya : Int} {s s' c2 : Int → Int} {dd k a : Int} {N : Int → Int} (H : YR own y sz im ct ya s dd N) (k0 : 0 ≤ k) (k1 : k < s 0) (ea : ct ((im ya).2.2 1) k = a) (h12 : 1 ≤ s (64 + 198 * k) ∧ s (64 + 198 * k) ≤ 12) (hC2 : HvC sz im ct2 a (s (64 + 198 * k)) c2) (hs : ∀ x j, ¬ hvf im ct a (s (64 + 198 * k)) x → ct2 x j = ct x j) (hg : ∀ j, ct2 ((im a).2.2 1) j = ct ((im a).2.2 1) j)
    (hr : ∀ i, (i < 64 + 198 * k + 6 ∨ 64 + 198 * k + 6 + 16 * s (64 + 198 * k) ≤ i) → s' i = s i) (hc : eqF (s (64 + 198 * k)) c2 (sh (64 + 198 * k) s')) : YR own y sz im ct2 ya s' dd N := by
  have hYH := H.2.2.2.2.2.2.2 k k0 k1
  have k3 := hYH.2.2.1
  have hNs := hvf_self hYH.1 hYH.2.1
  rw [ea] at hYH k3 hNs
  refine H.hive k0 k1 (fun x j hx => hs x j (hYH.own hx).2) (fun i hi => hr i (by omega)) ?_
  rw [ea]
  refine hYH.set hC2 hg (hr _ (by omega)) (fun i i0 i1 => hc i i0 i1) ?_ ?_ ?_ ?_ ?_
  · rw [hs _ _ hNs, k3.1, hr _ (by omega)]
  · rw [hs _ _ hNs, k3.2.1, hr _ (by omega)]
  · rw [hs _ _ hNs, k3.2.2.1, hr _ (by omega)]
  · rw [hs _ _ hNs, k3.2.2.2.1, hr _ (by omega)]
  · rw [hs _ _ hNs, k3.2.2.2.2, hr _ (by omega)]
