set_option maxRecDepth 100000
/-! BeeYardModel reads: a step of a season -/
theorem SN.mf {a b : Int → Int → Int} {s N : Int → Int} (h : SN a s N) (f : MF a b) : SN b s N := by
  have P0 := h.2.2.2.1
  have PQ0 := h.2.2.2.2.2.2.1.1
  exact ⟨fun i i0 i1 => (f.2.2.1 i (by omega)).trans (h.1 i i0 i1), fun j j0 j1 => by rw [f.2.2.2.1 j (by omega)]; exact h.2.1 j j0 j1, fun j j0 j1 => by rw [f.2.2.2.1 (12 + j) (by omega)]; exact h.2.2.1 j j0 j1, h.2.2.2⟩
/-- the season that is being built -/
def SS (cm : Int → Int → Int) (R : Int → Int) (m dep : Int) (op : Int → Int) (cnt : Int) : Prop := (∀ i, 860 ≤ i → i < 1225 → cm 1 (4920 + i) = R i) ∧ (cm 1 4930 = m ∧ cm 0 21 = dep ∧ cm 0 22 = cnt) ∧ (∀ j, 0 ≤ j → j < dep → cm 8 j = op j ∧ 0 ≤ op j ∧ op j < m) ∧ 0 ≤ m ∧ (0 ≤ dep ∧ dep ≤ 3) ∧ (0 ≤ cnt ∧ cnt ≤ 30) ∧ m + dep ≤ 2 * cnt
theorem L_m_stz {cm : Int → Int → Int} {k m r o : Int} {Q : aPost} {d kc ks : Nat} (hd : 1 ≤ d) (hr : 5780 ≤ r ∧ r + 6 ≤ 6145) (K : ∀ (cm1 : Int → Int → Int) (x5 : Option aV), (∀ i, r < i → i < r + 6 → cm1 1 i = 0) → (∀ i, i ≤ r ∨ r + 6 ≤ i → cm1 1 i = cm 1 i) → (∀ b, b ≠ 1 → cm1 b = cm b) → AW (mq Q) md_X7_step d kc ks 170 [some (vR 0), some (vI k), some (vI m), some (vI r), some (vI o), x5] [] (gM cm1)) : ∀ (q : Nat) (j : Int) (c1 : Int → Int → Int), j + q = 6 → 1 ≤ j → (∀ i, r < i → i < r + j → c1 1 i = 0) → (∀ i, i ≤ r ∨ r + 6 ≤ i → c1 1 i = cm 1 i) → (∀ b, b ≠ 1 → c1 b = cm b) → AW (mq Q) md_X7_step d kc ks 147 [some (vR 0), some (vI k), some (vI m), some (vI r), some (vI o), some (vI j)] [] (gM c1) := by
  intro q
  induction q with
  | zero =>
    intro j c1 h1 h2 h3 h4 h5
    refine aw_iload dX7_step_147 rfl ?_
    refine aw_bipush dX7_step_149 (by decide) ?_
    refine aw_icmpge (tgt := 170) dX7_step_151 (by decide) (fun h151 => ?_) (fun h151 => ?_)
    · exact K _ _ (fun i i0 i1 => h3 i i0 (by omega)) h4 h5
    · exfalso; omega
  | succ q ih =>
    intro j c1 h1 h2 h3 h4 h5
    refine aw_iload dX7_step_147 rfl ?_
    refine aw_bipush dX7_step_149 (by decide) ?_
    refine aw_icmpge (tgt := 170) dX7_step_151 (by decide) (fun h151 => ?_) (fun h151 => ?_)
    · exfalso; omega
    · refine gm_7 rfl dX7_step_154 dX7_step_155 rfl ?_
      refine aw_iload_n dX7_step_158 rfl ?_
      refine aw_iload dX7_step_159 rfl ?_
      refine aw_iaddr dX7_step_161 (by omega) ?_
      refine aw_iconst dX7_step_162 (by decide) ?_
      refine aw_iastore dX7_step_163 m_a1 (by omega) (by omega) ?_
      refine aw_iinc5r dX7_step_164 (by decide) (by decide) rfl (by omega) ?_
      refine aw_goto (tgt := 147) dX7_step_167 (by decide) ?_
      refine ih (j + 1) _ (by omega) (by omega) (fun i i0 i1 => ?_) (fun i hi => by rw [aup_n (by omega)]; exact h4 i hi) (fun b hb => by rw [aup_rn hb]; exact h5 b hb)
      by_cases z : i = r + j
      · subst z; exact aup_s
      · rw [aup_n (by omega)]; exact h3 i i0 (by omega)
