set_option maxRecDepth 100000
/-! operations, 30: copyIn, the loops -/
def inS (s : Int → Int) (p : Int) (w : Int → Int) (k : Int) : Int → Int := fun i => if p ≤ i ∧ i < p + k then w (i - p) else s i
theorem inS_0 {s w : Int → Int} {p : Int} : inS s p w 0 = s := funext fun i => by unfold inS; exact if_neg (by omega)
theorem inS_put {s w : Int → Int} {p k : Int} (h : 0 ≤ k) : upA (inS s p w k) (p + k) (w k) = inS s p w (k + 1) := funext fun i => by
  by_cases z : i = p + k
  · subst z
    rw [upA_s]
    unfold inS
    rw [if_pos (by omega)]
    congr 1; omega
  · rw [upA_n z]
    unfold inS
    by_cases z2 : p ≤ i ∧ i < p + k
    · rw [if_pos z2, if_pos (by omega)]
    · rw [if_neg z2, if_neg (by omega)]
theorem inS_n {s w : Int → Int} {p k i : Int} (h : i < p ∨ p + k ≤ i) : inS s p w k i = s i := if_neg (by omega)
theorem YR.cell1 {own : Int → Int} {y sz : Int} {im : Int → aIm} {ct : Int → Int → Int} {ya : Int} {s : Int → Int} {dd k f i v : Int} {N : Int → Int} (H : YR own y sz im ct ya s dd N) (k0 : 0 ≤ k) (k1 : k < s 0) (h12 : 1 ≤ s (64 + 198 * k) ∧ s (64 + 198 * k) ≤ 12) (f0 : 0 ≤ f) (f1 : f < s (64 + 198 * k)) (i0 : 0 ≤ i) (i1 : i < 16) : YR own y sz im (aup ct (ct ((im (ct ((im ya).2.2 1) k)).2.2 1) f) i v) ya (upA s (64 + 198 * k + 6 + 16 * f + i) v) dd N := by
  have h := H.2.2.2.2.2.2.2 k k0 k1
  have q := h.2.1.put h.1 f0 f1 i0 i1 (v := v)
  refine H.cells k0 k1 rfl h12 q.1 (fun x j hx => aup_rn_a (fun z => hx ⟨f, f0, f1, z⟩)) q.2 (fun j hj => upA_n (by omega)) (fun j j0 j1 => ?_)
  unfold sh
  by_cases z : j = 16 * f + i
  · subst z; rw [upA_s, show 64 + 198 * k + 6 + (16 * f + i) = 64 + 198 * k + 6 + 16 * f + i by omega, upA_s]
  · rw [upA_n z, upA_n (by omega)]
theorem PI.inS {s w : Int → Int} {k f v : Int} (h : PI s) (k0 : 0 ≤ k) (k1 : k < s 0) (f0 : 0 ≤ f) (f1 : f < s (64 + 198 * k)) (hw : ∀ j, 0 ≤ j → j < 16 → 0 ≤ w j ∧ w j ≤ 121) : PI (upA (inS s (64 + 198 * k + 6 + 16 * f) w 16) 4 v) := by
  have h0 := h.1
  have hk := (h.2.2.1 k k0 k1).1
  refine h.flds (fun i i0 i1 i2 => by rw [upA_n (by omega), inS_n (by omega)]) (fun j i j0 j1 i0 i1 => by rw [upA_n (by omega), inS_n (by rcases (by omega : j < k ∨ j = k ∨ k < j) with z | z | z <;> omega)]) (fun j j0 j1 i i0 i1 => ?_)
  have hj := h.2.2.1 j j0 j1
  unfold sh
  rw [upA_n (by omega)]
  by_cases z : 64 + 198 * k + 6 + 16 * f ≤ 64 + 198 * j + 6 + i ∧ 64 + 198 * j + 6 + i < 64 + 198 * k + 6 + 16 * f + 16
  · have : _root_.Jvm.Pilot.CBeeYardLaw_law_r6053_43b505.inS s (64 + 198 * k + 6 + 16 * f) w 16 (64 + 198 * j + 6 + i) = w (64 + 198 * j + 6 + i - (64 + 198 * k + 6 + 16 * f)) := if_pos z
    rw [this]
    exact hw _ (by omega) (by omega)
  · rw [inS_n (by omega)]
    exact hj.2.1 i i0 i1
theorem L_x_ci1 {own : Int → Int} {sz : Int} {im : Int → aIm} {ct : Int → Int → Int} {a b c r nn : Int} {t : Nat} {w : Int → Int} {Q : aPost} {d kc ks : Nat} (hd : 162 ≤ d) (hR : RT own sz im ct) (ht : t < 4) (ya : aar sz im r t nn) (hnn : nn ≤ 60) (h16 : 16 ≤ nn) (hw : ∀ j, 0 ≤ j → j < 16 → ct r j = w j) (K : (∀ j, 0 ≤ j → j < 16 → 0 ≤ w j ∧ w j ≤ 121) → AW (mq Q) md_X0_copyIn d kc ks 101 [some (vR 0), some (vI a), some (vI b), some (vI c), some (vR r), some (vI 16), none] [] (sz, im, ct)) (KB : ¬ (∀ j, 0 ≤ j → j < 16 → 0 ≤ w j ∧ w j ≤ 121) → ∀ k : Int, AW (mq Q) md_X0_copyIn d kc ks 179 [some (vR 0), some (vI a), some (vI b), some (vI c), some (vR r), some (vI k), none] [vR 8] (sz, im, aup ct 8 6 5)) : ∀ (r9 : Nat) (k : Int), k + r9 = 16 → 0 ≤ k → (∀ j, 0 ≤ j → j < k → 0 ≤ w j ∧ w j ≤ 121) → AW (mq Q) md_X0_copyIn d (3 * r9 + kc) (222 * r9 + ks) 69 [some (vR 0), some (vI a), some (vI b), some (vI c), some (vR r), some (vI k), none] [] (sz, im, ct) := by
  intro r9
  induction r9 with
  | zero =>
    intro k h1 h2 h3
    have ek : k = 16 := by omega
    subst ek
    refine AW.widen (kc' := kc) (ks' := ks) (by omega) (by omega) ?_
    refine aw_iload dX0_copyIn_69 rfl ?_
    refine aw_bipush dX0_copyIn_71 (by decide) ?_
    refine aw_icmpge (tgt := 101) dX0_copyIn_73 (by decide) (fun h73 => ?_) (fun h73 => ?_)
    · exact K h3
    · exfalso; omega
  | succ r9 ih =>
    intro k h1 h2 h3
    have hwk := hw k h2 (by omega)
    refine aw_iload dX0_copyIn_69 rfl ?_
    refine aw_bipush dX0_copyIn_71 (by decide) ?_
    refine aw_icmpge (tgt := 101) dX0_copyIn_73 (by decide) (fun h73 => ?_) (fun h73 => ?_)
    · exfalso; omega
    · refine aw_aload_n dX0_copyIn_76 rfl ?_
      refine aw_aload dX0_copyIn_77 rfl ?_
      refine aw_iload dX0_copyIn_79 rfl ?_
      refine c_X0_125a (kc1 := 3) (ks1 := 222) (kc2 := 3 * r9 + kc) (ks2 := 222 * r9 + ks) (by omega) (by omega) rfl dX0_copyIn_81  (Nat.le_of_ble_eq_true rfl) (by omega) (C_x_number ht ya (by omega) (fun j0 j1 => ?_) (fun hj => ?_))
      · rw [hwk]
        refine aK_i ?_
        refine aw_lconst0 dX0_copyIn_84 ?_
        refine aw_ldc2 (x := 121) dX0_copyIn_85 q1070 (by decide) ?_
        refine c_X0_164 rfl dX0_copyIn_88  (Nat.le_of_ble_eq_true rfl) (by omega) (C_x_isIn (fun hi => ?_) (fun hi => ?_))
        · refine aK_i ?_
          refine aw_iconst dX0_copyIn_91 (by decide) ?_
          refine c_X0_98 rfl dX0_copyIn_92 hR.o0 (Nat.le_of_ble_eq_true rfl) (by omega) (C_x_want hR (fun hb => ?_) (fun hb => ?_))
          · refine aK_v ?_
            refine aw_iinc5r dX0_copyIn_95 (by decide) (by decide) rfl (by omega) ?_
            refine aw_goto (tgt := 69) dX0_copyIn_98 (by decide) ?_
            exact ih (k + 1) (by omega) (by omega) (fun j j0 j1 => by
              by_cases z : j = k
              · subst z; exact hi
              · exact h3 j j0 (by omega))
          · exact absurd hb (by decide)
        · refine aK_i ?_
          refine aw_iconst dX0_copyIn_91 (by decide) ?_
          refine c_X0_98 rfl dX0_copyIn_92 hR.o0 (Nat.le_of_ble_eq_true rfl) (by omega) (C_x_want hR (fun hb => ?_) (fun hb => ?_))
          · exact absurd rfl hb
          · refine aK_x (ax_catch (E := 1) (pre := []) (z := { startPc := 39, endPc := 178, handlerPc := 179, catchType := 41 }) (suf := []) rfl (fun y hy => by cases hy) rfl (by decide) q235 q237 ?_)
            exact AW.widen (by omega) (by omega) (KB (fun z => hi (z k (by omega) (by omega))) k)
      · exfalso; omega
