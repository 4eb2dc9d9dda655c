set_option maxRecDepth 100000
/-! trays: their methods -/
def ctF (t : Nat) (v : Int) : Int := match t with
  | 0 => w8 (w8 (w32 v))
  | 1 => w16 (w16 (w32 v))
  | 2 => w32 v
  | _ => v
def cuF (t : Int) (v : Int) : Int := if t = 0 then w8 (w32 v) else if t = 1 then w16 (w32 v) else if t = 2 then w32 v else v
theorem w8_w8 {x : Int} : w8 (w8 x) = w8 x := by
  have h1 := Int.le_bmod (x := x) (m := 256) (by decide)
  have h2 := Int.bmod_lt (x := x) (m := 256) (by decide)
  exact w8_id (by unfold w8; omega) (by unfold w8; omega)
theorem w16_w16 {x : Int} : w16 (w16 x) = w16 x := by
  have h1 := Int.le_bmod (x := x) (m := 65536) (by decide)
  have h2 := Int.bmod_lt (x := x) (m := 65536) (by decide)
  exact w16_id (by unfold w16; omega) (by unfold w16; omega)
theorem ctF_cu {t v : Int} (h : 0 ≤ t ∧ t ≤ 3) : ctF t.toNat v = cuF t v := by
  rcases (by omega : t = 0 ∨ t = 1 ∨ t = 2 ∨ t = 3) with z | z | z | z <;> subst z
  · exact w8_w8
  · exact w16_w16
  · rfl
  · rfl
theorem C_x_sizeOf0 {sz : Int} {im : Int → aIm} {ct : Int → Int → Int} {a N : Int} {Q : aPost} (ha : aar sz im a 0 N) (hQ : Q (.inl (some (vI N))) (sz, im, ct)) : AMet md_X0_sizeOf 1 0 0 [vR a] (sz, im, ct) Q := by
  refine AMet.go (L := [some (vR a), none]) mok_X0_sizeOf (Nat.le_of_ble_eq_true rfl) rfl ?_
  refine aw_aload_n dX0_sizeOf_0 rfl ?_
  refine aw_instY (t := 0) dX0_sizeOf_1 ha (by decide) q519 ?_
  refine aw_ifeq (tgt := 15) dX0_sizeOf_4 (by decide) (fun h => absurd h (by decide)) (fun _ => ?_)
  refine aw_aload_n dX0_sizeOf_7 rfl ?_
  refine aw_castA (t := 0) dX0_sizeOf_8 ha (by decide) q519 ?_
  refine aw_astore1 dX0_sizeOf_11 (by decide) rfl ?_
  refine aw_aload_n dX0_sizeOf_12 rfl ?_
  refine aw_alen dX0_sizeOf_13 ha ?_
  refine aw_ireturn dX0_sizeOf_14 rfl ?_
  exact hQ
theorem C_x_sortOf0 {sz : Int} {im : Int → aIm} {ct : Int → Int → Int} {a N : Int} {Q : aPost} (ha : aar sz im a 0 N) (hQ : Q (.inl (some (vI 0))) (sz, im, ct)) : AMet md_X0_sortOf 1 0 0 [vR a] (sz, im, ct) Q := by
  refine AMet.go (L := [some (vR a)]) mok_X0_sortOf (Nat.le_of_ble_eq_true rfl) rfl ?_
  refine aw_aload_n dX0_sortOf_0 rfl ?_
  refine aw_instY (t := 0) dX0_sortOf_1 ha (by decide) q519 ?_
  refine aw_ifeq (tgt := 11) dX0_sortOf_4 (by decide) (fun h => absurd h (by decide)) (fun _ => ?_)
  refine aw_iconst dX0_sortOf_7 (by decide) ?_
  refine aw_goto (tgt := 34) dX0_sortOf_8 (by decide) ?_
  refine aw_ireturn dX0_sortOf_34 rfl ?_
  exact hQ
theorem C_x_sizeOf1 {sz : Int} {im : Int → aIm} {ct : Int → Int → Int} {a N : Int} {Q : aPost} (ha : aar sz im a 1 N) (hQ : Q (.inl (some (vI N))) (sz, im, ct)) : AMet md_X0_sizeOf 1 0 0 [vR a] (sz, im, ct) Q := by
  refine AMet.go (L := [some (vR a), none]) mok_X0_sizeOf (Nat.le_of_ble_eq_true rfl) rfl ?_
  refine aw_aload_n dX0_sizeOf_0 rfl ?_
  refine aw_instN (t := 1) dX0_sizeOf_1 ha (by decide) q519 (by decide +kernel) ?_
  refine aw_ifeq (tgt := 15) dX0_sizeOf_4 (by decide) (fun _ => ?_) (fun h => absurd h (by decide))
  refine aw_aload_n dX0_sizeOf_15 rfl ?_
  refine aw_instY (t := 1) dX0_sizeOf_16 ha (by decide) q520 ?_
  refine aw_ifeq (tgt := 30) dX0_sizeOf_19 (by decide) (fun h => absurd h (by decide)) (fun _ => ?_)
  refine aw_aload_n dX0_sizeOf_22 rfl ?_
  refine aw_castA (t := 1) dX0_sizeOf_23 ha (by decide) q520 ?_
  refine aw_astore1 dX0_sizeOf_26 (by decide) rfl ?_
  refine aw_aload_n dX0_sizeOf_27 rfl ?_
  refine aw_alen dX0_sizeOf_28 ha ?_
  refine aw_ireturn dX0_sizeOf_29 rfl ?_
  exact hQ
theorem C_x_sortOf1 {sz : Int} {im : Int → aIm} {ct : Int → Int → Int} {a N : Int} {Q : aPost} (ha : aar sz im a 1 N) (hQ : Q (.inl (some (vI 1))) (sz, im, ct)) : AMet md_X0_sortOf 1 0 0 [vR a] (sz, im, ct) Q := by
  refine AMet.go (L := [some (vR a)]) mok_X0_sortOf (Nat.le_of_ble_eq_true rfl) rfl ?_
  refine aw_aload_n dX0_sortOf_0 rfl ?_
  refine aw_instN (t := 1) dX0_sortOf_1 ha (by decide) q519 (by decide +kernel) ?_
  refine aw_ifeq (tgt := 11) dX0_sortOf_4 (by decide) (fun _ => ?_) (fun h => absurd h (by decide))
  refine aw_aload_n dX0_sortOf_11 rfl ?_
  refine aw_instY (t := 1) dX0_sortOf_12 ha (by decide) q520 ?_
  refine aw_ifeq (tgt := 22) dX0_sortOf_15 (by decide) (fun h => absurd h (by decide)) (fun _ => ?_)
  refine aw_iconst dX0_sortOf_18 (by decide) ?_
  refine aw_goto (tgt := 34) dX0_sortOf_19 (by decide) ?_
  refine aw_ireturn dX0_sortOf_34 rfl ?_
  exact hQ
theorem C_x_sizeOf2 {sz : Int} {im : Int → aIm} {ct : Int → Int → Int} {a N : Int} {Q : aPost} (ha : aar sz im a 2 N) (hQ : Q (.inl (some (vI N))) (sz, im, ct)) : AMet md_X0_sizeOf 1 0 0 [vR a] (sz, im, ct) Q := by
  refine AMet.go (L := [some (vR a), none]) mok_X0_sizeOf (Nat.le_of_ble_eq_true rfl) rfl ?_
  refine aw_aload_n dX0_sizeOf_0 rfl ?_
  refine aw_instN (t := 2) dX0_sizeOf_1 ha (by decide) q519 (by decide +kernel) ?_
  refine aw_ifeq (tgt := 15) dX0_sizeOf_4 (by decide) (fun _ => ?_) (fun h => absurd h (by decide))
  refine aw_aload_n dX0_sizeOf_15 rfl ?_
  refine aw_instN (t := 2) dX0_sizeOf_16 ha (by decide) q520 (by decide +kernel) ?_
  refine aw_ifeq (tgt := 30) dX0_sizeOf_19 (by decide) (fun _ => ?_) (fun h => absurd h (by decide))
  refine aw_aload_n dX0_sizeOf_30 rfl ?_
  refine aw_instY (t := 2) dX0_sizeOf_31 ha (by decide) q521 ?_
  refine aw_ifeq (tgt := 47) dX0_sizeOf_34 (by decide) (fun h => absurd h (by decide)) (fun _ => ?_)
  refine aw_aload_n dX0_sizeOf_37 rfl ?_
  refine aw_castA (t := 2) dX0_sizeOf_38 ha (by decide) q521 ?_
  refine aw_astore1 dX0_sizeOf_41 (by decide) rfl ?_
  refine aw_aload_n dX0_sizeOf_42 rfl ?_
  refine aw_alen dX0_sizeOf_43 ha ?_
  refine aw_goto (tgt := 52) dX0_sizeOf_44 (by decide) ?_
  refine aw_ireturn dX0_sizeOf_52 rfl ?_
  exact hQ
theorem C_x_sortOf2 {sz : Int} {im : Int → aIm} {ct : Int → Int → Int} {a N : Int} {Q : aPost} (ha : aar sz im a 2 N) (hQ : Q (.inl (some (vI 2))) (sz, im, ct)) : AMet md_X0_sortOf 1 0 0 [vR a] (sz, im, ct) Q := by
  refine AMet.go (L := [some (vR a)]) mok_X0_sortOf (Nat.le_of_ble_eq_true rfl) rfl ?_
  refine aw_aload_n dX0_sortOf_0 rfl ?_
  refine aw_instN (t := 2) dX0_sortOf_1 ha (by decide) q519 (by decide +kernel) ?_
  refine aw_ifeq (tgt := 11) dX0_sortOf_4 (by decide) (fun _ => ?_) (fun h => absurd h (by decide))
  refine aw_aload_n dX0_sortOf_11 rfl ?_
  refine aw_instN (t := 2) dX0_sortOf_12 ha (by decide) q520 (by decide +kernel) ?_
  refine aw_ifeq (tgt := 22) dX0_sortOf_15 (by decide) (fun _ => ?_) (fun h => absurd h (by decide))
  refine aw_aload_n dX0_sortOf_22 rfl ?_
  refine aw_instY (t := 2) dX0_sortOf_23 ha (by decide) q521 ?_
  refine aw_ifeq (tgt := 33) dX0_sortOf_26 (by decide) (fun h => absurd h (by decide)) (fun _ => ?_)
  refine aw_iconst dX0_sortOf_29 (by decide) ?_
  refine aw_goto (tgt := 34) dX0_sortOf_30 (by decide) ?_
  refine aw_ireturn dX0_sortOf_34 rfl ?_
  exact hQ
theorem C_x_sizeOf3 {sz : Int} {im : Int → aIm} {ct : Int → Int → Int} {a N : Int} {Q : aPost} (ha : aar sz im a 3 N) (hQ : Q (.inl (some (vI N))) (sz, im, ct)) : AMet md_X0_sizeOf 1 0 0 [vR a] (sz, im, ct) Q := by
  refine AMet.go (L := [some (vR a), none]) mok_X0_sizeOf (Nat.le_of_ble_eq_true rfl) rfl ?_
  refine aw_aload_n dX0_sizeOf_0 rfl ?_
  refine aw_instN (t := 3) dX0_sizeOf_1 ha (by decide) q519 (by decide +kernel) ?_
  refine aw_ifeq (tgt := 15) dX0_sizeOf_4 (by decide) (fun _ => ?_) (fun h => absurd h (by decide))
  refine aw_aload_n dX0_sizeOf_15 rfl ?_
  refine aw_instN (t := 3) dX0_sizeOf_16 ha (by decide) q520 (by decide +kernel) ?_
  refine aw_ifeq (tgt := 30) dX0_sizeOf_19 (by decide) (fun _ => ?_) (fun h => absurd h (by decide))
  refine aw_aload_n dX0_sizeOf_30 rfl ?_
  refine aw_instN (t := 3) dX0_sizeOf_31 ha (by decide) q521 (by decide +kernel) ?_
  refine aw_ifeq (tgt := 47) dX0_sizeOf_34 (by decide) (fun _ => ?_) (fun h => absurd h (by decide))
  refine aw_aload_n dX0_sizeOf_47 rfl ?_
  refine aw_castA (t := 3) dX0_sizeOf_48 ha (by decide) q522 ?_
  refine aw_alen dX0_sizeOf_51 ha ?_
  refine aw_ireturn dX0_sizeOf_52 rfl ?_
  exact hQ
theorem C_x_sortOf3 {sz : Int} {im : Int → aIm} {ct : Int → Int → Int} {a N : Int} {Q : aPost} (ha : aar sz im a 3 N) (hQ : Q (.inl (some (vI 3))) (sz, im, ct)) : AMet md_X0_sortOf 1 0 0 [vR a] (sz, im, ct) Q := by
  refine AMet.go (L := [some (vR a)]) mok_X0_sortOf (Nat.le_of_ble_eq_true rfl) rfl ?_
  refine aw_aload_n dX0_sortOf_0 rfl ?_
  refine aw_instN (t := 3) dX0_sortOf_1 ha (by decide) q519 (by decide +kernel) ?_
  refine aw_ifeq (tgt := 11) dX0_sortOf_4 (by decide) (fun _ => ?_) (fun h => absurd h (by decide))
  refine aw_aload_n dX0_sortOf_11 rfl ?_
  refine aw_instN (t := 3) dX0_sortOf_12 ha (by decide) q520 (by decide +kernel) ?_
  refine aw_ifeq (tgt := 22) dX0_sortOf_15 (by decide) (fun _ => ?_) (fun h => absurd h (by decide))
  refine aw_aload_n dX0_sortOf_22 rfl ?_
  refine aw_instN (t := 3) dX0_sortOf_23 ha (by decide) q521 (by decide +kernel) ?_
  refine aw_ifeq (tgt := 33) dX0_sortOf_26 (by decide) (fun _ => ?_) (fun h => absurd h (by decide))
  refine aw_iconst dX0_sortOf_33 (by decide) ?_
  refine aw_ireturn dX0_sortOf_34 rfl ?_
  exact hQ
theorem C_x_number0 {sz : Int} {im : Int → aIm} {ct : Int → Int → Int} {a j N : Int} {Q : aPost} (ha : aar sz im a 0 N) (hN : N < 1000) (hIn : 0 ≤ j → j < N → Q (.inl (some (vL (ct a j)))) (sz, im, ct)) (hOut : ¬ (0 ≤ j ∧ j < N) → Q (.inr (3, -1000)) (sz, im, ct)) : AMet md_X0_number 161 3 222 [vR a, vI j] (sz, im, ct) Q := by
  refine AMet.go (L := [some (vR a), some (vI j), none]) mok_X0_number (Nat.le_of_ble_eq_true rfl) rfl ?_
  by_cases hj : 0 ≤ j ∧ j < N
  · refine aw_aload_n dX0_number_0 rfl ?_
    refine aw_instY (t := 0) dX0_number_1 ha (by decide) q519 ?_
    refine aw_ifeq (tgt := 17) dX0_number_4 (by decide) (fun h => absurd h (by decide)) (fun _ => ?_)
    refine aw_aload_n dX0_number_7 rfl ?_
    refine aw_castA (t := 0) dX0_number_8 ha (by decide) q519 ?_
    refine aw_astore2 dX0_number_11 (by decide) rfl ?_
    refine aw_aload_n dX0_number_12 rfl ?_
    refine aw_iload_n dX0_number_13 rfl ?_
    refine aw_baload dX0_number_14 ha hj.1 hj.2 ?_
    refine aw_i2l dX0_number_15 ?_
    refine aw_lreturn dX0_number_16 rfl ?_
    exact hIn hj.1 hj.2
  · refine AW.widen (kc' := 0 + 3) (ks' := 0 + 222) (by decide) (by decide) ?_
    refine aw_aload_n dX0_number_0 rfl ?_
    refine aw_instY (t := 0) dX0_number_1 ha (by decide) q519 ?_
    refine aw_ifeq (tgt := 17) dX0_number_4 (by decide) (fun h => absurd h (by decide)) (fun _ => ?_)
    refine aw_aload_n dX0_number_7 rfl ?_
    refine aw_castA (t := 0) dX0_number_8 ha (by decide) q519 ?_
    refine aw_astore2 dX0_number_11 (by decide) rfl ?_
    refine aw_aload_n dX0_number_12 rfl ?_
    refine aw_iload_n dX0_number_13 rfl ?_
    exact aw_baloadZ (N := N) dX0_number_14 ha hN hj (by decide) (by decide) (ax_out rfl (hOut hj))
theorem C_x_tput0 {sz : Int} {im : Int → aIm} {ct : Int → Int → Int} {a j v N : Int} {Q : aPost} (ha : aar sz im a 0 N) (hN : N < 1000) (hIn : 0 ≤ j → j < N → Q (.inl none) (sz, im, aup ct a j (ctF 0 v))) (hOut : ¬ (0 ≤ j ∧ j < N) → Q (.inr (3, -1000)) (sz, im, ct)) : AMet md_X0_put 161 3 222 [vR a, vI j, vL v] (sz, im, ct) Q := by
  refine AMet.go (L := [some (vR a), some (vI j), some (vL v), none, none, none, none]) mok_X0_put (Nat.le_of_ble_eq_true rfl) rfl ?_
  by_cases hj : 0 ≤ j ∧ j < N
  · refine aw_aload_n dX0_put_0 rfl ?_
    refine aw_instY (t := 0) dX0_put_1 ha (by decide) q519 ?_
    refine aw_ifeq (tgt := 23) dX0_put_4 (by decide) (fun h => absurd h (by decide)) (fun _ => ?_)
    refine aw_aload_n dX0_put_7 rfl ?_
    refine aw_castA (t := 0) dX0_put_8 ha (by decide) q519 ?_
    refine aw_astore4 dX0_put_11 (by decide) rfl ?_
    refine aw_aload dX0_put_13 rfl ?_
    refine aw_iload_n dX0_put_15 rfl ?_
    refine aw_lload_n dX0_put_16 rfl ?_
    refine aw_l2i dX0_put_17 ?_
    refine aw_i2b dX0_put_18 ?_
    refine aw_bastore dX0_put_19 ha hj.1 hj.2 ?_
    refine aw_goto (tgt := 75) dX0_put_20 (by decide) ?_
    refine aw_ret dX0_put_75 rfl ?_
    exact hIn hj.1 hj.2
  · refine AW.widen (kc' := 0 + 3) (ks' := 0 + 222) (by decide) (by decide) ?_
    refine aw_aload_n dX0_put_0 rfl ?_
    refine aw_instY (t := 0) dX0_put_1 ha (by decide) q519 ?_
    refine aw_ifeq (tgt := 23) dX0_put_4 (by decide) (fun h => absurd h (by decide)) (fun _ => ?_)
    refine aw_aload_n dX0_put_7 rfl ?_
    refine aw_castA (t := 0) dX0_put_8 ha (by decide) q519 ?_
    refine aw_astore4 dX0_put_11 (by decide) rfl ?_
    refine aw_aload dX0_put_13 rfl ?_
    refine aw_iload_n dX0_put_15 rfl ?_
    refine aw_lload_n dX0_put_16 rfl ?_
    refine aw_l2i dX0_put_17 ?_
    refine aw_i2b dX0_put_18 ?_
    exact aw_bastoreZ (N := N) dX0_put_19 ha hN hj (by decide) (by decide) (ax_out rfl (hOut hj))
theorem C_x_number1 {sz : Int} {im : Int → aIm} {ct : Int → Int → Int} {a j N : Int} {Q : aPost} (ha : aar sz im a 1 N) (hN : N < 1000) (hIn : 0 ≤ j → j < N → Q (.inl (some (vL (ct a j)))) (sz, im, ct)) (hOut : ¬ (0 ≤ j ∧ j < N) → Q (.inr (3, -1000)) (sz, im, ct)) : AMet md_X0_number 161 3 222 [vR a, vI j] (sz, im, ct) Q := by
  refine AMet.go (L := [some (vR a), some (vI j), none]) mok_X0_number (Nat.le_of_ble_eq_true rfl) rfl ?_
  by_cases hj : 0 ≤ j ∧ j < N
  · refine aw_aload_n dX0_number_0 rfl ?_
    refine aw_instN (t := 1) dX0_number_1 ha (by decide) q519 (by decide +kernel) ?_
    refine aw_ifeq (tgt := 17) dX0_number_4 (by decide) (fun _ => ?_) (fun h => absurd h (by decide))
    refine aw_aload_n dX0_number_17 rfl ?_
    refine aw_instY (t := 1) dX0_number_18 ha (by decide) q520 ?_
    refine aw_ifeq (tgt := 34) dX0_number_21 (by decide) (fun h => absurd h (by decide)) (fun _ => ?_)
    refine aw_aload_n dX0_number_24 rfl ?_
    refine aw_castA (t := 1) dX0_number_25 ha (by decide) q520 ?_
    refine aw_astore2 dX0_number_28 (by decide) rfl ?_
    refine aw_aload_n dX0_number_29 rfl ?_
    refine aw_iload_n dX0_number_30 rfl ?_
    refine aw_saload dX0_number_31 ha hj.1 hj.2 ?_
    refine aw_i2l dX0_number_32 ?_
    refine aw_lreturn dX0_number_33 rfl ?_
    exact hIn hj.1 hj.2
  · refine AW.widen (kc' := 0 + 3) (ks' := 0 + 222) (by decide) (by decide) ?_
    refine aw_aload_n dX0_number_0 rfl ?_
    refine aw_instN (t := 1) dX0_number_1 ha (by decide) q519 (by decide +kernel) ?_
    refine aw_ifeq (tgt := 17) dX0_number_4 (by decide) (fun _ => ?_) (fun h => absurd h (by decide))
    refine aw_aload_n dX0_number_17 rfl ?_
    refine aw_instY (t := 1) dX0_number_18 ha (by decide) q520 ?_
    refine aw_ifeq (tgt := 34) dX0_number_21 (by decide) (fun h => absurd h (by decide)) (fun _ => ?_)
    refine aw_aload_n dX0_number_24 rfl ?_
    refine aw_castA (t := 1) dX0_number_25 ha (by decide) q520 ?_
    refine aw_astore2 dX0_number_28 (by decide) rfl ?_
    refine aw_aload_n dX0_number_29 rfl ?_
    refine aw_iload_n dX0_number_30 rfl ?_
    exact aw_saloadZ (N := N) dX0_number_31 ha hN hj (by decide) (by decide) (ax_out rfl (hOut hj))
theorem C_x_tput1 {sz : Int} {im : Int → aIm} {ct : Int → Int → Int} {a j v N : Int} {Q : aPost} (ha : aar sz im a 1 N) (hN : N < 1000) (hIn : 0 ≤ j → j < N → Q (.inl none) (sz, im, aup ct a j (ctF 1 v))) (hOut : ¬ (0 ≤ j ∧ j < N) → Q (.inr (3, -1000)) (sz, im, ct)) : AMet md_X0_put 161 3 222 [vR a, vI j, vL v] (sz, im, ct) Q := by
  refine AMet.go (L := [some (vR a), some (vI j), some (vL v), none, none, none, none]) mok_X0_put (Nat.le_of_ble_eq_true rfl) rfl ?_
  by_cases hj : 0 ≤ j ∧ j < N
  · refine aw_aload_n dX0_put_0 rfl ?_
    refine aw_instN (t := 1) dX0_put_1 ha (by decide) q519 (by decide +kernel) ?_
    refine aw_ifeq (tgt := 23) dX0_put_4 (by decide) (fun _ => ?_) (fun h => absurd h (by decide))
    refine aw_aload_n dX0_put_23 rfl ?_
    refine aw_instY (t := 1) dX0_put_24 ha (by decide) q520 ?_
    refine aw_ifeq (tgt := 46) dX0_put_27 (by decide) (fun h => absurd h (by decide)) (fun _ => ?_)
    refine aw_aload_n dX0_put_30 rfl ?_
    refine aw_castA (t := 1) dX0_put_31 ha (by decide) q520 ?_
    refine aw_astore5 dX0_put_34 (by decide) rfl ?_
    refine aw_aload dX0_put_36 rfl ?_
    refine aw_iload_n dX0_put_38 rfl ?_
    refine aw_lload_n dX0_put_39 rfl ?_
    refine aw_l2i dX0_put_40 ?_
    refine aw_i2s dX0_put_41 ?_
    refine aw_sastore dX0_put_42 ha hj.1 hj.2 ?_
    refine aw_goto (tgt := 75) dX0_put_43 (by decide) ?_
    refine aw_ret dX0_put_75 rfl ?_
    exact hIn hj.1 hj.2
  · refine AW.widen (kc' := 0 + 3) (ks' := 0 + 222) (by decide) (by decide) ?_
    refine aw_aload_n dX0_put_0 rfl ?_
    refine aw_instN (t := 1) dX0_put_1 ha (by decide) q519 (by decide +kernel) ?_
    refine aw_ifeq (tgt := 23) dX0_put_4 (by decide) (fun _ => ?_) (fun h => absurd h (by decide))
    refine aw_aload_n dX0_put_23 rfl ?_
    refine aw_instY (t := 1) dX0_put_24 ha (by decide) q520 ?_
    refine aw_ifeq (tgt := 46) dX0_put_27 (by decide) (fun h => absurd h (by decide)) (fun _ => ?_)
    refine aw_aload_n dX0_put_30 rfl ?_
    refine aw_castA (t := 1) dX0_put_31 ha (by decide) q520 ?_
    refine aw_astore5 dX0_put_34 (by decide) rfl ?_
    refine aw_aload dX0_put_36 rfl ?_
    refine aw_iload_n dX0_put_38 rfl ?_
    refine aw_lload_n dX0_put_39 rfl ?_
    refine aw_l2i dX0_put_40 ?_
    refine aw_i2s dX0_put_41 ?_
    exact aw_sastoreZ (N := N) dX0_put_42 ha hN hj (by decide) (by decide) (ax_out rfl (hOut hj))
theorem C_x_number2 {sz : Int} {im : Int → aIm} {ct : Int → Int → Int} {a j N : Int} {Q : aPost} (ha : aar sz im a 2 N) (hN : N < 1000) (hIn : 0 ≤ j → j < N → Q (.inl (some (vL (ct a j)))) (sz, im, ct)) (hOut : ¬ (0 ≤ j ∧ j < N) → Q (.inr (3, -1000)) (sz, im, ct)) : AMet md_X0_number 161 3 222 [vR a, vI j] (sz, im, ct) Q := by
  refine AMet.go (L := [some (vR a), some (vI j), none]) mok_X0_number (Nat.le_of_ble_eq_true rfl) rfl ?_
  by_cases hj : 0 ≤ j ∧ j < N
  · refine aw_aload_n dX0_number_0 rfl ?_
    refine aw_instN (t := 2) dX0_number_1 ha (by decide) q519 (by decide +kernel) ?_
    refine aw_ifeq (tgt := 17) dX0_number_4 (by decide) (fun _ => ?_) (fun h => absurd h (by decide))
    refine aw_aload_n dX0_number_17 rfl ?_
    refine aw_instN (t := 2) dX0_number_18 ha (by decide) q520 (by decide +kernel) ?_
    refine aw_ifeq (tgt := 34) dX0_number_21 (by decide) (fun _ => ?_) (fun h => absurd h (by decide))
    refine aw_aload_n dX0_number_34 rfl ?_
    refine aw_instY (t := 2) dX0_number_35 ha (by decide) q521 ?_
    refine aw_ifeq (tgt := 53) dX0_number_38 (by decide) (fun h => absurd h (by decide)) (fun _ => ?_)
    refine aw_aload_n dX0_number_41 rfl ?_
    refine aw_castA (t := 2) dX0_number_42 ha (by decide) q521 ?_
    refine aw_astore2 dX0_number_45 (by decide) rfl ?_
    refine aw_aload_n dX0_number_46 rfl ?_
    refine aw_iload_n dX0_number_47 rfl ?_
    refine aw_iaload dX0_number_48 ha hj.1 hj.2 ?_
    refine aw_i2l dX0_number_49 ?_
    refine aw_goto (tgt := 59) dX0_number_50 (by decide) ?_
    refine aw_lreturn dX0_number_59 rfl ?_
    exact hIn hj.1 hj.2
  · refine AW.widen (kc' := 0 + 3) (ks' := 0 + 222) (by decide) (by decide) ?_
    refine aw_aload_n dX0_number_0 rfl ?_
    refine aw_instN (t := 2) dX0_number_1 ha (by decide) q519 (by decide +kernel) ?_
    refine aw_ifeq (tgt := 17) dX0_number_4 (by decide) (fun _ => ?_) (fun h => absurd h (by decide))
    refine aw_aload_n dX0_number_17 rfl ?_
    refine aw_instN (t := 2) dX0_number_18 ha (by decide) q520 (by decide +kernel) ?_
    refine aw_ifeq (tgt := 34) dX0_number_21 (by decide) (fun _ => ?_) (fun h => absurd h (by decide))
    refine aw_aload_n dX0_number_34 rfl ?_
    refine aw_instY (t := 2) dX0_number_35 ha (by decide) q521 ?_
    refine aw_ifeq (tgt := 53) dX0_number_38 (by decide) (fun h => absurd h (by decide)) (fun _ => ?_)
    refine aw_aload_n dX0_number_41 rfl ?_
    refine aw_castA (t := 2) dX0_number_42 ha (by decide) q521 ?_
    refine aw_astore2 dX0_number_45 (by decide) rfl ?_
    refine aw_aload_n dX0_number_46 rfl ?_
    refine aw_iload_n dX0_number_47 rfl ?_
    exact aw_ialoadZ (N := N) dX0_number_48 ha hN hj (by decide) (by decide) (ax_out rfl (hOut hj))
theorem C_x_tput2 {sz : Int} {im : Int → aIm} {ct : Int → Int → Int} {a j v N : Int} {Q : aPost} (ha : aar sz im a 2 N) (hN : N < 1000) (hIn : 0 ≤ j → j < N → Q (.inl none) (sz, im, aup ct a j (ctF 2 v))) (hOut : ¬ (0 ≤ j ∧ j < N) → Q (.inr (3, -1000)) (sz, im, ct)) : AMet md_X0_put 161 3 222 [vR a, vI j, vL v] (sz, im, ct) Q := by
  refine AMet.go (L := [some (vR a), some (vI j), some (vL v), none, none, none, none]) mok_X0_put (Nat.le_of_ble_eq_true rfl) rfl ?_
  by_cases hj : 0 ≤ j ∧ j < N
  · refine aw_aload_n dX0_put_0 rfl ?_
    refine aw_instN (t := 2) dX0_put_1 ha (by decide) q519 (by decide +kernel) ?_
    refine aw_ifeq (tgt := 23) dX0_put_4 (by decide) (fun _ => ?_) (fun h => absurd h (by decide))
    refine aw_aload_n dX0_put_23 rfl ?_
    refine aw_instN (t := 2) dX0_put_24 ha (by decide) q520 (by decide +kernel) ?_
    refine aw_ifeq (tgt := 46) dX0_put_27 (by decide) (fun _ => ?_) (fun h => absurd h (by decide))
    refine aw_aload_n dX0_put_46 rfl ?_
    refine aw_instY (t := 2) dX0_put_47 ha (by decide) q521 ?_
    refine aw_ifeq (tgt := 68) dX0_put_50 (by decide) (fun h => absurd h (by decide)) (fun _ => ?_)
    refine aw_aload_n dX0_put_53 rfl ?_
    refine aw_castA (t := 2) dX0_put_54 ha (by decide) q521 ?_
    refine aw_astore6 dX0_put_57 (by decide) rfl ?_
    refine aw_aload dX0_put_59 rfl ?_
    refine aw_iload_n dX0_put_61 rfl ?_
    refine aw_lload_n dX0_put_62 rfl ?_
    refine aw_l2i dX0_put_63 ?_
    refine aw_iastore dX0_put_64 ha hj.1 hj.2 ?_
    refine aw_goto (tgt := 75) dX0_put_65 (by decide) ?_
    refine aw_ret dX0_put_75 rfl ?_
    exact hIn hj.1 hj.2
  · refine AW.widen (kc' := 0 + 3) (ks' := 0 + 222) (by decide) (by decide) ?_
    refine aw_aload_n dX0_put_0 rfl ?_
    refine aw_instN (t := 2) dX0_put_1 ha (by decide) q519 (by decide +kernel) ?_
    refine aw_ifeq (tgt := 23) dX0_put_4 (by decide) (fun _ => ?_) (fun h => absurd h (by decide))
    refine aw_aload_n dX0_put_23 rfl ?_
    refine aw_instN (t := 2) dX0_put_24 ha (by decide) q520 (by decide +kernel) ?_
    refine aw_ifeq (tgt := 46) dX0_put_27 (by decide) (fun _ => ?_) (fun h => absurd h (by decide))
    refine aw_aload_n dX0_put_46 rfl ?_
    refine aw_instY (t := 2) dX0_put_47 ha (by decide) q521 ?_
    refine aw_ifeq (tgt := 68) dX0_put_50 (by decide) (fun h => absurd h (by decide)) (fun _ => ?_)
    refine aw_aload_n dX0_put_53 rfl ?_
    refine aw_castA (t := 2) dX0_put_54 ha (by decide) q521 ?_
    refine aw_astore6 dX0_put_57 (by decide) rfl ?_
    refine aw_aload dX0_put_59 rfl ?_
    refine aw_iload_n dX0_put_61 rfl ?_
    refine aw_lload_n dX0_put_62 rfl ?_
    refine aw_l2i dX0_put_63 ?_
    exact aw_iastoreZ (N := N) dX0_put_64 ha hN hj (by decide) (by decide) (ax_out rfl (hOut hj))
theorem C_x_number3 {sz : Int} {im : Int → aIm} {ct : Int → Int → Int} {a j N : Int} {Q : aPost} (ha : aar sz im a 3 N) (hN : N < 1000) (hIn : 0 ≤ j → j < N → Q (.inl (some (vL (ct a j)))) (sz, im, ct)) (hOut : ¬ (0 ≤ j ∧ j < N) → Q (.inr (3, -1000)) (sz, im, ct)) : AMet md_X0_number 161 3 222 [vR a, vI j] (sz, im, ct) Q := by
  refine AMet.go (L := [some (vR a), some (vI j), none]) mok_X0_number (Nat.le_of_ble_eq_true rfl) rfl ?_
  by_cases hj : 0 ≤ j ∧ j < N
  · refine aw_aload_n dX0_number_0 rfl ?_
    refine aw_instN (t := 3) dX0_number_1 ha (by decide) q519 (by decide +kernel) ?_
    refine aw_ifeq (tgt := 17) dX0_number_4 (by decide) (fun _ => ?_) (fun h => absurd h (by decide))
    refine aw_aload_n dX0_number_17 rfl ?_
    refine aw_instN (t := 3) dX0_number_18 ha (by decide) q520 (by decide +kernel) ?_
    refine aw_ifeq (tgt := 34) dX0_number_21 (by decide) (fun _ => ?_) (fun h => absurd h (by decide))
    refine aw_aload_n dX0_number_34 rfl ?_
    refine aw_instN (t := 3) dX0_number_35 ha (by decide) q521 (by decide +kernel) ?_
    refine aw_ifeq (tgt := 53) dX0_number_38 (by decide) (fun _ => ?_) (fun h => absurd h (by decide))
    refine aw_aload_n dX0_number_53 rfl ?_
    refine aw_castA (t := 3) dX0_number_54 ha (by decide) q522 ?_
    refine aw_iload_n dX0_number_57 rfl ?_
    refine aw_laload dX0_number_58 ha hj.1 hj.2 ?_
    refine aw_lreturn dX0_number_59 rfl ?_
    exact hIn hj.1 hj.2
  · refine AW.widen (kc' := 0 + 3) (ks' := 0 + 222) (by decide) (by decide) ?_
    refine aw_aload_n dX0_number_0 rfl ?_
    refine aw_instN (t := 3) dX0_number_1 ha (by decide) q519 (by decide +kernel) ?_
    refine aw_ifeq (tgt := 17) dX0_number_4 (by decide) (fun _ => ?_) (fun h => absurd h (by decide))
    refine aw_aload_n dX0_number_17 rfl ?_
    refine aw_instN (t := 3) dX0_number_18 ha (by decide) q520 (by decide +kernel) ?_
    refine aw_ifeq (tgt := 34) dX0_number_21 (by decide) (fun _ => ?_) (fun h => absurd h (by decide))
    refine aw_aload_n dX0_number_34 rfl ?_
    refine aw_instN (t := 3) dX0_number_35 ha (by decide) q521 (by decide +kernel) ?_
    refine aw_ifeq (tgt := 53) dX0_number_38 (by decide) (fun _ => ?_) (fun h => absurd h (by decide))
    refine aw_aload_n dX0_number_53 rfl ?_
    refine aw_castA (t := 3) dX0_number_54 ha (by decide) q522 ?_
    refine aw_iload_n dX0_number_57 rfl ?_
    exact aw_laloadZ (N := N) dX0_number_58 ha hN hj (by decide) (by decide) (ax_out rfl (hOut hj))
theorem C_x_tput3 {sz : Int} {im : Int → aIm} {ct : Int → Int → Int} {a j v N : Int} {Q : aPost} (ha : aar sz im a 3 N) (hN : N < 1000) (hIn : 0 ≤ j → j < N → Q (.inl none) (sz, im, aup ct a j (ctF 3 v))) (hOut : ¬ (0 ≤ j ∧ j < N) → Q (.inr (3, -1000)) (sz, im, ct)) : AMet md_X0_put 161 3 222 [vR a, vI j, vL v] (sz, im, ct) Q := by
  refine AMet.go (L := [some (vR a), some (vI j), some (vL v), none, none, none, none]) mok_X0_put (Nat.le_of_ble_eq_true rfl) rfl ?_
  by_cases hj : 0 ≤ j ∧ j < N
  · refine aw_aload_n dX0_put_0 rfl ?_
    refine aw_instN (t := 3) dX0_put_1 ha (by decide) q519 (by decide +kernel) ?_
    refine aw_ifeq (tgt := 23) dX0_put_4 (by decide) (fun _ => ?_) (fun h => absurd h (by decide))
    refine aw_aload_n dX0_put_23 rfl ?_
    refine aw_instN (t := 3) dX0_put_24 ha (by decide) q520 (by decide +kernel) ?_
    refine aw_ifeq (tgt := 46) dX0_put_27 (by decide) (fun _ => ?_) (fun h => absurd h (by decide))
    refine aw_aload_n dX0_put_46 rfl ?_
    refine aw_instN (t := 3) dX0_put_47 ha (by decide) q521 (by decide +kernel) ?_
    refine aw_ifeq (tgt := 68) dX0_put_50 (by decide) (fun _ => ?_) (fun h => absurd h (by decide))
    refine aw_aload_n dX0_put_68 rfl ?_
    refine aw_castA (t := 3) dX0_put_69 ha (by decide) q522 ?_
    refine aw_iload_n dX0_put_72 rfl ?_
    refine aw_lload_n dX0_put_73 rfl ?_
    refine aw_lastore dX0_put_74 ha hj.1 hj.2 ?_
    refine aw_ret dX0_put_75 rfl ?_
    exact hIn hj.1 hj.2
  · refine AW.widen (kc' := 0 + 3) (ks' := 0 + 222) (by decide) (by decide) ?_
    refine aw_aload_n dX0_put_0 rfl ?_
    refine aw_instN (t := 3) dX0_put_1 ha (by decide) q519 (by decide +kernel) ?_
    refine aw_ifeq (tgt := 23) dX0_put_4 (by decide) (fun _ => ?_) (fun h => absurd h (by decide))
    refine aw_aload_n dX0_put_23 rfl ?_
    refine aw_instN (t := 3) dX0_put_24 ha (by decide) q520 (by decide +kernel) ?_
    refine aw_ifeq (tgt := 46) dX0_put_27 (by decide) (fun _ => ?_) (fun h => absurd h (by decide))
    refine aw_aload_n dX0_put_46 rfl ?_
    refine aw_instN (t := 3) dX0_put_47 ha (by decide) q521 (by decide +kernel) ?_
    refine aw_ifeq (tgt := 68) dX0_put_50 (by decide) (fun _ => ?_) (fun h => absurd h (by decide))
    refine aw_aload_n dX0_put_68 rfl ?_
    refine aw_castA (t := 3) dX0_put_69 ha (by decide) q522 ?_
    refine aw_iload_n dX0_put_72 rfl ?_
    refine aw_lload_n dX0_put_73 rfl ?_
    exact aw_lastoreZ (N := N) dX0_put_74 ha hN hj (by decide) (by decide) (ax_out rfl (hOut hj))
theorem C_x_sizeOf {sz : Int} {im : Int → aIm} {ct : Int → Int → Int} {a N : Int} {t : Nat} {Q : aPost} (ht : t < 4) (ha : aar sz im a t N) (hQ : Q (.inl (some (vI N))) (sz, im, ct)) : AMet md_X0_sizeOf 1 0 0 [vR a] (sz, im, ct) Q := by
  have h4 : t = 0 ∨ t = 1 ∨ t = 2 ∨ t = 3 := by omega
  rcases h4 with z | z | z | z <;> subst z
  · exact C_x_sizeOf0 ha hQ
  · exact C_x_sizeOf1 ha hQ
  · exact C_x_sizeOf2 ha hQ
  · exact C_x_sizeOf3 ha hQ
theorem C_x_sortOf {sz : Int} {im : Int → aIm} {ct : Int → Int → Int} {a N : Int} {t : Nat} {Q : aPost} (ht : t < 4) (ha : aar sz im a t N) (hQ : Q (.inl (some (vI t))) (sz, im, ct)) : AMet md_X0_sortOf 1 0 0 [vR a] (sz, im, ct) Q := by
  have h4 : t = 0 ∨ t = 1 ∨ t = 2 ∨ t = 3 := by omega
  rcases h4 with z | z | z | z <;> subst z
  · exact C_x_sortOf0 ha hQ
  · exact C_x_sortOf1 ha hQ
  · exact C_x_sortOf2 ha hQ
  · exact C_x_sortOf3 ha hQ
theorem C_x_number {sz : Int} {im : Int → aIm} {ct : Int → Int → Int} {a j N : Int} {t : Nat} {Q : aPost} (ht : t < 4) (ha : aar sz im a t N) (hN : N < 1000) (hIn : 0 ≤ j → j < N → Q (.inl (some (vL (ct a j)))) (sz, im, ct)) (hOut : ¬ (0 ≤ j ∧ j < N) → Q (.inr (3, -1000)) (sz, im, ct)) : AMet md_X0_number 161 3 222 [vR a, vI j] (sz, im, ct) Q := by
  have h4 : t = 0 ∨ t = 1 ∨ t = 2 ∨ t = 3 := by omega
  rcases h4 with z | z | z | z <;> subst z
  · exact C_x_number0 ha hN hIn hOut
  · exact C_x_number1 ha hN hIn hOut
  · exact C_x_number2 ha hN hIn hOut
  · exact C_x_number3 ha hN hIn hOut
theorem C_x_tput {sz : Int} {im : Int → aIm} {ct : Int → Int → Int} {a j v N : Int} {t : Nat} {Q : aPost} (ht : t < 4) (ha : aar sz im a t N) (hN : N < 1000) (hIn : 0 ≤ j → j < N → Q (.inl none) (sz, im, aup ct a j (ctF t v))) (hOut : ¬ (0 ≤ j ∧ j < N) → Q (.inr (3, -1000)) (sz, im, ct)) : AMet md_X0_put 161 3 222 [vR a, vI j, vL v] (sz, im, ct) Q := by
  have h4 : t = 0 ∨ t = 1 ∨ t = 2 ∨ t = 3 := by omega
  rcases h4 with z | z | z | z <;> subst z
  · exact C_x_tput0 ha hN hIn hOut
  · exact C_x_tput1 ha hN hIn hOut
  · exact C_x_tput2 ha hN hIn hOut
  · exact C_x_tput3 ha hN hIn hOut
theorem C_x_by {sz : Int} {im : Int → aIm} {ct : Int → Int → Int} {r w : Int} {Q : aPost} (ho : aob sz im r 3) (hQ : Q (.inl (some (vR r))) (sz, im, aup ct r 6 w)) : AMet md_X3_by 1 0 0 [vR r, vI w] (sz, im, ct) Q := by
  refine AMet.go (L := [some (vR r), some (vI w)]) mok_X3_by (Nat.le_of_ble_eq_true rfl) rfl ?_
  refine aw_aload_n dX3_by_0 rfl ?_
  refine aw_iload_n dX3_by_1 rfl ?_
  refine p_X3_7_3 rfl dX3_by_2 ho ?_
  refine aw_aload_n dX3_by_5 rfl ?_
  refine aw_areturn dX3_by_6 rfl (Or.inl ⟨_, rfl⟩) ?_
  exact hQ
theorem C_x_want {own : Int → Int} {sz : Int} {im : Int → aIm} {ct ct0 : Int → Int → Int} {b w : Int} {Q : aPost} (hR : RT own sz im ct0) (hI : b ≠ 0 → Q (.inl none) (sz, im, ct)) (hO : b = 0 → Q (.inr (1, 8)) (sz, im, aup ct 8 6 w)) : AMet md_X0_want 2 0 0 [vR 0, vI b, vI w] (sz, im, ct) Q := by
  refine AMet.go (L := [some (vR 0), some (vI b), some (vI w)]) mok_X0_want (Nat.le_of_ble_eq_true rfl) rfl ?_
  refine aw_iload_n dX0_want_0 rfl ?_
  refine aw_ifne (tgt := 13) dX0_want_1 (by decide) (fun h1 => ?_) (fun h1 => ?_)
  · refine aw_ret dX0_want_13 rfl ?_
    exact hI (by omega)
  · refine aw_aload_n dX0_want_4 rfl ?_
    refine g_X0_44_0 rfl dX0_want_5 hR.o0 ?_
    rw [hR.e8]
    refine aw_iload_n dX0_want_8 rfl ?_
    refine c_X0_79 rfl dX0_want_9 hR.o8 (Nat.le_of_ble_eq_true rfl) (by omega) (C_x_by hR.o8 ?_)
    refine aK_i ?_
    exact aw_athrow (E := 1) dX0_want_12 hR.o8 ⟨_, rfl, rfl⟩ (ax_out rfl (hO (by omega)))
theorem C_x_none {own : Int → Int} {sz : Int} {im : Int → aIm} {ct ct0 : Int → Int → Int} {Q : aPost} (hR : RT own sz im ct0) (hQ : Q (.inl (some (vI (-1)))) (sz, im, aup ct 0 7 (ct 8 6))) : AMet md_X0_none 1 0 0 [vR 0, vR 8] (sz, im, ct) Q := by
  refine AMet.go (L := [some (vR 0), some (vR 8)]) mok_X0_none (Nat.le_of_ble_eq_true rfl) rfl ?_
  refine aw_aload_n dX0_none_0 rfl ?_
  refine aw_aload_n dX0_none_1 rfl ?_
  refine g_X0_83_3 rfl dX0_none_2 hR.o8 ?_
  refine p_X0_73_0 rfl dX0_none_5 hR.o0 ?_
  refine aw_iconst dX0_none_8 (by decide) ?_
  refine aw_ireturn dX0_none_9 rfl ?_
  exact hQ
theorem C_x_no {own : Int → Int} {sz : Int} {im : Int → aIm} {ct ct0 : Int → Int → Int} {Q : aPost} (hR : RT own sz im ct0) (hQ : Q (.inl (some (vI 0))) (sz, im, aup ct 0 7 (ct 8 6))) : AMet md_X0_no 1 0 0 [vR 0, vR 8] (sz, im, ct) Q := by
  refine AMet.go (L := [some (vR 0), some (vR 8)]) mok_X0_no (Nat.le_of_ble_eq_true rfl) rfl ?_
  refine aw_aload_n dX0_no_0 rfl ?_
  refine aw_aload_n dX0_no_1 rfl ?_
  refine g_X0_83_3 rfl dX0_no_2 hR.o8 ?_
  refine p_X0_73_0 rfl dX0_no_5 hR.o0 ?_
  refine aw_iconst dX0_no_8 (by decide) ?_
  refine aw_zreturn dX0_no_9 rfl (Or.inl rfl) ?_
  exact hQ
theorem C_m_cut {G : aG} {v t : Int} {Q : aPost} (hQ : Q (.inl (some (vL (cuF t v)))) G) : AMet md_X7_cut 1 0 0 [vL v, vI t] G Q := by
  refine AMet.go (L := [some (vL v), none, some (vI t)]) mok_X7_cut (Nat.le_of_ble_eq_true rfl) rfl ?_
  refine aw_iload_n dX7_cut_0 rfl ?_
  refine aw_ifne (tgt := 11) dX7_cut_1 (by decide) (fun h1 => ?_) (fun h1 => ?_)
  · refine aw_iload_n dX7_cut_11 rfl ?_
    refine aw_iconst dX7_cut_12 (by decide) ?_
    refine aw_icmpne (tgt := 23) dX7_cut_13 (by decide) (fun h13 => ?_) (fun h13 => ?_)
    · refine aw_iload_n dX7_cut_23 rfl ?_
      refine aw_iconst dX7_cut_24 (by decide) ?_
      refine aw_icmpne (tgt := 34) dX7_cut_25 (by decide) (fun h25 => ?_) (fun h25 => ?_)
      · refine aw_lload_n dX7_cut_34 rfl ?_
        refine aw_lreturn dX7_cut_35 rfl ?_
        unfold cuF at hQ
        first
          | (rw [if_pos (by omega)] at hQ; exact hQ)
          | (rw [if_neg (by omega), if_pos (by omega)] at hQ; exact hQ)
          | (rw [if_neg (by omega), if_neg (by omega), if_pos (by omega)] at hQ; exact hQ)
          | (rw [if_neg (by omega), if_neg (by omega), if_neg (by omega)] at hQ; exact hQ)
      · refine aw_lload_n dX7_cut_28 rfl ?_
        refine aw_l2i dX7_cut_29 ?_
        refine aw_i2l dX7_cut_30 ?_
        refine aw_goto (tgt := 35) dX7_cut_31 (by decide) ?_
        refine aw_lreturn dX7_cut_35 rfl ?_
        unfold cuF at hQ
        first
          | (rw [if_pos (by omega)] at hQ; exact hQ)
          | (rw [if_neg (by omega), if_pos (by omega)] at hQ; exact hQ)
          | (rw [if_neg (by omega), if_neg (by omega), if_pos (by omega)] at hQ; exact hQ)
          | (rw [if_neg (by omega), if_neg (by omega), if_neg (by omega)] at hQ; exact hQ)
    · refine aw_lload_n dX7_cut_16 rfl ?_
      refine aw_l2i dX7_cut_17 ?_
      refine aw_i2s dX7_cut_18 ?_
      refine aw_i2l dX7_cut_19 ?_
      refine aw_goto (tgt := 35) dX7_cut_20 (by decide) ?_
      refine aw_lreturn dX7_cut_35 rfl ?_
      unfold cuF at hQ
      first
        | (rw [if_pos (by omega)] at hQ; exact hQ)
        | (rw [if_neg (by omega), if_pos (by omega)] at hQ; exact hQ)
        | (rw [if_neg (by omega), if_neg (by omega), if_pos (by omega)] at hQ; exact hQ)
        | (rw [if_neg (by omega), if_neg (by omega), if_neg (by omega)] at hQ; exact hQ)
  · refine aw_lload_n dX7_cut_4 rfl ?_
    refine aw_l2i dX7_cut_5 ?_
    refine aw_i2b dX7_cut_6 ?_
    refine aw_i2l dX7_cut_7 ?_
    refine aw_goto (tgt := 35) dX7_cut_8 (by decide) ?_
    refine aw_lreturn dX7_cut_35 rfl ?_
    unfold cuF at hQ
    first
      | (rw [if_pos (by omega)] at hQ; exact hQ)
      | (rw [if_neg (by omega), if_pos (by omega)] at hQ; exact hQ)
      | (rw [if_neg (by omega), if_neg (by omega), if_pos (by omega)] at hQ; exact hQ)
      | (rw [if_neg (by omega), if_neg (by omega), if_neg (by omega)] at hQ; exact hQ)
