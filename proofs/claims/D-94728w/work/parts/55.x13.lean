set_option maxRecDepth 100000
/-! operations, 6: sums over the fields of a hive -/
theorem L_x_room {own : Int → Int} {sz : Int} {im : Int → aIm} {ct ct0 ct2 : Int → Int → Int} {a hv n dd : Int} {s N c : Int → Int} {Q : aPost} {d kc ks : Nat}  (hd : 4 ≤ d) (hR : RT own sz im ct0) (HY : YR own 0 sz im ct2 10 s dd N) (h4 : 0 ≤ a ∧ a < 4) (ehv : ct ((im 10).2.2 1) a = hv) (g1 : HvS sz im hv n) (g2 : HvC sz im ct hv n c) (rg : rgF n c) 
    (K : AW (mq Q) md_X0_room d kc ks 67 [some (vR 0), some (vI a), some (vI (isum (fun i => (fun v => max 0 (100 - v)) (c i)) (nF n))), some (vI (16 * n))] [] (sz, im, ct)) : ∀ (r j : Nat), (j : Int) + r = 16 * n → AW (mq Q) md_X0_room d kc ks 30 [some (vR 0), some (vI a), some (vI (isum (fun k => (fun v => max 0 (100 - v)) (c (fld n k))) j)), some (vI j)] [] (sz, im, ct) := by
  have hn1 := g1.2.2.2.1
  have hn2 := g1.2.2.2.2
  intro r
  induction r with
  | zero =>
    intro j h1
    have ej : (j : Int) = 16 * n := by omega
    have ejn : nF n = j := by unfold nF; omega
    refine aw_iload_n dX0_room_30 rfl ?_
    refine aw_aload_n dX0_room_31 rfl ?_
    refine aw_iload_n dX0_room_32 rfl ?_
    refine c_X0_172 rfl dX0_room_33 hR.o0 (Nat.le_of_ble_eq_true rfl) (by omega) (C_x_xat2 (a := hv) hR HY h4 ehv ?_)
    refine aK_i ?_
    refine c_X0_344 rfl dX0_room_36 g1.1 (Nat.le_of_ble_eq_true rfl) (by omega) (C_x_fields g1 ?_)
    refine aK_i ?_
    refine aw_icmpge (tgt := 67) dX0_room_39 (by decide) (fun h39 => ?_) (fun h39 => ?_)
    · have e1 := isum_fld (fun i => (fun v => max 0 (100 - v)) (c i)) hn1 hn2
      rw [ejn] at e1
      rw [e1, ej]
      rw [ejn] at K
      exact K
    · exfalso; omega
  | succ r ih =>
    intro j h1
    have hf := fld_in (n := n) (k := j) (by omega) (by omega)
    have hv9 := rg _ hf.1 hf.2
    have hb := isum_bd (g := fun k => (fun v => max 0 (100 - v)) (c (fld n k))) (B := 100) (n := j) fun i i0 i1 => by
      have hf2 := fld_in (n := n) (k := i) i0 (by omega)
      have hv8 := rg _ hf2.1 hf2.2
      show 0 ≤ (max 0 (100 - (c (fld n i)))) ∧ (max 0 (100 - (c (fld n i)))) ≤ 100
      first
        | omega
        | (split <;> omega)
        | ((repeat' split) <;> omega)
    have es : isum (fun k => (fun v => max 0 (100 - v)) (c (fld n k))) (j + 1) = isum (fun k => (fun v => max 0 (100 - v)) (c (fld n k))) j + (fun v => max 0 (100 - v)) (c (fld n j)) := rfl
    have ih := ih (j + 1) (by omega)
    rw [es] at ih
    refine aw_iload_n dX0_room_30 rfl ?_
    refine aw_aload_n dX0_room_31 rfl ?_
    refine aw_iload_n dX0_room_32 rfl ?_
    refine c_X0_172 rfl dX0_room_33 hR.o0 (Nat.le_of_ble_eq_true rfl) (by omega) (C_x_xat2 (a := hv) hR HY h4 ehv ?_)
    refine aK_i ?_
    refine c_X0_344 rfl dX0_room_36 g1.1 (Nat.le_of_ble_eq_true rfl) (by omega) (C_x_fields g1 ?_)
    refine aK_i ?_
    refine aw_icmpge (tgt := 67) dX0_room_39 (by decide) (fun h39 => ?_) (fun h39 => ?_)
    · exfalso; omega
    · refine aw_iload_n dX0_room_42 rfl ?_
      refine aw_iconst dX0_room_43 (by decide) ?_
      refine aw_bipush dX0_room_44 (by decide) ?_
      refine aw_aload_n dX0_room_46 rfl ?_
      refine aw_iload_n dX0_room_47 rfl ?_
      refine c_X0_172 rfl dX0_room_48 hR.o0 (Nat.le_of_ble_eq_true rfl) (by omega) (C_x_xat2 (a := hv) hR HY h4 ehv ?_)
      refine aK_i ?_
      refine aw_iload_n dX0_room_51 rfl ?_
      refine c_X0_385 rfl dX0_room_52 g1.1 (Nat.le_of_ble_eq_true rfl) (by omega) (C_x_at g1 g2 (by omega) (by omega) ?_)
      refine aK_i ?_
      refine aw_isubr dX0_room_55 (by omega) ?_
      refine aw_mmax dX0_room_56 q1234 q1235 q137 q1236 (Nat.le_of_ble_eq_true rfl) (by omega) ?_
      refine aw_iaddr dX0_room_59 (by omega) ?_
      refine aw_istore2 dX0_room_60 (by decide) rfl ?_
      refine aw_iinc3r dX0_room_61 (by decide) (by decide) rfl (by omega) ?_
      refine aw_goto (tgt := 30) dX0_room_64 (by decide) ?_
      first
        | (rw [show (fun v => max 0 (100 - v)) (c (fld n j)) = max 0 (100 - c (fld n j)) by show _ = _; rfl] at ih; exact ih)
theorem OP_room {sz : Int} {im : Int → aIm} {ct cm : Int → Int → Int} (h : XR (sz, im, ct) cm) {a : Int} (r0 : -2147483648 ≤ a ∧ a < 2147483648)  : AMet md_X0_room 4 0 0 [vR 0, vI a] (sz, im, ct) (XQ md_X7_room 3 [vR 0, vI a] cm) := by
  obtain ⟨own, N, hR, HY, HL, HN, HS, HP, HF, HX, hv2, hv3, hv4⟩ := id h
  dsimp only at hR HY HL HS HX hv2 hv3 hv4
  have hp0 := HP.1
  have hp3 := HP.2.1
  have hpq := HP.2.2.2.1.1
  have hps := HP.2.2.2.2.2
  refine AMet.go (L := [some (vR 0), some (vI a), none, none]) mok_X0_room (Nat.le_of_ble_eq_true rfl) rfl ?_
  refine aw_aload_n dX0_room_0 rfl ?_
  refine aw_aload_n dX0_room_1 rfl ?_
  refine aw_iload_n dX0_room_2 rfl ?_
  refine c_X0_168 rfl dX0_room_3 hR.o0 (Nat.le_of_ble_eq_true rfl) (by omega) (C_x_isHive hR HY (fun xh => ?_) (fun xh => ?_))
  · refine aK_i ?_
    refine aw_ifeq (tgt := 13) dX0_room_6 (by decide) (fun h => absurd h (by decide)) (fun _ => ?_)
    refine aw_iconst dX0_room_9 (by decide) ?_
    refine aw_goto (tgt := 14) dX0_room_10 (by decide) ?_
    refine p_X0_73_0 rfl dX0_room_14 hR.o0 ?_
    refine aw_aload_n dX0_room_17 rfl ?_
    refine g_X0_73_0 rfl dX0_room_18 hR.o0 ?_
    repeat (first | rw [aup_s] | rw [aup_n (by omega)])
    refine aw_ifle (tgt := 26) dX0_room_21 (by decide) (fun _ => ?_) (fun h => absurd h (by decide))
    obtain ⟨hv, ehv, ⟨g1, g2, ⟨g3, g4, g5, g6, g7⟩, g8, g9, -⟩, nhv0, nhv10, nhv9, nv0, nvhv, nv10, ohv⟩ := (HY.up0 (j := 7) (v := 0) hR.1.2 (by decide)).hv (hR.up0 (j := 7) (v := 0)) (k := a) (by omega) (by omega)
    have gn := g1.2.2.2
    have gh := HP.2.2.1 a (by omega) (by omega)
    have gq := gh.2.2.2.2.1
    have gp := HP.pd.2.1 a (by omega) (by omega)
    refine aw_iconst dX0_room_26 (by decide) ?_
    refine aw_istore2 dX0_room_27 (by decide) rfl ?_
    refine aw_iconst dX0_room_28 (by decide) ?_
    refine aw_istore3 dX0_room_29 (by decide) rfl ?_
    refine L_x_room (a := a) (by omega) hR HY (by omega) ehv g1 g2 gh.2.1 ?_ (16 * cm 1 (64 + 198 * a)).toNat 0 (by omega)
    rw [room_sum gh.2.1 (by omega)]
    refine aw_iload_n dX0_room_67 rfl ?_
    refine aw_ireturn dX0_room_68 rfl ?_
    refine ⟨_, rfl, ?_⟩
    refine AMet.go (L := [some (vR 0), some (vI a), none]) mok_X7_room (Nat.le_of_ble_eq_true rfl) rfl ?_
    refine aw_aload_n dX7_room_0 rfl ?_
    refine aw_iload_n dX7_room_1 rfl ?_
    refine c_X7_274 rfl dX7_room_2 m_ob (Nat.le_of_ble_eq_true rfl) (by omega) (C_m_isHive (fun hh => ?_) (fun hh => ?_))
    · first
        | (exfalso; omega)
        | skip
          refine aK_i ?_
          refine aw_ifne (tgt := 14) dX7_room_5 (by decide) (fun _ => ?_) (fun h => absurd h (by decide))
          refine aw_iload_n dX7_room_14 rfl ?_
          refine c_X7_217 rfl dX7_room_15  (Nat.le_of_ble_eq_true rfl) (by omega) (C_m_hiveRow (by omega) ?_)
          refine aK_i ?_
          refine aw_istore2 dX7_room_18 (by decide) rfl ?_
          refine aw_aload_n dX7_room_19 rfl ?_
          have hb0 := isum_bd (g := fun i => sv 0 (sh (64 + 198 * a) (cm 1) i)) (B := 100) (n := nF (cm 1 (64 + 198 * a))) fun i i0 i1 => sv_bd (gh.2.1 i i0 (by unfold nF at i1; omega)).1
          have hb1 := isum_bd (g := fun i => sv 1 (sh (64 + 198 * a) (cm 1) i)) (B := 100) (n := nF (cm 1 (64 + 198 * a))) fun i i0 i1 => sv_bd (gh.2.1 i i0 (by unfold nF at i1; omega)).1
          have hnf : ((nF (cm 1 (64 + 198 * a)) : Nat) : Int) = 16 * cm 1 (64 + 198 * a) := by unfold nF; omega
          refine aw_bipush dX7_room_20 (by decide) ?_
          refine aw_bipush dX7_room_22 (by decide) ?_
          refine gm_7 rfl dX7_room_24 dX7_room_25 rfl ?_
          refine aw_iload_n dX7_room_28 rfl ?_
          refine aw_iaload dX7_room_29 m_a1 (by omega) (by omega) ?_
          refine aw_imulr dX7_room_30 (by omega) ?_
          refine aw_aload_n dX7_room_31 rfl ?_
          refine aw_iload_n dX7_room_32 rfl ?_
          refine aw_iconst dX7_room_33 (by decide) ?_
          refine c_X7_283 rfl dX7_room_34 m_ob (Nat.le_of_ble_eq_true rfl) (by omega) (C_m_sumOf rfl gh.1 (by omega) gh.2.1 ?_)
          refine aK_i ?_
          refine aw_isubr dX7_room_37 (by omega) ?_
          refine aw_imulr dX7_room_38 (by omega) ?_
          refine aw_aload_n dX7_room_39 rfl ?_
          refine aw_iload_n dX7_room_40 rfl ?_
          refine aw_iconst dX7_room_41 (by decide) ?_
          refine c_X7_283 rfl dX7_room_42 m_ob (Nat.le_of_ble_eq_true rfl) (by omega) (C_m_sumOf rfl gh.1 (by omega) gh.2.1 ?_)
          refine aK_i ?_
          refine aw_isubr dX7_room_45 (by omega) ?_
          refine c_X7_76 rfl dX7_room_46 m_ob (Nat.le_of_ble_eq_true rfl) (by omega) (C_m_gives ?_)
          refine aK_i ?_
          refine aw_ireturn dX7_room_49 rfl ?_
          first
            | (exfalso; omega)
            | (refine XR.sameE h ?_ ?_ ?_ ?_ ?_ ?_
               · first
                   | rfl
                   | omega
               · repeat (first | exact xs.rf | refine xs.up ?_ (by decide))
               · repeat (first | exact mss.rf | refine mss.up0 ?_ (by decide))
               · first
                   | (simp [aup, hv2, hv3, hv4]; done)
                   | (simp [aup, hv2, hv3, hv4]; omega)
               · simp [aup, hv2, hv3, hv4]
               · simp [aup, hv2, hv3, hv4])
    · first
        | (exfalso; omega)
        | skip
          refine aK_i ?_
          refine aw_ifne (tgt := 14) dX7_room_5 (by decide) (fun h => absurd h (by decide)) (fun _ => ?_)
          refine aw_aload_n dX7_room_8 rfl ?_
          refine aw_iconst dX7_room_9 (by decide) ?_
          refine c_X7_72 rfl dX7_room_10 m_ob (Nat.le_of_ble_eq_true rfl) (by omega) (C_m_refuse ?_)
          refine aK_i ?_
          refine aw_ireturn dX7_room_13 rfl ?_
          first
            | (exfalso; omega)
            | (refine XR.sameE h ?_ ?_ ?_ ?_ ?_ ?_
               · first
                   | rfl
                   | omega
               · repeat (first | exact xs.rf | refine xs.up ?_ (by decide))
               · repeat (first | exact mss.rf | refine mss.up0 ?_ (by decide))
               · first
                   | (simp [aup, hv2, hv3, hv4]; done)
                   | (simp [aup, hv2, hv3, hv4]; omega)
               · simp [aup, hv2, hv3, hv4]
               · simp [aup, hv2, hv3, hv4])
  · refine aK_i ?_
    refine aw_ifeq (tgt := 13) dX0_room_6 (by decide) (fun _ => ?_) (fun h => absurd h (by decide))
    refine aw_iconst dX0_room_13 (by decide) ?_
    refine p_X0_73_0 rfl dX0_room_14 hR.o0 ?_
    refine aw_aload_n dX0_room_17 rfl ?_
    refine g_X0_73_0 rfl dX0_room_18 hR.o0 ?_
    repeat (first | rw [aup_s] | rw [aup_n (by omega)])
    refine aw_ifle (tgt := 26) dX0_room_21 (by decide) (fun h => absurd h (by decide)) (fun _ => ?_)
    refine aw_iconst dX0_room_24 (by decide) ?_
    refine aw_ireturn dX0_room_25 rfl ?_
    refine ⟨_, rfl, ?_⟩
    refine AMet.go (L := [some (vR 0), some (vI a), none]) mok_X7_room (Nat.le_of_ble_eq_true rfl) rfl ?_
    refine aw_aload_n dX7_room_0 rfl ?_
    refine aw_iload_n dX7_room_1 rfl ?_
    refine c_X7_274 rfl dX7_room_2 m_ob (Nat.le_of_ble_eq_true rfl) (by omega) (C_m_isHive (fun hh => ?_) (fun hh => ?_))
    · first
        | (exfalso; omega)
        | skip
          refine aK_i ?_
          refine aw_ifne (tgt := 14) dX7_room_5 (by decide) (fun _ => ?_) (fun h => absurd h (by decide))
          refine aw_iload_n dX7_room_14 rfl ?_
          refine c_X7_217 rfl dX7_room_15  (Nat.le_of_ble_eq_true rfl) (by omega) (C_m_hiveRow (by omega) ?_)
          refine aK_i ?_
          refine aw_istore2 dX7_room_18 (by decide) rfl ?_
          refine aw_aload_n dX7_room_19 rfl ?_
          have hb0 := isum_bd (g := fun i => sv 0 (sh (64 + 198 * a) (cm 1) i)) (B := 100) (n := nF (cm 1 (64 + 198 * a))) fun i i0 i1 => sv_bd (gh.2.1 i i0 (by unfold nF at i1; omega)).1
          have hb1 := isum_bd (g := fun i => sv 1 (sh (64 + 198 * a) (cm 1) i)) (B := 100) (n := nF (cm 1 (64 + 198 * a))) fun i i0 i1 => sv_bd (gh.2.1 i i0 (by unfold nF at i1; omega)).1
          have hnf : ((nF (cm 1 (64 + 198 * a)) : Nat) : Int) = 16 * cm 1 (64 + 198 * a) := by unfold nF; omega
          refine aw_bipush dX7_room_20 (by decide) ?_
          refine aw_bipush dX7_room_22 (by decide) ?_
          refine gm_7 rfl dX7_room_24 dX7_room_25 rfl ?_
          refine aw_iload_n dX7_room_28 rfl ?_
          refine aw_iaload dX7_room_29 m_a1 (by omega) (by omega) ?_
          refine aw_imulr dX7_room_30 (by omega) ?_
          refine aw_aload_n dX7_room_31 rfl ?_
          refine aw_iload_n dX7_room_32 rfl ?_
          refine aw_iconst dX7_room_33 (by decide) ?_
          refine c_X7_283 rfl dX7_room_34 m_ob (Nat.le_of_ble_eq_true rfl) (by omega) (C_m_sumOf rfl gh.1 (by omega) gh.2.1 ?_)
          refine aK_i ?_
          refine aw_isubr dX7_room_37 (by omega) ?_
          refine aw_imulr dX7_room_38 (by omega) ?_
          refine aw_aload_n dX7_room_39 rfl ?_
          refine aw_iload_n dX7_room_40 rfl ?_
          refine aw_iconst dX7_room_41 (by decide) ?_
          refine c_X7_283 rfl dX7_room_42 m_ob (Nat.le_of_ble_eq_true rfl) (by omega) (C_m_sumOf rfl gh.1 (by omega) gh.2.1 ?_)
          refine aK_i ?_
          refine aw_isubr dX7_room_45 (by omega) ?_
          refine c_X7_76 rfl dX7_room_46 m_ob (Nat.le_of_ble_eq_true rfl) (by omega) (C_m_gives ?_)
          refine aK_i ?_
          refine aw_ireturn dX7_room_49 rfl ?_
          first
            | (exfalso; omega)
            | (refine XR.sameE h ?_ ?_ ?_ ?_ ?_ ?_
               · first
                   | rfl
                   | omega
               · repeat (first | exact xs.rf | refine xs.up ?_ (by decide))
               · repeat (first | exact mss.rf | refine mss.up0 ?_ (by decide))
               · first
                   | (simp [aup, hv2, hv3, hv4]; done)
                   | (simp [aup, hv2, hv3, hv4]; omega)
               · simp [aup, hv2, hv3, hv4]
               · simp [aup, hv2, hv3, hv4])
    · first
        | (exfalso; omega)
        | skip
          refine aK_i ?_
          refine aw_ifne (tgt := 14) dX7_room_5 (by decide) (fun h => absurd h (by decide)) (fun _ => ?_)
          refine aw_aload_n dX7_room_8 rfl ?_
          refine aw_iconst dX7_room_9 (by decide) ?_
          refine c_X7_72 rfl dX7_room_10 m_ob (Nat.le_of_ble_eq_true rfl) (by omega) (C_m_refuse ?_)
          refine aK_i ?_
          refine aw_ireturn dX7_room_13 rfl ?_
          first
            | (exfalso; omega)
            | (refine XR.sameE h ?_ ?_ ?_ ?_ ?_ ?_
               · first
                   | rfl
                   | omega
               · repeat (first | exact xs.rf | refine xs.up ?_ (by decide))
               · repeat (first | exact mss.rf | refine mss.up0 ?_ (by decide))
               · first
                   | (simp [aup, hv2, hv3, hv4]; done)
                   | (simp [aup, hv2, hv3, hv4]; omega)
               · simp [aup, hv2, hv3, hv4]
               · simp [aup, hv2, hv3, hv4])
theorem L_x_coming {own : Int → Int} {sz : Int} {im : Int → aIm} {ct ct0 ct2 : Int → Int → Int} {a hv n dd : Int} {s N c : Int → Int} {Q : aPost} {d kc ks : Nat} {b : Int} (hd : 4 ≤ d) (hR : RT own sz im ct0) (HY : YR own 0 sz im ct2 10 s dd N) (h4 : 0 ≤ a ∧ a < 4) (ehv : ct ((im 10).2.2 1) a = hv) (g1 : HvS sz im hv n) (g2 : HvC sz im ct hv n c) (rg : rgF n c) (hb0 : 0 ≤ b ∧ b ≤ 60)
    (K : AW (mq Q) md_X0_coming d kc ks 105 [some (vR 0), some (vI a), some (vI b), some (vI (isum (fun i => (fun v => if 101 ≤ v ∧ 121 < v + b then (1 : Int) else 0) (c i)) (nF n))), some (vI (16 * n))] [] (sz, im, ct)) : ∀ (r j : Nat), (j : Int) + r = 16 * n → AW (mq Q) md_X0_coming d kc ks 43 [some (vR 0), some (vI a), some (vI b), some (vI (isum (fun k => (fun v => if 101 ≤ v ∧ 121 < v + b then (1 : Int) else 0) (c (fld n k))) j)), some (vI j)] [] (sz, im, ct) := by
  have hn1 := g1.2.2.2.1
  have hn2 := g1.2.2.2.2
  intro r
  induction r with
  | zero =>
    intro j h1
    have ej : (j : Int) = 16 * n := by omega
    have ejn : nF n = j := by unfold nF; omega
    refine aw_iload dX0_coming_43 rfl ?_
    refine aw_aload_n dX0_coming_45 rfl ?_
    refine aw_iload_n dX0_coming_46 rfl ?_
    refine c_X0_172 rfl dX0_coming_47 hR.o0 (Nat.le_of_ble_eq_true rfl) (by omega) (C_x_xat2 (a := hv) hR HY h4 ehv ?_)
    refine aK_i ?_
    refine c_X0_344 rfl dX0_coming_50 g1.1 (Nat.le_of_ble_eq_true rfl) (by omega) (C_x_fields g1 ?_)
    refine aK_i ?_
    refine aw_icmpge (tgt := 105) dX0_coming_53 (by decide) (fun h53 => ?_) (fun h53 => ?_)
    · have e1 := isum_fld (fun i => (fun v => if 101 ≤ v ∧ 121 < v + b then (1 : Int) else 0) (c i)) hn1 hn2
      rw [ejn] at e1
      rw [e1, ej]
      rw [ejn] at K
      exact K
    · exfalso; omega
  | succ r ih =>
    intro j h1
    have hf := fld_in (n := n) (k := j) (by omega) (by omega)
    have hv9 := rg _ hf.1 hf.2
    have hb := isum_bd (g := fun k => (fun v => if 101 ≤ v ∧ 121 < v + b then (1 : Int) else 0) (c (fld n k))) (B := 1) (n := j) fun i i0 i1 => by
      have hf2 := fld_in (n := n) (k := i) i0 (by omega)
      have hv8 := rg _ hf2.1 hf2.2
      show 0 ≤ (if 101 ≤ (c (fld n i)) ∧ 121 < (c (fld n i)) + b then (1 : Int) else 0) ∧ (if 101 ≤ (c (fld n i)) ∧ 121 < (c (fld n i)) + b then (1 : Int) else 0) ≤ 1
      first
        | omega
        | (split <;> omega)
        | ((repeat' split) <;> omega)
    have es : isum (fun k => (fun v => if 101 ≤ v ∧ 121 < v + b then (1 : Int) else 0) (c (fld n k))) (j + 1) = isum (fun k => (fun v => if 101 ≤ v ∧ 121 < v + b then (1 : Int) else 0) (c (fld n k))) j + (fun v => if 101 ≤ v ∧ 121 < v + b then (1 : Int) else 0) (c (fld n j)) := rfl
    have ih := ih (j + 1) (by omega)
    rw [es] at ih
    refine aw_iload dX0_coming_43 rfl ?_
    refine aw_aload_n dX0_coming_45 rfl ?_
    refine aw_iload_n dX0_coming_46 rfl ?_
    refine c_X0_172 rfl dX0_coming_47 hR.o0 (Nat.le_of_ble_eq_true rfl) (by omega) (C_x_xat2 (a := hv) hR HY h4 ehv ?_)
    refine aK_i ?_
    refine c_X0_344 rfl dX0_coming_50 g1.1 (Nat.le_of_ble_eq_true rfl) (by omega) (C_x_fields g1 ?_)
    refine aK_i ?_
    refine aw_icmpge (tgt := 105) dX0_coming_53 (by decide) (fun h53 => ?_) (fun h53 => ?_)
    · exfalso; omega
    · refine aw_iload_n dX0_coming_56 rfl ?_
      refine aw_aload_n dX0_coming_57 rfl ?_
      refine aw_iload_n dX0_coming_58 rfl ?_
      refine c_X0_172 rfl dX0_coming_59 hR.o0 (Nat.le_of_ble_eq_true rfl) (by omega) (C_x_xat2 (a := hv) hR HY h4 ehv ?_)
      refine aK_i ?_
      refine aw_iload dX0_coming_62 rfl ?_
      refine c_X0_385 rfl dX0_coming_64 g1.1 (Nat.le_of_ble_eq_true rfl) (by omega) (C_x_at g1 g2 (by omega) (by omega) ?_)
      refine aK_i ?_
      refine aw_bipush dX0_coming_67 (by decide) ?_
      refine aw_icmplt (tgt := 96) dX0_coming_69 (by decide) (fun h69 => ?_) (fun h69 => ?_)
      · refine aw_iconst dX0_coming_96 (by decide) ?_
        refine aw_iaddr dX0_coming_97 (by omega) ?_
        refine aw_istore3 dX0_coming_98 (by decide) rfl ?_
        refine aw_iinc4r dX0_coming_99 (by decide) (by decide) rfl (by omega) ?_
        refine aw_goto (tgt := 43) dX0_coming_102 (by decide) ?_
        first
          | (rw [show (fun v => if 101 ≤ v ∧ 121 < v + b then (1 : Int) else 0) (c (fld n j)) = 1 by show _ = _; exact if_pos (by omega)] at ih; exact ih)
          | (rw [show (fun v => if 101 ≤ v ∧ 121 < v + b then (1 : Int) else 0) (c (fld n j)) = 0 by show _ = _; exact if_neg (by omega)] at ih; exact ih)
      · refine aw_aload_n dX0_coming_72 rfl ?_
        refine aw_iload_n dX0_coming_73 rfl ?_
        refine c_X0_172 rfl dX0_coming_74 hR.o0 (Nat.le_of_ble_eq_true rfl) (by omega) (C_x_xat2 (a := hv) hR HY h4 ehv ?_)
        refine aK_i ?_
        refine aw_iload dX0_coming_77 rfl ?_
        refine c_X0_385 rfl dX0_coming_79 g1.1 (Nat.le_of_ble_eq_true rfl) (by omega) (C_x_at g1 g2 (by omega) (by omega) ?_)
        refine aK_i ?_
        refine aw_bipush dX0_coming_82 (by decide) ?_
        refine aw_isubr dX0_coming_84 (by omega) ?_
        refine aw_iload_n dX0_coming_85 rfl ?_
        refine aw_iaddr dX0_coming_86 (by omega) ?_
        refine aw_bipush dX0_coming_87 (by decide) ?_
        refine aw_icmplt (tgt := 96) dX0_coming_89 (by decide) (fun h89 => ?_) (fun h89 => ?_)
        · refine aw_iconst dX0_coming_96 (by decide) ?_
          refine aw_iaddr dX0_coming_97 (by omega) ?_
          refine aw_istore3 dX0_coming_98 (by decide) rfl ?_
          refine aw_iinc4r dX0_coming_99 (by decide) (by decide) rfl (by omega) ?_
          refine aw_goto (tgt := 43) dX0_coming_102 (by decide) ?_
          first
            | (rw [show (fun v => if 101 ≤ v ∧ 121 < v + b then (1 : Int) else 0) (c (fld n j)) = 1 by show _ = _; exact if_pos (by omega)] at ih; exact ih)
            | (rw [show (fun v => if 101 ≤ v ∧ 121 < v + b then (1 : Int) else 0) (c (fld n j)) = 0 by show _ = _; exact if_neg (by omega)] at ih; exact ih)
        · refine aw_iconst dX0_coming_92 (by decide) ?_
          refine aw_goto (tgt := 97) dX0_coming_93 (by decide) ?_
          refine aw_iaddr dX0_coming_97 (by omega) ?_
          refine aw_istore3 dX0_coming_98 (by decide) rfl ?_
          refine aw_iinc4r dX0_coming_99 (by decide) (by decide) rfl (by omega) ?_
          refine aw_goto (tgt := 43) dX0_coming_102 (by decide) ?_
          first
            | (rw [show (fun v => if 101 ≤ v ∧ 121 < v + b then (1 : Int) else 0) (c (fld n j)) = 1 by show _ = _; exact if_pos (by omega)] at ih; exact ih)
            | (rw [show (fun v => if 101 ≤ v ∧ 121 < v + b then (1 : Int) else 0) (c (fld n j)) = 0 by show _ = _; exact if_neg (by omega)] at ih; exact ih)
theorem L_m_coming {ct : Int → Int → Int} {h n a : Int} {b : Int} {Q : aPost} {d kc ks : Nat} (hd : 2 ≤ d) (e : ct 1 h = n) (hn : 1 ≤ n ∧ n ≤ 12) (hh : 0 ≤ h ∧ h + 6 + 16 * n ≤ 7578) (rg : rgF n (sh h (ct 1))) (hb0 : 0 ≤ b ∧ b ≤ 60)
    (K : ∀ f : Int, AW (mq Q) md_X7_coming d kc ks 101 [some (vR 0), some (vI a), some (vI b), some (vI h), some (vI (isum (fun i => (fun v => if 101 ≤ v ∧ 121 < v + b then (1 : Int) else 0) (sh h (ct 1) i)) (nF n))), some (vI f)] [] (gM ct)) : ∀ (r j : Nat) (f : Int), f = h + 6 + j → (j : Int) + r = 16 * n → AW (mq Q) md_X7_coming d kc ks 40 [some (vR 0), some (vI a), some (vI b), some (vI h), some (vI (isum (fun i => (fun v => if 101 ≤ v ∧ 121 < v + b then (1 : Int) else 0) (sh h (ct 1) i)) j)), some (vI f)] [] (gM ct) := by
  intro r
  induction r with
  | zero =>
    intro j f h1 h2
    have ejn : nF n = j := by unfold nF; omega
    rw [ejn] at K
    refine aw_iload dX7_coming_40 rfl ?_
    refine aw_iload_n dX7_coming_42 rfl ?_
    refine aw_bipush dX7_coming_43 (by decide) ?_
    refine aw_iaddr dX7_coming_45 (by omega) ?_
    refine aw_bipush dX7_coming_46 (by decide) ?_
    refine gm_7 rfl dX7_coming_48 dX7_coming_49 rfl ?_
    refine aw_iload_n dX7_coming_52 rfl ?_
    refine aw_iaload dX7_coming_53 m_a1 (by omega) (by omega) ?_
    rw [e]
    refine aw_imulr dX7_coming_54 (by omega) ?_
    refine aw_iaddr dX7_coming_55 (by omega) ?_
    refine aw_icmpge (tgt := 101) dX7_coming_56 (by decide) (fun h56 => ?_) (fun h56 => ?_)
    · exact K _
    · exfalso; omega
  | succ r ih =>
    intro j f h1 h2
    subst h1
    have hv9 : 0 ≤ ct 1 (h + 6 + j) ∧ ct 1 (h + 6 + j) ≤ 121 := rg j (by omega) (by omega)
    have hb := isum_bd (g := fun i => (fun v => if 101 ≤ v ∧ 121 < v + b then (1 : Int) else 0) (sh h (ct 1) i)) (B := 1) (n := j) fun i i0 i1 => by
      have hv8 := rg i i0 (by omega)
      show 0 ≤ (if 101 ≤ (sh h (ct 1) i) ∧ 121 < (sh h (ct 1) i) + b then (1 : Int) else 0) ∧ (if 101 ≤ (sh h (ct 1) i) ∧ 121 < (sh h (ct 1) i) + b then (1 : Int) else 0) ≤ 1
      first
        | omega
        | (split <;> omega)
        | ((repeat' split) <;> omega)
    have es : isum (fun i => (fun v => if 101 ≤ v ∧ 121 < v + b then (1 : Int) else 0) (sh h (ct 1) i)) (j + 1) = isum (fun i => (fun v => if 101 ≤ v ∧ 121 < v + b then (1 : Int) else 0) (sh h (ct 1) i)) j + (fun v => if 101 ≤ v ∧ 121 < v + b then (1 : Int) else 0) (ct 1 (h + 6 + j)) := rfl
    have ih := ih (j + 1) (h + 6 + j + 1) (by omega) (by omega)
    rw [es] at ih
    refine aw_iload dX7_coming_40 rfl ?_
    refine aw_iload_n dX7_coming_42 rfl ?_
    refine aw_bipush dX7_coming_43 (by decide) ?_
    refine aw_iaddr dX7_coming_45 (by omega) ?_
    refine aw_bipush dX7_coming_46 (by decide) ?_
    refine gm_7 rfl dX7_coming_48 dX7_coming_49 rfl ?_
    refine aw_iload_n dX7_coming_52 rfl ?_
    refine aw_iaload dX7_coming_53 m_a1 (by omega) (by omega) ?_
    rw [e]
    refine aw_imulr dX7_coming_54 (by omega) ?_
    refine aw_iaddr dX7_coming_55 (by omega) ?_
    refine aw_icmpge (tgt := 101) dX7_coming_56 (by decide) (fun h56 => ?_) (fun h56 => ?_)
    · exfalso; omega
    · refine aw_iload dX7_coming_59 rfl ?_
      refine gm_7 rfl dX7_coming_61 dX7_coming_62 rfl ?_
      refine aw_iload dX7_coming_65 rfl ?_
      refine aw_iaload dX7_coming_67 m_a1 (by omega) (by omega) ?_
      refine aw_bipush dX7_coming_68 (by decide) ?_
      refine aw_icmplt (tgt := 91) dX7_coming_70 (by decide) (fun h70 => ?_) (fun h70 => ?_)
      · refine aw_iconst dX7_coming_91 (by decide) ?_
        refine aw_iaddr dX7_coming_92 (by omega) ?_
        refine aw_istore4 dX7_coming_93 (by decide) rfl ?_
        refine aw_iinc5r dX7_coming_95 (by decide) (by decide) rfl (by omega) ?_
        refine aw_goto (tgt := 40) dX7_coming_98 (by decide) ?_
        first
          | (rw [show (fun v => if 101 ≤ v ∧ 121 < v + b then (1 : Int) else 0) (ct 1 (h + 6 + j)) = 1 by show _ = _; exact if_pos (by omega)] at ih; exact ih)
          | (rw [show (fun v => if 101 ≤ v ∧ 121 < v + b then (1 : Int) else 0) (ct 1 (h + 6 + j)) = 0 by show _ = _; exact if_neg (by omega)] at ih; exact ih)
      · refine gm_7 rfl dX7_coming_73 dX7_coming_74 rfl ?_
        refine aw_iload dX7_coming_77 rfl ?_
        refine aw_iaload dX7_coming_79 m_a1 (by omega) (by omega) ?_
        refine aw_iload_n dX7_coming_80 rfl ?_
        refine aw_iaddr dX7_coming_81 (by omega) ?_
        refine aw_bipush dX7_coming_82 (by decide) ?_
        refine aw_icmple (tgt := 91) dX7_coming_84 (by decide) (fun h84 => ?_) (fun h84 => ?_)
        · refine aw_iconst dX7_coming_91 (by decide) ?_
          refine aw_iaddr dX7_coming_92 (by omega) ?_
          refine aw_istore4 dX7_coming_93 (by decide) rfl ?_
          refine aw_iinc5r dX7_coming_95 (by decide) (by decide) rfl (by omega) ?_
          refine aw_goto (tgt := 40) dX7_coming_98 (by decide) ?_
          first
            | (rw [show (fun v => if 101 ≤ v ∧ 121 < v + b then (1 : Int) else 0) (ct 1 (h + 6 + j)) = 1 by show _ = _; exact if_pos (by omega)] at ih; exact ih)
            | (rw [show (fun v => if 101 ≤ v ∧ 121 < v + b then (1 : Int) else 0) (ct 1 (h + 6 + j)) = 0 by show _ = _; exact if_neg (by omega)] at ih; exact ih)
        · refine aw_iconst dX7_coming_87 (by decide) ?_
          refine aw_goto (tgt := 92) dX7_coming_88 (by decide) ?_
          refine aw_iaddr dX7_coming_92 (by omega) ?_
          refine aw_istore4 dX7_coming_93 (by decide) rfl ?_
          refine aw_iinc5r dX7_coming_95 (by decide) (by decide) rfl (by omega) ?_
          refine aw_goto (tgt := 40) dX7_coming_98 (by decide) ?_
          first
            | (rw [show (fun v => if 101 ≤ v ∧ 121 < v + b then (1 : Int) else 0) (ct 1 (h + 6 + j)) = 1 by show _ = _; exact if_pos (by omega)] at ih; exact ih)
            | (rw [show (fun v => if 101 ≤ v ∧ 121 < v + b then (1 : Int) else 0) (ct 1 (h + 6 + j)) = 0 by show _ = _; exact if_neg (by omega)] at ih; exact ih)
theorem OP_coming {sz : Int} {im : Int → aIm} {ct cm : Int → Int → Int} (h : XR (sz, im, ct) cm) {a b : Int} (r0 : -2147483648 ≤ a ∧ a < 2147483648) (r1 : -2147483648 ≤ b ∧ b < 2147483648)  : AMet md_X0_coming 4 0 0 [vR 0, vI a, vI b] (sz, im, ct) (XQ md_X7_coming 2 [vR 0, vI a, vI b] cm) := by
  obtain ⟨own, N, hR, HY, HL, HN, HS, HP, HF, HX, hv2, hv3, hv4⟩ := id h
  dsimp only at hR HY HL HS HX hv2 hv3 hv4
  have hp0 := HP.1
  have hp3 := HP.2.1
  have hpq := HP.2.2.2.1.1
  have hps := HP.2.2.2.2.2
  refine AMet.go (L := [some (vR 0), some (vI a), some (vI b), none, none]) mok_X0_coming (Nat.le_of_ble_eq_true rfl) rfl ?_
  refine aw_aload_n dX0_coming_0 rfl ?_
  refine aw_aload_n dX0_coming_1 rfl ?_
  refine aw_iload_n dX0_coming_2 rfl ?_
  refine c_X0_168 rfl dX0_coming_3 hR.o0 (Nat.le_of_ble_eq_true rfl) (by omega) (C_x_isHive hR HY (fun xh => ?_) (fun xh => ?_))
  · refine aK_i ?_
    refine aw_ifeq (tgt := 25) dX0_coming_6 (by decide) (fun h => absurd h (by decide)) (fun _ => ?_)
    refine aw_iload_n dX0_coming_9 rfl ?_
    refine aw_i2l dX0_coming_10 ?_
    refine aw_lconst0 dX0_coming_11 ?_
    refine aw_ldc2 (x := 60) dX0_coming_12 q1075 (by decide) ?_
    refine c_X0_164 rfl dX0_coming_15  (Nat.le_of_ble_eq_true rfl) (by omega) (C_x_isIn (fun hi => ?_) (fun hi => ?_))
    · refine aK_i ?_
      refine aw_ifeq (tgt := 25) dX0_coming_18 (by decide) (fun h => absurd h (by decide)) (fun _ => ?_)
      refine aw_iconst dX0_coming_21 (by decide) ?_
      refine aw_goto (tgt := 26) dX0_coming_22 (by decide) ?_
      refine p_X0_73_0 rfl dX0_coming_26 hR.o0 ?_
      refine aw_aload_n dX0_coming_29 rfl ?_
      refine g_X0_73_0 rfl dX0_coming_30 hR.o0 ?_
      repeat (first | rw [aup_s] | rw [aup_n (by omega)])
      refine aw_ifle (tgt := 38) dX0_coming_33 (by decide) (fun _ => ?_) (fun h => absurd h (by decide))
      obtain ⟨hv, ehv, ⟨g1, g2, ⟨g3, g4, g5, g6, g7⟩, g8, g9, -⟩, nhv0, nhv10, nhv9, nv0, nvhv, nv10, ohv⟩ := (HY.up0 (j := 7) (v := 0) hR.1.2 (by decide)).hv (hR.up0 (j := 7) (v := 0)) (k := a) (by omega) (by omega)
      have gn := g1.2.2.2
      have gh := HP.2.2.1 a (by omega) (by omega)
      have gq := gh.2.2.2.2.1
      have gp := HP.pd.2.1 a (by omega) (by omega)
      refine aw_iconst dX0_coming_38 (by decide) ?_
      refine aw_istore3 dX0_coming_39 (by decide) rfl ?_
      refine aw_iconst dX0_coming_40 (by decide) ?_
      refine aw_istore4 dX0_coming_41 (by decide) rfl ?_
      refine L_x_coming (a := a) (b := b) (by omega) hR HY (by omega) ehv g1 g2 gh.2.1 (by omega) ?_ (16 * cm 1 (64 + 198 * a)).toNat 0 (by omega)
      refine aw_iload_n dX0_coming_105 rfl ?_
      refine aw_ireturn dX0_coming_106 rfl ?_
      refine ⟨_, rfl, ?_⟩
      refine AMet.go (L := [some (vR 0), some (vI a), some (vI b), none, none, none]) mok_X7_coming (Nat.le_of_ble_eq_true rfl) rfl ?_
      refine aw_aload_n dX7_coming_0 rfl ?_
      refine aw_iload_n dX7_coming_1 rfl ?_
      refine c_X7_274 rfl dX7_coming_2 m_ob (Nat.le_of_ble_eq_true rfl) (by omega) (C_m_isHive (fun hh => ?_) (fun hh => ?_))
      · first
          | (exfalso; omega)
          | skip
            refine aK_i ?_
            refine aw_ifeq (tgt := 20) dX7_coming_5 (by decide) (fun h => absurd h (by decide)) (fun _ => ?_)
            refine aw_iload_n dX7_coming_8 rfl ?_
            refine aw_i2l dX7_coming_9 ?_
            refine aw_lconst0 dX7_coming_10 ?_
            refine aw_ldc2 (x := 60) dX7_coming_11 q1822 (by decide) ?_
            refine c_X7_306 rfl dX7_coming_14  (Nat.le_of_ble_eq_true rfl) (by omega) (C_m_isFrom (fun hfr => ?_) (fun hfr => ?_))
            · first
                | (exfalso; omega)
                | skip
                  refine aK_i ?_
                  refine aw_ifne (tgt := 26) dX7_coming_17 (by decide) (fun _ => ?_) (fun h => absurd h (by decide))
                  refine aw_iload_n dX7_coming_26 rfl ?_
                  refine c_X7_217 rfl dX7_coming_27  (Nat.le_of_ble_eq_true rfl) (by omega) (C_m_hiveRow (by omega) ?_)
                  refine aK_i ?_
                  refine aw_istore3 dX7_coming_30 (by decide) rfl ?_
                  refine aw_iconst dX7_coming_31 (by decide) ?_
                  refine aw_istore4 dX7_coming_32 (by decide) rfl ?_
                  refine aw_iload_n dX7_coming_34 rfl ?_
                  refine aw_bipush dX7_coming_35 (by decide) ?_
                  refine aw_iaddr dX7_coming_37 (by omega) ?_
                  refine aw_istore5 dX7_coming_38 (by decide) rfl ?_
                  refine L_m_coming (a := a) (b := b) (h := 64 + 198 * a) (by omega) rfl gh.1 (by omega) gh.2.1 (by omega) (fun f => ?_) (16 * cm 1 (64 + 198 * a)).toNat 0 _ (by omega) (by omega)
                  refine aw_aload_n dX7_coming_101 rfl ?_
                  refine aw_iload dX7_coming_102 rfl ?_
                  refine c_X7_76 rfl dX7_coming_104 m_ob (Nat.le_of_ble_eq_true rfl) (by omega) (C_m_gives ?_)
                  refine aK_i ?_
                  refine aw_ireturn dX7_coming_107 rfl ?_
                  first
                    | (exfalso; omega)
                    | (refine XR.sameE h ?_ ?_ ?_ ?_ ?_ ?_
                       · first
                           | rfl
                           | omega
                       · repeat (first | exact xs.rf | refine xs.up ?_ (by decide))
                       · repeat (first | exact mss.rf | refine mss.up0 ?_ (by decide))
                       · first
                           | (simp [aup, hv2, hv3, hv4]; done)
                           | (simp [aup, hv2, hv3, hv4]; omega)
                       · simp [aup, hv2, hv3, hv4]
                       · simp [aup, hv2, hv3, hv4])
            · first
                | (exfalso; omega)
                | skip
                  refine aK_i ?_
                  refine aw_ifne (tgt := 26) dX7_coming_17 (by decide) (fun h => absurd h (by decide)) (fun _ => ?_)
                  refine aw_aload_n dX7_coming_20 rfl ?_
                  refine aw_iconst dX7_coming_21 (by decide) ?_
                  refine c_X7_72 rfl dX7_coming_22 m_ob (Nat.le_of_ble_eq_true rfl) (by omega) (C_m_refuse ?_)
                  refine aK_i ?_
                  refine aw_ireturn dX7_coming_25 rfl ?_
                  first
                    | (exfalso; omega)
                    | (refine XR.sameE h ?_ ?_ ?_ ?_ ?_ ?_
                       · first
                           | rfl
                           | omega
                       · repeat (first | exact xs.rf | refine xs.up ?_ (by decide))
                       · repeat (first | exact mss.rf | refine mss.up0 ?_ (by decide))
                       · first
                           | (simp [aup, hv2, hv3, hv4]; done)
                           | (simp [aup, hv2, hv3, hv4]; omega)
                       · simp [aup, hv2, hv3, hv4]
                       · simp [aup, hv2, hv3, hv4])
      · first
          | (exfalso; omega)
          | skip
            refine aK_i ?_
            refine aw_ifeq (tgt := 20) dX7_coming_5 (by decide) (fun _ => ?_) (fun h => absurd h (by decide))
            refine aw_aload_n dX7_coming_20 rfl ?_
            refine aw_iconst dX7_coming_21 (by decide) ?_
            refine c_X7_72 rfl dX7_coming_22 m_ob (Nat.le_of_ble_eq_true rfl) (by omega) (C_m_refuse ?_)
            refine aK_i ?_
            refine aw_ireturn dX7_coming_25 rfl ?_
            first
              | (exfalso; omega)
              | (refine XR.sameE h ?_ ?_ ?_ ?_ ?_ ?_
                 · first
                     | rfl
                     | omega
                 · repeat (first | exact xs.rf | refine xs.up ?_ (by decide))
                 · repeat (first | exact mss.rf | refine mss.up0 ?_ (by decide))
                 · first
                     | (simp [aup, hv2, hv3, hv4]; done)
                     | (simp [aup, hv2, hv3, hv4]; omega)
                 · simp [aup, hv2, hv3, hv4]
                 · simp [aup, hv2, hv3, hv4])
    · refine aK_i ?_
      refine aw_ifeq (tgt := 25) dX0_coming_18 (by decide) (fun _ => ?_) (fun h => absurd h (by decide))
      refine aw_iconst dX0_coming_25 (by decide) ?_
      refine p_X0_73_0 rfl dX0_coming_26 hR.o0 ?_
      refine aw_aload_n dX0_coming_29 rfl ?_
      refine g_X0_73_0 rfl dX0_coming_30 hR.o0 ?_
      repeat (first | rw [aup_s] | rw [aup_n (by omega)])
      refine aw_ifle (tgt := 38) dX0_coming_33 (by decide) (fun h => absurd h (by decide)) (fun _ => ?_)
      refine aw_iconst dX0_coming_36 (by decide) ?_
      refine aw_ireturn dX0_coming_37 rfl ?_
      refine ⟨_, rfl, ?_⟩
      refine AMet.go (L := [some (vR 0), some (vI a), some (vI b), none, none, none]) mok_X7_coming (Nat.le_of_ble_eq_true rfl) rfl ?_
      refine aw_aload_n dX7_coming_0 rfl ?_
      refine aw_iload_n dX7_coming_1 rfl ?_
      refine c_X7_274 rfl dX7_coming_2 m_ob (Nat.le_of_ble_eq_true rfl) (by omega) (C_m_isHive (fun hh => ?_) (fun hh => ?_))
      · first
          | (exfalso; omega)
          | skip
            refine aK_i ?_
            refine aw_ifeq (tgt := 20) dX7_coming_5 (by decide) (fun h => absurd h (by decide)) (fun _ => ?_)
            refine aw_iload_n dX7_coming_8 rfl ?_
            refine aw_i2l dX7_coming_9 ?_
            refine aw_lconst0 dX7_coming_10 ?_
            refine aw_ldc2 (x := 60) dX7_coming_11 q1822 (by decide) ?_
            refine c_X7_306 rfl dX7_coming_14  (Nat.le_of_ble_eq_true rfl) (by omega) (C_m_isFrom (fun hfr => ?_) (fun hfr => ?_))
            · first
                | (exfalso; omega)
                | skip
                  refine aK_i ?_
                  refine aw_ifne (tgt := 26) dX7_coming_17 (by decide) (fun _ => ?_) (fun h => absurd h (by decide))
                  refine aw_iload_n dX7_coming_26 rfl ?_
                  refine c_X7_217 rfl dX7_coming_27  (Nat.le_of_ble_eq_true rfl) (by omega) (C_m_hiveRow (by omega) ?_)
                  refine aK_i ?_
                  refine aw_istore3 dX7_coming_30 (by decide) rfl ?_
                  refine aw_iconst dX7_coming_31 (by decide) ?_
                  refine aw_istore4 dX7_coming_32 (by decide) rfl ?_
                  refine aw_iload_n dX7_coming_34 rfl ?_
                  refine aw_bipush dX7_coming_35 (by decide) ?_
                  refine aw_iaddr dX7_coming_37 (by omega) ?_
                  refine aw_istore5 dX7_coming_38 (by decide) rfl ?_
                  refine L_m_coming (a := a) (b := b) (h := 64 + 198 * a) (by omega) rfl gh.1 (by omega) gh.2.1 (by omega) (fun f => ?_) (16 * cm 1 (64 + 198 * a)).toNat 0 _ (by omega) (by omega)
                  refine aw_aload_n dX7_coming_101 rfl ?_
                  refine aw_iload dX7_coming_102 rfl ?_
                  refine c_X7_76 rfl dX7_coming_104 m_ob (Nat.le_of_ble_eq_true rfl) (by omega) (C_m_gives ?_)
                  refine aK_i ?_
                  refine aw_ireturn dX7_coming_107 rfl ?_
                  first
                    | (exfalso; omega)
                    | (refine XR.sameE h ?_ ?_ ?_ ?_ ?_ ?_
                       · first
                           | rfl
                           | omega
                       · repeat (first | exact xs.rf | refine xs.up ?_ (by decide))
                       · repeat (first | exact mss.rf | refine mss.up0 ?_ (by decide))
                       · first
                           | (simp [aup, hv2, hv3, hv4]; done)
                           | (simp [aup, hv2, hv3, hv4]; omega)
                       · simp [aup, hv2, hv3, hv4]
                       · simp [aup, hv2, hv3, hv4])
            · first
                | (exfalso; omega)
                | skip
                  refine aK_i ?_
                  refine aw_ifne (tgt := 26) dX7_coming_17 (by decide) (fun h => absurd h (by decide)) (fun _ => ?_)
                  refine aw_aload_n dX7_coming_20 rfl ?_
                  refine aw_iconst dX7_coming_21 (by decide) ?_
                  refine c_X7_72 rfl dX7_coming_22 m_ob (Nat.le_of_ble_eq_true rfl) (by omega) (C_m_refuse ?_)
                  refine aK_i ?_
                  refine aw_ireturn dX7_coming_25 rfl ?_
                  first
                    | (exfalso; omega)
                    | (refine XR.sameE h ?_ ?_ ?_ ?_ ?_ ?_
                       · first
                           | rfl
                           | omega
                       · repeat (first | exact xs.rf | refine xs.up ?_ (by decide))
                       · repeat (first | exact mss.rf | refine mss.up0 ?_ (by decide))
                       · first
                           | (simp [aup, hv2, hv3, hv4]; done)
                           | (simp [aup, hv2, hv3, hv4]; omega)
                       · simp [aup, hv2, hv3, hv4]
                       · simp [aup, hv2, hv3, hv4])
      · first
          | (exfalso; omega)
          | skip
            refine aK_i ?_
            refine aw_ifeq (tgt := 20) dX7_coming_5 (by decide) (fun _ => ?_) (fun h => absurd h (by decide))
            refine aw_aload_n dX7_coming_20 rfl ?_
            refine aw_iconst dX7_coming_21 (by decide) ?_
            refine c_X7_72 rfl dX7_coming_22 m_ob (Nat.le_of_ble_eq_true rfl) (by omega) (C_m_refuse ?_)
            refine aK_i ?_
            refine aw_ireturn dX7_coming_25 rfl ?_
            first
              | (exfalso; omega)
              | (refine XR.sameE h ?_ ?_ ?_ ?_ ?_ ?_
                 · first
                     | rfl
                     | omega
                 · repeat (first | exact xs.rf | refine xs.up ?_ (by decide))
                 · repeat (first | exact mss.rf | refine mss.up0 ?_ (by decide))
                 · first
                     | (simp [aup, hv2, hv3, hv4]; done)
                     | (simp [aup, hv2, hv3, hv4]; omega)
                 · simp [aup, hv2, hv3, hv4]
                 · simp [aup, hv2, hv3, hv4])
  · refine aK_i ?_
    refine aw_ifeq (tgt := 25) dX0_coming_6 (by decide) (fun _ => ?_) (fun h => absurd h (by decide))
    refine aw_iconst dX0_coming_25 (by decide) ?_
    refine p_X0_73_0 rfl dX0_coming_26 hR.o0 ?_
    refine aw_aload_n dX0_coming_29 rfl ?_
    refine g_X0_73_0 rfl dX0_coming_30 hR.o0 ?_
    repeat (first | rw [aup_s] | rw [aup_n (by omega)])
    refine aw_ifle (tgt := 38) dX0_coming_33 (by decide) (fun h => absurd h (by decide)) (fun _ => ?_)
    refine aw_iconst dX0_coming_36 (by decide) ?_
    refine aw_ireturn dX0_coming_37 rfl ?_
    refine ⟨_, rfl, ?_⟩
    refine AMet.go (L := [some (vR 0), some (vI a), some (vI b), none, none, none]) mok_X7_coming (Nat.le_of_ble_eq_true rfl) rfl ?_
    refine aw_aload_n dX7_coming_0 rfl ?_
    refine aw_iload_n dX7_coming_1 rfl ?_
    refine c_X7_274 rfl dX7_coming_2 m_ob (Nat.le_of_ble_eq_true rfl) (by omega) (C_m_isHive (fun hh => ?_) (fun hh => ?_))
    · first
        | (exfalso; omega)
        | skip
          refine aK_i ?_
          refine aw_ifeq (tgt := 20) dX7_coming_5 (by decide) (fun h => absurd h (by decide)) (fun _ => ?_)
          refine aw_iload_n dX7_coming_8 rfl ?_
          refine aw_i2l dX7_coming_9 ?_
          refine aw_lconst0 dX7_coming_10 ?_
          refine aw_ldc2 (x := 60) dX7_coming_11 q1822 (by decide) ?_
          refine c_X7_306 rfl dX7_coming_14  (Nat.le_of_ble_eq_true rfl) (by omega) (C_m_isFrom (fun hfr => ?_) (fun hfr => ?_))
          · first
              | (exfalso; omega)
              | skip
                refine aK_i ?_
                refine aw_ifne (tgt := 26) dX7_coming_17 (by decide) (fun _ => ?_) (fun h => absurd h (by decide))
                refine aw_iload_n dX7_coming_26 rfl ?_
                refine c_X7_217 rfl dX7_coming_27  (Nat.le_of_ble_eq_true rfl) (by omega) (C_m_hiveRow (by omega) ?_)
                refine aK_i ?_
                refine aw_istore3 dX7_coming_30 (by decide) rfl ?_
                refine aw_iconst dX7_coming_31 (by decide) ?_
                refine aw_istore4 dX7_coming_32 (by decide) rfl ?_
                refine aw_iload_n dX7_coming_34 rfl ?_
                refine aw_bipush dX7_coming_35 (by decide) ?_
                refine aw_iaddr dX7_coming_37 (by omega) ?_
                refine aw_istore5 dX7_coming_38 (by decide) rfl ?_
                refine L_m_coming (a := a) (b := b) (h := 64 + 198 * a) (by omega) rfl gh.1 (by omega) gh.2.1 (by omega) (fun f => ?_) (16 * cm 1 (64 + 198 * a)).toNat 0 _ (by omega) (by omega)
                refine aw_aload_n dX7_coming_101 rfl ?_
                refine aw_iload dX7_coming_102 rfl ?_
                refine c_X7_76 rfl dX7_coming_104 m_ob (Nat.le_of_ble_eq_true rfl) (by omega) (C_m_gives ?_)
                refine aK_i ?_
                refine aw_ireturn dX7_coming_107 rfl ?_
                first
                  | (exfalso; omega)
                  | (refine XR.sameE h ?_ ?_ ?_ ?_ ?_ ?_
                     · first
                         | rfl
                         | omega
                     · repeat (first | exact xs.rf | refine xs.up ?_ (by decide))
                     · repeat (first | exact mss.rf | refine mss.up0 ?_ (by decide))
                     · first
                         | (simp [aup, hv2, hv3, hv4]; done)
                         | (simp [aup, hv2, hv3, hv4]; omega)
                     · simp [aup, hv2, hv3, hv4]
                     · simp [aup, hv2, hv3, hv4])
          · first
              | (exfalso; omega)
              | skip
                refine aK_i ?_
                refine aw_ifne (tgt := 26) dX7_coming_17 (by decide) (fun h => absurd h (by decide)) (fun _ => ?_)
                refine aw_aload_n dX7_coming_20 rfl ?_
                refine aw_iconst dX7_coming_21 (by decide) ?_
                refine c_X7_72 rfl dX7_coming_22 m_ob (Nat.le_of_ble_eq_true rfl) (by omega) (C_m_refuse ?_)
                refine aK_i ?_
                refine aw_ireturn dX7_coming_25 rfl ?_
                first
                  | (exfalso; omega)
                  | (refine XR.sameE h ?_ ?_ ?_ ?_ ?_ ?_
                     · first
                         | rfl
                         | omega
                     · repeat (first | exact xs.rf | refine xs.up ?_ (by decide))
                     · repeat (first | exact mss.rf | refine mss.up0 ?_ (by decide))
                     · first
                         | (simp [aup, hv2, hv3, hv4]; done)
                         | (simp [aup, hv2, hv3, hv4]; omega)
                     · simp [aup, hv2, hv3, hv4]
                     · simp [aup, hv2, hv3, hv4])
    · first
        | (exfalso; omega)
        | skip
          refine aK_i ?_
          refine aw_ifeq (tgt := 20) dX7_coming_5 (by decide) (fun _ => ?_) (fun h => absurd h (by decide))
          refine aw_aload_n dX7_coming_20 rfl ?_
          refine aw_iconst dX7_coming_21 (by decide) ?_
          refine c_X7_72 rfl dX7_coming_22 m_ob (Nat.le_of_ble_eq_true rfl) (by omega) (C_m_refuse ?_)
          refine aK_i ?_
          refine aw_ireturn dX7_coming_25 rfl ?_
          first
            | (exfalso; omega)
            | (refine XR.sameE h ?_ ?_ ?_ ?_ ?_ ?_
               · first
                   | rfl
                   | omega
               · repeat (first | exact xs.rf | refine xs.up ?_ (by decide))
               · repeat (first | exact mss.rf | refine mss.up0 ?_ (by decide))
               · first
                   | (simp [aup, hv2, hv3, hv4]; done)
                   | (simp [aup, hv2, hv3, hv4]; omega)
               · simp [aup, hv2, hv3, hv4]
               · simp [aup, hv2, hv3, hv4])
theorem L_x_between {own : Int → Int} {sz : Int} {im : Int → aIm} {ct ct0 ct2 : Int → Int → Int} {a hv n dd : Int} {s N c : Int → Int} {Q : aPost} {d kc ks : Nat} {b e : Int} (hd : 4 ≤ d) (hR : RT own sz im ct0) (HY : YR own 0 sz im ct2 10 s dd N) (h4 : 0 ≤ a ∧ a < 4) (ehv : ct ((im 10).2.2 1) a = hv) (g1 : HvS sz im hv n) (g2 : HvC sz im ct hv n c) (rg : rgF n c) (hb0 : (0 ≤ b ∧ b ≤ 20) ∧ b ≤ e ∧ e ≤ 20)
    (K : AW (mq Q) md_X0_between d kc ks 113 [some (vR 0), some (vI a), some (vI b), some (vI e), some (vI (isum (fun i => (fun v => if 101 + b ≤ v ∧ v ≤ 101 + e then (1 : Int) else 0) (c i)) (nF n))), some (vI (16 * n))] [] (sz, im, ct)) : ∀ (r j : Nat), (j : Int) + r = 16 * n → AW (mq Q) md_X0_between d kc ks 57 [some (vR 0), some (vI a), some (vI b), some (vI e), some (vI (isum (fun k => (fun v => if 101 + b ≤ v ∧ v ≤ 101 + e then (1 : Int) else 0) (c (fld n k))) j)), some (vI j)] [] (sz, im, ct) := by
  have hn1 := g1.2.2.2.1
  have hn2 := g1.2.2.2.2
  intro r
  induction r with
  | zero =>
    intro j h1
    have ej : (j : Int) = 16 * n := by omega
    have ejn : nF n = j := by unfold nF; omega
    refine aw_iload dX0_between_57 rfl ?_
    refine aw_aload_n dX0_between_59 rfl ?_
    refine aw_iload_n dX0_between_60 rfl ?_
    refine c_X0_172 rfl dX0_between_61 hR.o0 (Nat.le_of_ble_eq_true rfl) (by omega) (C_x_xat2 (a := hv) hR HY h4 ehv ?_)
    refine aK_i ?_
    refine c_X0_344 rfl dX0_between_64 g1.1 (Nat.le_of_ble_eq_true rfl) (by omega) (C_x_fields g1 ?_)
    refine aK_i ?_
    refine aw_icmpge (tgt := 113) dX0_between_67 (by decide) (fun h67 => ?_) (fun h67 => ?_)
    · have e1 := isum_fld (fun i => (fun v => if 101 + b ≤ v ∧ v ≤ 101 + e then (1 : Int) else 0) (c i)) hn1 hn2
      rw [ejn] at e1
      rw [e1, ej]
      rw [ejn] at K
      exact K
    · exfalso; omega
  | succ r ih =>
    intro j h1
    have hf := fld_in (n := n) (k := j) (by omega) (by omega)
    have hv9 := rg _ hf.1 hf.2
    have hb := isum_bd (g := fun k => (fun v => if 101 + b ≤ v ∧ v ≤ 101 + e then (1 : Int) else 0) (c (fld n k))) (B := 1) (n := j) fun i i0 i1 => by
      have hf2 := fld_in (n := n) (k := i) i0 (by omega)
      have hv8 := rg _ hf2.1 hf2.2
      show 0 ≤ (if 101 + b ≤ (c (fld n i)) ∧ (c (fld n i)) ≤ 101 + e then (1 : Int) else 0) ∧ (if 101 + b ≤ (c (fld n i)) ∧ (c (fld n i)) ≤ 101 + e then (1 : Int) else 0) ≤ 1
      first
        | omega
        | (split <;> omega)
        | ((repeat' split) <;> omega)
    have es : isum (fun k => (fun v => if 101 + b ≤ v ∧ v ≤ 101 + e then (1 : Int) else 0) (c (fld n k))) (j + 1) = isum (fun k => (fun v => if 101 + b ≤ v ∧ v ≤ 101 + e then (1 : Int) else 0) (c (fld n k))) j + (fun v => if 101 + b ≤ v ∧ v ≤ 101 + e then (1 : Int) else 0) (c (fld n j)) := rfl
    have ih := ih (j + 1) (by omega)
    rw [es] at ih
    refine aw_iload dX0_between_57 rfl ?_
    refine aw_aload_n dX0_between_59 rfl ?_
    refine aw_iload_n dX0_between_60 rfl ?_
    refine c_X0_172 rfl dX0_between_61 hR.o0 (Nat.le_of_ble_eq_true rfl) (by omega) (C_x_xat2 (a := hv) hR HY h4 ehv ?_)
    refine aK_i ?_
    refine c_X0_344 rfl dX0_between_64 g1.1 (Nat.le_of_ble_eq_true rfl) (by omega) (C_x_fields g1 ?_)
    refine aK_i ?_
    refine aw_icmpge (tgt := 113) dX0_between_67 (by decide) (fun h67 => ?_) (fun h67 => ?_)
    · exfalso; omega
    · refine aw_iload dX0_between_70 rfl ?_
      refine aw_aload_n dX0_between_72 rfl ?_
      refine aw_iload_n dX0_between_73 rfl ?_
      refine c_X0_172 rfl dX0_between_74 hR.o0 (Nat.le_of_ble_eq_true rfl) (by omega) (C_x_xat2 (a := hv) hR HY h4 ehv ?_)
      refine aK_i ?_
      refine aw_iload dX0_between_77 rfl ?_
      refine c_X0_385 rfl dX0_between_79 g1.1 (Nat.le_of_ble_eq_true rfl) (by omega) (C_x_at g1 g2 (by omega) (by omega) ?_)
      refine aK_i ?_
      refine aw_i2l dX0_between_82 ?_
      refine aw_bipush dX0_between_83 (by decide) ?_
      refine aw_iload_n dX0_between_85 rfl ?_
      refine aw_iaddr dX0_between_86 (by omega) ?_
      refine aw_i2l dX0_between_87 ?_
      refine aw_bipush dX0_between_88 (by decide) ?_
      refine aw_iload_n dX0_between_90 rfl ?_
      refine aw_iaddr dX0_between_91 (by omega) ?_
      refine aw_i2l dX0_between_92 ?_
      refine c_X0_164 rfl dX0_between_93  (Nat.le_of_ble_eq_true rfl) (by omega) (C_x_isIn (fun hi => ?_) (fun hi => ?_))
      · refine aK_i ?_
        refine aw_ifeq (tgt := 103) dX0_between_96 (by decide) (fun h => absurd h (by decide)) (fun _ => ?_)
        refine aw_iconst dX0_between_99 (by decide) ?_
        refine aw_goto (tgt := 104) dX0_between_100 (by decide) ?_
        refine aw_iaddr dX0_between_104 (by omega) ?_
        refine aw_istore4 dX0_between_105 (by decide) rfl ?_
        refine aw_iinc5r dX0_between_107 (by decide) (by decide) rfl (by omega) ?_
        refine aw_goto (tgt := 57) dX0_between_110 (by decide) ?_
        first
          | (rw [show (fun v => if 101 + b ≤ v ∧ v ≤ 101 + e then (1 : Int) else 0) (c (fld n j)) = 1 by show _ = _; exact if_pos (by omega)] at ih; exact ih)
          | (rw [show (fun v => if 101 + b ≤ v ∧ v ≤ 101 + e then (1 : Int) else 0) (c (fld n j)) = 0 by show _ = _; exact if_neg (by omega)] at ih; exact ih)
      · refine aK_i ?_
        refine aw_ifeq (tgt := 103) dX0_between_96 (by decide) (fun _ => ?_) (fun h => absurd h (by decide))
        refine aw_iconst dX0_between_103 (by decide) ?_
        refine aw_iaddr dX0_between_104 (by omega) ?_
        refine aw_istore4 dX0_between_105 (by decide) rfl ?_
        refine aw_iinc5r dX0_between_107 (by decide) (by decide) rfl (by omega) ?_
        refine aw_goto (tgt := 57) dX0_between_110 (by decide) ?_
        first
          | (rw [show (fun v => if 101 + b ≤ v ∧ v ≤ 101 + e then (1 : Int) else 0) (c (fld n j)) = 1 by show _ = _; exact if_pos (by omega)] at ih; exact ih)
          | (rw [show (fun v => if 101 + b ≤ v ∧ v ≤ 101 + e then (1 : Int) else 0) (c (fld n j)) = 0 by show _ = _; exact if_neg (by omega)] at ih; exact ih)
theorem L_m_between {ct : Int → Int → Int} {h n a : Int} {b e9 : Int} {Q : aPost} {d kc ks : Nat} (hd : 2 ≤ d) (e : ct 1 h = n) (hn : 1 ≤ n ∧ n ≤ 12) (hh : 0 ≤ h ∧ h + 6 + 16 * n ≤ 7578) (rg : rgF n (sh h (ct 1))) (hb0 : (0 ≤ b ∧ b ≤ 20) ∧ b ≤ e9 ∧ e9 ≤ 20)
    (K : ∀ f : Int, AW (mq Q) md_X7_between d kc ks 116 [some (vR 0), some (vI a), some (vI b), some (vI e9), some (vI h), some (vI (isum (fun i => (fun v => if 101 + b ≤ v ∧ v ≤ 101 + e9 then (1 : Int) else 0) (sh h (ct 1) i)) (nF n))), some (vI f)] [] (gM ct)) : ∀ (r j : Nat) (f : Int), f = h + 6 + j → (j : Int) + r = 16 * n → AW (mq Q) md_X7_between d kc ks 55 [some (vR 0), some (vI a), some (vI b), some (vI e9), some (vI h), some (vI (isum (fun i => (fun v => if 101 + b ≤ v ∧ v ≤ 101 + e9 then (1 : Int) else 0) (sh h (ct 1) i)) j)), some (vI f)] [] (gM ct) := by
  intro r
  induction r with
  | zero =>
    intro j f h1 h2
    have ejn : nF n = j := by unfold nF; omega
    rw [ejn] at K
    refine aw_iload dX7_between_55 rfl ?_
    refine aw_iload dX7_between_57 rfl ?_
    refine aw_bipush dX7_between_59 (by decide) ?_
    refine aw_iaddr dX7_between_61 (by omega) ?_
    refine aw_bipush dX7_between_62 (by decide) ?_
    refine gm_7 rfl dX7_between_64 dX7_between_65 rfl ?_
    refine aw_iload dX7_between_68 rfl ?_
    refine aw_iaload dX7_between_70 m_a1 (by omega) (by omega) ?_
    rw [e]
    refine aw_imulr dX7_between_71 (by omega) ?_
    refine aw_iaddr dX7_between_72 (by omega) ?_
    refine aw_icmpge (tgt := 116) dX7_between_73 (by decide) (fun h73 => ?_) (fun h73 => ?_)
    · exact K _
    · exfalso; omega
  | succ r ih =>
    intro j f h1 h2
    subst h1
    have hv9 : 0 ≤ ct 1 (h + 6 + j) ∧ ct 1 (h + 6 + j) ≤ 121 := rg j (by omega) (by omega)
    have hb := isum_bd (g := fun i => (fun v => if 101 + b ≤ v ∧ v ≤ 101 + e9 then (1 : Int) else 0) (sh h (ct 1) i)) (B := 1) (n := j) fun i i0 i1 => by
      have hv8 := rg i i0 (by omega)
      show 0 ≤ (if 101 + b ≤ (sh h (ct 1) i) ∧ (sh h (ct 1) i) ≤ 101 + e9 then (1 : Int) else 0) ∧ (if 101 + b ≤ (sh h (ct 1) i) ∧ (sh h (ct 1) i) ≤ 101 + e9 then (1 : Int) else 0) ≤ 1
      first
        | omega
        | (split <;> omega)
        | ((repeat' split) <;> omega)
    have es : isum (fun i => (fun v => if 101 + b ≤ v ∧ v ≤ 101 + e9 then (1 : Int) else 0) (sh h (ct 1) i)) (j + 1) = isum (fun i => (fun v => if 101 + b ≤ v ∧ v ≤ 101 + e9 then (1 : Int) else 0) (sh h (ct 1) i)) j + (fun v => if 101 + b ≤ v ∧ v ≤ 101 + e9 then (1 : Int) else 0) (ct 1 (h + 6 + j)) := rfl
    have ih := ih (j + 1) (h + 6 + j + 1) (by omega) (by omega)
    rw [es] at ih
    refine aw_iload dX7_between_55 rfl ?_
    refine aw_iload dX7_between_57 rfl ?_
    refine aw_bipush dX7_between_59 (by decide) ?_
    refine aw_iaddr dX7_between_61 (by omega) ?_
    refine aw_bipush dX7_between_62 (by decide) ?_
    refine gm_7 rfl dX7_between_64 dX7_between_65 rfl ?_
    refine aw_iload dX7_between_68 rfl ?_
    refine aw_iaload dX7_between_70 m_a1 (by omega) (by omega) ?_
    rw [e]
    refine aw_imulr dX7_between_71 (by omega) ?_
    refine aw_iaddr dX7_between_72 (by omega) ?_
    refine aw_icmpge (tgt := 116) dX7_between_73 (by decide) (fun h73 => ?_) (fun h73 => ?_)
    · exfalso; omega
    · refine aw_iload dX7_between_76 rfl ?_
      refine gm_7 rfl dX7_between_78 dX7_between_79 rfl ?_
      refine aw_iload dX7_between_82 rfl ?_
      refine aw_iaload dX7_between_84 m_a1 (by omega) (by omega) ?_
      refine aw_i2l dX7_between_85 ?_
      refine aw_bipush dX7_between_86 (by decide) ?_
      refine aw_iload_n dX7_between_88 rfl ?_
      refine aw_iaddr dX7_between_89 (by omega) ?_
      refine aw_i2l dX7_between_90 ?_
      refine aw_bipush dX7_between_91 (by decide) ?_
      refine aw_iload_n dX7_between_93 rfl ?_
      refine aw_iaddr dX7_between_94 (by omega) ?_
      refine aw_i2l dX7_between_95 ?_
      refine c_X7_306 rfl dX7_between_96  (Nat.le_of_ble_eq_true rfl) (by omega) (C_m_isFrom (fun hfr => ?_) (fun hfr => ?_))
      · refine aK_i ?_
        refine aw_ifeq (tgt := 106) dX7_between_99 (by decide) (fun h => absurd h (by decide)) (fun _ => ?_)
        refine aw_iconst dX7_between_102 (by decide) ?_
        refine aw_goto (tgt := 107) dX7_between_103 (by decide) ?_
        refine aw_iaddr dX7_between_107 (by omega) ?_
        refine aw_istore5 dX7_between_108 (by decide) rfl ?_
        refine aw_iinc6r dX7_between_110 (by decide) (by decide) rfl (by omega) ?_
        refine aw_goto (tgt := 55) dX7_between_113 (by decide) ?_
        first
          | (rw [show (fun v => if 101 + b ≤ v ∧ v ≤ 101 + e9 then (1 : Int) else 0) (ct 1 (h + 6 + j)) = 1 by show _ = _; exact if_pos (by omega)] at ih; exact ih)
          | (rw [show (fun v => if 101 + b ≤ v ∧ v ≤ 101 + e9 then (1 : Int) else 0) (ct 1 (h + 6 + j)) = 0 by show _ = _; exact if_neg (by omega)] at ih; exact ih)
      · refine aK_i ?_
        refine aw_ifeq (tgt := 106) dX7_between_99 (by decide) (fun _ => ?_) (fun h => absurd h (by decide))
        refine aw_iconst dX7_between_106 (by decide) ?_
        refine aw_iaddr dX7_between_107 (by omega) ?_
        refine aw_istore5 dX7_between_108 (by decide) rfl ?_
        refine aw_iinc6r dX7_between_110 (by decide) (by decide) rfl (by omega) ?_
        refine aw_goto (tgt := 55) dX7_between_113 (by decide) ?_
        first
          | (rw [show (fun v => if 101 + b ≤ v ∧ v ≤ 101 + e9 then (1 : Int) else 0) (ct 1 (h + 6 + j)) = 1 by show _ = _; exact if_pos (by omega)] at ih; exact ih)
          | (rw [show (fun v => if 101 + b ≤ v ∧ v ≤ 101 + e9 then (1 : Int) else 0) (ct 1 (h + 6 + j)) = 0 by show _ = _; exact if_neg (by omega)] at ih; exact ih)
theorem OP_between {sz : Int} {im : Int → aIm} {ct cm : Int → Int → Int} (h : XR (sz, im, ct) cm) {a b c : Int} (r0 : -2147483648 ≤ a ∧ a < 2147483648) (r1 : -2147483648 ≤ b ∧ b < 2147483648) (r2 : -2147483648 ≤ c ∧ c < 2147483648)  : AMet md_X0_between 4 0 0 [vR 0, vI a, vI b, vI c] (sz, im, ct) (XQ md_X7_between 3 [vR 0, vI a, vI b, vI c] cm) := by
  obtain ⟨own, N, hR, HY, HL, HN, HS, HP, HF, HX, hv2, hv3, hv4⟩ := id h
  dsimp only at hR HY HL HS HX hv2 hv3 hv4
  have hp0 := HP.1
  have hp3 := HP.2.1
  have hpq := HP.2.2.2.1.1
  have hps := HP.2.2.2.2.2
  refine AMet.go (L := [some (vR 0), some (vI a), some (vI b), some (vI c), none, none]) mok_X0_between (Nat.le_of_ble_eq_true rfl) rfl ?_
  refine aw_aload_n dX0_between_0 rfl ?_
  refine aw_aload_n dX0_between_1 rfl ?_
  refine aw_iload_n dX0_between_2 rfl ?_
  refine c_X0_168 rfl dX0_between_3 hR.o0 (Nat.le_of_ble_eq_true rfl) (by omega) (C_x_isHive hR HY (fun xh => ?_) (fun xh => ?_))
  · refine aK_i ?_
    refine aw_ifeq (tgt := 38) dX0_between_6 (by decide) (fun h => absurd h (by decide)) (fun _ => ?_)
    refine aw_iload_n dX0_between_9 rfl ?_
    refine aw_i2l dX0_between_10 ?_
    refine aw_lconst0 dX0_between_11 ?_
    refine aw_ldc2 (x := 20) dX0_between_12 q1265 (by decide) ?_
    refine c_X0_164 rfl dX0_between_15  (Nat.le_of_ble_eq_true rfl) (by omega) (C_x_isIn (fun hi => ?_) (fun hi => ?_))
    · refine aK_i ?_
      refine aw_ifeq (tgt := 38) dX0_between_18 (by decide) (fun h => absurd h (by decide)) (fun _ => ?_)
      refine aw_iload_n dX0_between_21 rfl ?_
      refine aw_i2l dX0_between_22 ?_
      refine aw_iload_n dX0_between_23 rfl ?_
      refine aw_i2l dX0_between_24 ?_
      refine aw_ldc2 (x := 20) dX0_between_25 q1265 (by decide) ?_
      refine c_X0_164 rfl dX0_between_28  (Nat.le_of_ble_eq_true rfl) (by omega) (C_x_isIn (fun hi => ?_) (fun hi => ?_))
      · refine aK_i ?_
        refine aw_ifeq (tgt := 38) dX0_between_31 (by decide) (fun h => absurd h (by decide)) (fun _ => ?_)
        refine aw_iconst dX0_between_34 (by decide) ?_
        refine aw_goto (tgt := 39) dX0_between_35 (by decide) ?_
        refine p_X0_73_0 rfl dX0_between_39 hR.o0 ?_
        refine aw_aload_n dX0_between_42 rfl ?_
        refine g_X0_73_0 rfl dX0_between_43 hR.o0 ?_
        repeat (first | rw [aup_s] | rw [aup_n (by omega)])
        refine aw_ifle (tgt := 51) dX0_between_46 (by decide) (fun _ => ?_) (fun h => absurd h (by decide))
        obtain ⟨hv, ehv, ⟨g1, g2, ⟨g3, g4, g5, g6, g7⟩, g8, g9, -⟩, nhv0, nhv10, nhv9, nv0, nvhv, nv10, ohv⟩ := (HY.up0 (j := 7) (v := 0) hR.1.2 (by decide)).hv (hR.up0 (j := 7) (v := 0)) (k := a) (by omega) (by omega)
        have gn := g1.2.2.2
        have gh := HP.2.2.1 a (by omega) (by omega)
        have gq := gh.2.2.2.2.1
        have gp := HP.pd.2.1 a (by omega) (by omega)
        refine aw_iconst dX0_between_51 (by decide) ?_
        refine aw_istore4 dX0_between_52 (by decide) rfl ?_
        refine aw_iconst dX0_between_54 (by decide) ?_
        refine aw_istore5 dX0_between_55 (by decide) rfl ?_
        refine L_x_between (a := a) (b := b) (e := c) (by omega) hR HY (by omega) ehv g1 g2 gh.2.1 (by omega) ?_ (16 * cm 1 (64 + 198 * a)).toNat 0 (by omega)
        refine aw_iload dX0_between_113 rfl ?_
        refine aw_ireturn dX0_between_115 rfl ?_
        refine ⟨_, rfl, ?_⟩
        refine AMet.go (L := [some (vR 0), some (vI a), some (vI b), some (vI c), none, none, none]) mok_X7_between (Nat.le_of_ble_eq_true rfl) rfl ?_
        refine aw_aload_n dX7_between_0 rfl ?_
        refine aw_iload_n dX7_between_1 rfl ?_
        refine c_X7_274 rfl dX7_between_2 m_ob (Nat.le_of_ble_eq_true rfl) (by omega) (C_m_isHive (fun hh => ?_) (fun hh => ?_))
        · first
            | (exfalso; omega)
            | skip
              refine aK_i ?_
              refine aw_ifeq (tgt := 33) dX7_between_5 (by decide) (fun h => absurd h (by decide)) (fun _ => ?_)
              refine aw_iload_n dX7_between_8 rfl ?_
              refine aw_i2l dX7_between_9 ?_
              refine aw_lconst0 dX7_between_10 ?_
              refine aw_ldc2 (x := 20) dX7_between_11 q1988 (by decide) ?_
              refine c_X7_306 rfl dX7_between_14  (Nat.le_of_ble_eq_true rfl) (by omega) (C_m_isFrom (fun hfr => ?_) (fun hfr => ?_))
              · first
                  | (exfalso; omega)
                  | skip
                    refine aK_i ?_
                    refine aw_ifeq (tgt := 33) dX7_between_17 (by decide) (fun h => absurd h (by decide)) (fun _ => ?_)
                    refine aw_iload_n dX7_between_20 rfl ?_
                    refine aw_i2l dX7_between_21 ?_
                    refine aw_iload_n dX7_between_22 rfl ?_
                    refine aw_i2l dX7_between_23 ?_
                    refine aw_ldc2 (x := 20) dX7_between_24 q1988 (by decide) ?_
                    refine c_X7_306 rfl dX7_between_27  (Nat.le_of_ble_eq_true rfl) (by omega) (C_m_isFrom (fun hfr => ?_) (fun hfr => ?_))
                    · first
                        | (exfalso; omega)
                        | skip
                          refine aK_i ?_
                          refine aw_ifne (tgt := 39) dX7_between_30 (by decide) (fun _ => ?_) (fun h => absurd h (by decide))
                          refine aw_iload_n dX7_between_39 rfl ?_
                          refine c_X7_217 rfl dX7_between_40  (Nat.le_of_ble_eq_true rfl) (by omega) (C_m_hiveRow (by omega) ?_)
                          refine aK_i ?_
                          refine aw_istore4 dX7_between_43 (by decide) rfl ?_
                          refine aw_iconst dX7_between_45 (by decide) ?_
                          refine aw_istore5 dX7_between_46 (by decide) rfl ?_
                          refine aw_iload dX7_between_48 rfl ?_
                          refine aw_bipush dX7_between_50 (by decide) ?_
                          refine aw_iaddr dX7_between_52 (by omega) ?_
                          refine aw_istore6 dX7_between_53 (by decide) rfl ?_
                          refine L_m_between (a := a) (b := b) (e9 := c) (h := 64 + 198 * a) (by omega) rfl gh.1 (by omega) gh.2.1 (by omega) (fun f => ?_) (16 * cm 1 (64 + 198 * a)).toNat 0 _ (by omega) (by omega)
                          refine aw_aload_n dX7_between_116 rfl ?_
                          refine aw_iload dX7_between_117 rfl ?_
                          refine c_X7_76 rfl dX7_between_119 m_ob (Nat.le_of_ble_eq_true rfl) (by omega) (C_m_gives ?_)
                          refine aK_i ?_
                          refine aw_ireturn dX7_between_122 rfl ?_
                          first
                            | (exfalso; omega)
                            | (refine XR.sameE h ?_ ?_ ?_ ?_ ?_ ?_
                               · first
                                   | rfl
                                   | omega
                               · repeat (first | exact xs.rf | refine xs.up ?_ (by decide))
                               · repeat (first | exact mss.rf | refine mss.up0 ?_ (by decide))
                               · first
                                   | (simp [aup, hv2, hv3, hv4]; done)
                                   | (simp [aup, hv2, hv3, hv4]; omega)
                               · simp [aup, hv2, hv3, hv4]
                               · simp [aup, hv2, hv3, hv4])
                    · first
                        | (exfalso; omega)
                        | skip
                          refine aK_i ?_
                          refine aw_ifne (tgt := 39) dX7_between_30 (by decide) (fun h => absurd h (by decide)) (fun _ => ?_)
                          refine aw_aload_n dX7_between_33 rfl ?_
                          refine aw_iconst dX7_between_34 (by decide) ?_
                          refine c_X7_72 rfl dX7_between_35 m_ob (Nat.le_of_ble_eq_true rfl) (by omega) (C_m_refuse ?_)
                          refine aK_i ?_
                          refine aw_ireturn dX7_between_38 rfl ?_
                          first
                            | (exfalso; omega)
                            | (refine XR.sameE h ?_ ?_ ?_ ?_ ?_ ?_
                               · first
                                   | rfl
                                   | omega
                               · repeat (first | exact xs.rf | refine xs.up ?_ (by decide))
                               · repeat (first | exact mss.rf | refine mss.up0 ?_ (by decide))
                               · first
                                   | (simp [aup, hv2, hv3, hv4]; done)
                                   | (simp [aup, hv2, hv3, hv4]; omega)
                               · simp [aup, hv2, hv3, hv4]
                               · simp [aup, hv2, hv3, hv4])
              · first
                  | (exfalso; omega)
                  | skip
                    refine aK_i ?_
                    refine aw_ifeq (tgt := 33) dX7_between_17 (by decide) (fun _ => ?_) (fun h => absurd h (by decide))
                    refine aw_aload_n dX7_between_33 rfl ?_
                    refine aw_iconst dX7_between_34 (by decide) ?_
                    refine c_X7_72 rfl dX7_between_35 m_ob (Nat.le_of_ble_eq_true rfl) (by omega) (C_m_refuse ?_)
                    refine aK_i ?_
                    refine aw_ireturn dX7_between_38 rfl ?_
                    first
                      | (exfalso; omega)
                      | (refine XR.sameE h ?_ ?_ ?_ ?_ ?_ ?_
                         · first
                             | rfl
                             | omega
                         · repeat (first | exact xs.rf | refine xs.up ?_ (by decide))
                         · repeat (first | exact mss.rf | refine mss.up0 ?_ (by decide))
                         · first
                             | (simp [aup, hv2, hv3, hv4]; done)
                             | (simp [aup, hv2, hv3, hv4]; omega)
                         · simp [aup, hv2, hv3, hv4]
                         · simp [aup, hv2, hv3, hv4])
        · first
            | (exfalso; omega)
            | skip
              refine aK_i ?_
              refine aw_ifeq (tgt := 33) dX7_between_5 (by decide) (fun _ => ?_) (fun h => absurd h (by decide))
              refine aw_aload_n dX7_between_33 rfl ?_
              refine aw_iconst dX7_between_34 (by decide) ?_
              refine c_X7_72 rfl dX7_between_35 m_ob (Nat.le_of_ble_eq_true rfl) (by omega) (C_m_refuse ?_)
              refine aK_i ?_
              refine aw_ireturn dX7_between_38 rfl ?_
              first
                | (exfalso; omega)
                | (refine XR.sameE h ?_ ?_ ?_ ?_ ?_ ?_
                   · first
                       | rfl
                       | omega
                   · repeat (first | exact xs.rf | refine xs.up ?_ (by decide))
                   · repeat (first | exact mss.rf | refine mss.up0 ?_ (by decide))
                   · first
                       | (simp [aup, hv2, hv3, hv4]; done)
                       | (simp [aup, hv2, hv3, hv4]; omega)
                   · simp [aup, hv2, hv3, hv4]
                   · simp [aup, hv2, hv3, hv4])
      · refine aK_i ?_
        refine aw_ifeq (tgt := 38) dX0_between_31 (by decide) (fun _ => ?_) (fun h => absurd h (by decide))
        refine aw_iconst dX0_between_38 (by decide) ?_
        refine p_X0_73_0 rfl dX0_between_39 hR.o0 ?_
        refine aw_aload_n dX0_between_42 rfl ?_
        refine g_X0_73_0 rfl dX0_between_43 hR.o0 ?_
        repeat (first | rw [aup_s] | rw [aup_n (by omega)])
        refine aw_ifle (tgt := 51) dX0_between_46 (by decide) (fun h => absurd h (by decide)) (fun _ => ?_)
        refine aw_iconst dX0_between_49 (by decide) ?_
        refine aw_ireturn dX0_between_50 rfl ?_
        refine ⟨_, rfl, ?_⟩
        refine AMet.go (L := [some (vR 0), some (vI a), some (vI b), some (vI c), none, none, none]) mok_X7_between (Nat.le_of_ble_eq_true rfl) rfl ?_
        refine aw_aload_n dX7_between_0 rfl ?_
        refine aw_iload_n dX7_between_1 rfl ?_
        refine c_X7_274 rfl dX7_between_2 m_ob (Nat.le_of_ble_eq_true rfl) (by omega) (C_m_isHive (fun hh => ?_) (fun hh => ?_))
        · first
            | (exfalso; omega)
            | skip
              refine aK_i ?_
              refine aw_ifeq (tgt := 33) dX7_between_5 (by decide) (fun h => absurd h (by decide)) (fun _ => ?_)
              refine aw_iload_n dX7_between_8 rfl ?_
              refine aw_i2l dX7_between_9 ?_
              refine aw_lconst0 dX7_between_10 ?_
              refine aw_ldc2 (x := 20) dX7_between_11 q1988 (by decide) ?_
              refine c_X7_306 rfl dX7_between_14  (Nat.le_of_ble_eq_true rfl) (by omega) (C_m_isFrom (fun hfr => ?_) (fun hfr => ?_))
              · first
                  | (exfalso; omega)
                  | skip
                    refine aK_i ?_
                    refine aw_ifeq (tgt := 33) dX7_between_17 (by decide) (fun h => absurd h (by decide)) (fun _ => ?_)
                    refine aw_iload_n dX7_between_20 rfl ?_
                    refine aw_i2l dX7_between_21 ?_
                    refine aw_iload_n dX7_between_22 rfl ?_
                    refine aw_i2l dX7_between_23 ?_
                    refine aw_ldc2 (x := 20) dX7_between_24 q1988 (by decide) ?_
                    refine c_X7_306 rfl dX7_between_27  (Nat.le_of_ble_eq_true rfl) (by omega) (C_m_isFrom (fun hfr => ?_) (fun hfr => ?_))
                    · first
                        | (exfalso; omega)
                        | skip
                          refine aK_i ?_
                          refine aw_ifne (tgt := 39) dX7_between_30 (by decide) (fun _ => ?_) (fun h => absurd h (by decide))
                          refine aw_iload_n dX7_between_39 rfl ?_
                          refine c_X7_217 rfl dX7_between_40  (Nat.le_of_ble_eq_true rfl) (by omega) (C_m_hiveRow (by omega) ?_)
                          refine aK_i ?_
                          refine aw_istore4 dX7_between_43 (by decide) rfl ?_
                          refine aw_iconst dX7_between_45 (by decide) ?_
                          refine aw_istore5 dX7_between_46 (by decide) rfl ?_
                          refine aw_iload dX7_between_48 rfl ?_
                          refine aw_bipush dX7_between_50 (by decide) ?_
                          refine aw_iaddr dX7_between_52 (by omega) ?_
                          refine aw_istore6 dX7_between_53 (by decide) rfl ?_
                          refine L_m_between (a := a) (b := b) (e9 := c) (h := 64 + 198 * a) (by omega) rfl gh.1 (by omega) gh.2.1 (by omega) (fun f => ?_) (16 * cm 1 (64 + 198 * a)).toNat 0 _ (by omega) (by omega)
                          refine aw_aload_n dX7_between_116 rfl ?_
                          refine aw_iload dX7_between_117 rfl ?_
                          refine c_X7_76 rfl dX7_between_119 m_ob (Nat.le_of_ble_eq_true rfl) (by omega) (C_m_gives ?_)
                          refine aK_i ?_
                          refine aw_ireturn dX7_between_122 rfl ?_
                          first
                            | (exfalso; omega)
                            | (refine XR.sameE h ?_ ?_ ?_ ?_ ?_ ?_
                               · first
                                   | rfl
                                   | omega
                               · repeat (first | exact xs.rf | refine xs.up ?_ (by decide))
                               · repeat (first | exact mss.rf | refine mss.up0 ?_ (by decide))
                               · first
                                   | (simp [aup, hv2, hv3, hv4]; done)
                                   | (simp [aup, hv2, hv3, hv4]; omega)
                               · simp [aup, hv2, hv3, hv4]
                               · simp [aup, hv2, hv3, hv4])
                    · first
                        | (exfalso; omega)
                        | skip
                          refine aK_i ?_
                          refine aw_ifne (tgt := 39) dX7_between_30 (by decide) (fun h => absurd h (by decide)) (fun _ => ?_)
                          refine aw_aload_n dX7_between_33 rfl ?_
                          refine aw_iconst dX7_between_34 (by decide) ?_
                          refine c_X7_72 rfl dX7_between_35 m_ob (Nat.le_of_ble_eq_true rfl) (by omega) (C_m_refuse ?_)
                          refine aK_i ?_
                          refine aw_ireturn dX7_between_38 rfl ?_
                          first
                            | (exfalso; omega)
                            | (refine XR.sameE h ?_ ?_ ?_ ?_ ?_ ?_
                               · first
                                   | rfl
                                   | omega
                               · repeat (first | exact xs.rf | refine xs.up ?_ (by decide))
                               · repeat (first | exact mss.rf | refine mss.up0 ?_ (by decide))
                               · first
                                   | (simp [aup, hv2, hv3, hv4]; done)
                                   | (simp [aup, hv2, hv3, hv4]; omega)
                               · simp [aup, hv2, hv3, hv4]
                               · simp [aup, hv2, hv3, hv4])
              · first
                  | (exfalso; omega)
                  | skip
                    refine aK_i ?_
                    refine aw_ifeq (tgt := 33) dX7_between_17 (by decide) (fun _ => ?_) (fun h => absurd h (by decide))
                    refine aw_aload_n dX7_between_33 rfl ?_
                    refine aw_iconst dX7_between_34 (by decide) ?_
                    refine c_X7_72 rfl dX7_between_35 m_ob (Nat.le_of_ble_eq_true rfl) (by omega) (C_m_refuse ?_)
                    refine aK_i ?_
                    refine aw_ireturn dX7_between_38 rfl ?_
                    first
                      | (exfalso; omega)
                      | (refine XR.sameE h ?_ ?_ ?_ ?_ ?_ ?_
                         · first
                             | rfl
                             | omega
                         · repeat (first | exact xs.rf | refine xs.up ?_ (by decide))
                         · repeat (first | exact mss.rf | refine mss.up0 ?_ (by decide))
                         · first
                             | (simp [aup, hv2, hv3, hv4]; done)
                             | (simp [aup, hv2, hv3, hv4]; omega)
                         · simp [aup, hv2, hv3, hv4]
                         · simp [aup, hv2, hv3, hv4])
        · first
            | (exfalso; omega)
            | skip
              refine aK_i ?_
              refine aw_ifeq (tgt := 33) dX7_between_5 (by decide) (fun _ => ?_) (fun h => absurd h (by decide))
              refine aw_aload_n dX7_between_33 rfl ?_
              refine aw_iconst dX7_between_34 (by decide) ?_
              refine c_X7_72 rfl dX7_between_35 m_ob (Nat.le_of_ble_eq_true rfl) (by omega) (C_m_refuse ?_)
              refine aK_i ?_
              refine aw_ireturn dX7_between_38 rfl ?_
              first
                | (exfalso; omega)
                | (refine XR.sameE h ?_ ?_ ?_ ?_ ?_ ?_
                   · first
                       | rfl
                       | omega
                   · repeat (first | exact xs.rf | refine xs.up ?_ (by decide))
                   · repeat (first | exact mss.rf | refine mss.up0 ?_ (by decide))
                   · first
                       | (simp [aup, hv2, hv3, hv4]; done)
                       | (simp [aup, hv2, hv3, hv4]; omega)
                   · simp [aup, hv2, hv3, hv4]
                   · simp [aup, hv2, hv3, hv4])
    · refine aK_i ?_
      refine aw_ifeq (tgt := 38) dX0_between_18 (by decide) (fun _ => ?_) (fun h => absurd h (by decide))
      refine aw_iconst dX0_between_38 (by decide) ?_
      refine p_X0_73_0 rfl dX0_between_39 hR.o0 ?_
      refine aw_aload_n dX0_between_42 rfl ?_
      refine g_X0_73_0 rfl dX0_between_43 hR.o0 ?_
      repeat (first | rw [aup_s] | rw [aup_n (by omega)])
      refine aw_ifle (tgt := 51) dX0_between_46 (by decide) (fun h => absurd h (by decide)) (fun _ => ?_)
      refine aw_iconst dX0_between_49 (by decide) ?_
      refine aw_ireturn dX0_between_50 rfl ?_
      refine ⟨_, rfl, ?_⟩
      refine AMet.go (L := [some (vR 0), some (vI a), some (vI b), some (vI c), none, none, none]) mok_X7_between (Nat.le_of_ble_eq_true rfl) rfl ?_
      refine aw_aload_n dX7_between_0 rfl ?_
      refine aw_iload_n dX7_between_1 rfl ?_
      refine c_X7_274 rfl dX7_between_2 m_ob (Nat.le_of_ble_eq_true rfl) (by omega) (C_m_isHive (fun hh => ?_) (fun hh => ?_))
      · first
          | (exfalso; omega)
          | skip
            refine aK_i ?_
            refine aw_ifeq (tgt := 33) dX7_between_5 (by decide) (fun h => absurd h (by decide)) (fun _ => ?_)
            refine aw_iload_n dX7_between_8 rfl ?_
            refine aw_i2l dX7_between_9 ?_
            refine aw_lconst0 dX7_between_10 ?_
            refine aw_ldc2 (x := 20) dX7_between_11 q1988 (by decide) ?_
            refine c_X7_306 rfl dX7_between_14  (Nat.le_of_ble_eq_true rfl) (by omega) (C_m_isFrom (fun hfr => ?_) (fun hfr => ?_))
            · first
                | (exfalso; omega)
                | skip
                  refine aK_i ?_
                  refine aw_ifeq (tgt := 33) dX7_between_17 (by decide) (fun h => absurd h (by decide)) (fun _ => ?_)
                  refine aw_iload_n dX7_between_20 rfl ?_
                  refine aw_i2l dX7_between_21 ?_
                  refine aw_iload_n dX7_between_22 rfl ?_
                  refine aw_i2l dX7_between_23 ?_
                  refine aw_ldc2 (x := 20) dX7_between_24 q1988 (by decide) ?_
                  refine c_X7_306 rfl dX7_between_27  (Nat.le_of_ble_eq_true rfl) (by omega) (C_m_isFrom (fun hfr => ?_) (fun hfr => ?_))
                  · first
                      | (exfalso; omega)
                      | skip
                        refine aK_i ?_
                        refine aw_ifne (tgt := 39) dX7_between_30 (by decide) (fun _ => ?_) (fun h => absurd h (by decide))
                        refine aw_iload_n dX7_between_39 rfl ?_
                        refine c_X7_217 rfl dX7_between_40  (Nat.le_of_ble_eq_true rfl) (by omega) (C_m_hiveRow (by omega) ?_)
                        refine aK_i ?_
                        refine aw_istore4 dX7_between_43 (by decide) rfl ?_
                        refine aw_iconst dX7_between_45 (by decide) ?_
                        refine aw_istore5 dX7_between_46 (by decide) rfl ?_
                        refine aw_iload dX7_between_48 rfl ?_
                        refine aw_bipush dX7_between_50 (by decide) ?_
                        refine aw_iaddr dX7_between_52 (by omega) ?_
                        refine aw_istore6 dX7_between_53 (by decide) rfl ?_
                        refine L_m_between (a := a) (b := b) (e9 := c) (h := 64 + 198 * a) (by omega) rfl gh.1 (by omega) gh.2.1 (by omega) (fun f => ?_) (16 * cm 1 (64 + 198 * a)).toNat 0 _ (by omega) (by omega)
                        refine aw_aload_n dX7_between_116 rfl ?_
                        refine aw_iload dX7_between_117 rfl ?_
                        refine c_X7_76 rfl dX7_between_119 m_ob (Nat.le_of_ble_eq_true rfl) (by omega) (C_m_gives ?_)
                        refine aK_i ?_
                        refine aw_ireturn dX7_between_122 rfl ?_
                        first
                          | (exfalso; omega)
                          | (refine XR.sameE h ?_ ?_ ?_ ?_ ?_ ?_
                             · first
                                 | rfl
                                 | omega
                             · repeat (first | exact xs.rf | refine xs.up ?_ (by decide))
                             · repeat (first | exact mss.rf | refine mss.up0 ?_ (by decide))
                             · first
                                 | (simp [aup, hv2, hv3, hv4]; done)
                                 | (simp [aup, hv2, hv3, hv4]; omega)
                             · simp [aup, hv2, hv3, hv4]
                             · simp [aup, hv2, hv3, hv4])
                  · first
                      | (exfalso; omega)
                      | skip
                        refine aK_i ?_
                        refine aw_ifne (tgt := 39) dX7_between_30 (by decide) (fun h => absurd h (by decide)) (fun _ => ?_)
                        refine aw_aload_n dX7_between_33 rfl ?_
                        refine aw_iconst dX7_between_34 (by decide) ?_
                        refine c_X7_72 rfl dX7_between_35 m_ob (Nat.le_of_ble_eq_true rfl) (by omega) (C_m_refuse ?_)
                        refine aK_i ?_
                        refine aw_ireturn dX7_between_38 rfl ?_
                        first
                          | (exfalso; omega)
                          | (refine XR.sameE h ?_ ?_ ?_ ?_ ?_ ?_
                             · first
                                 | rfl
                                 | omega
                             · repeat (first | exact xs.rf | refine xs.up ?_ (by decide))
                             · repeat (first | exact mss.rf | refine mss.up0 ?_ (by decide))
                             · first
                                 | (simp [aup, hv2, hv3, hv4]; done)
                                 | (simp [aup, hv2, hv3, hv4]; omega)
                             · simp [aup, hv2, hv3, hv4]
                             · simp [aup, hv2, hv3, hv4])
            · first
                | (exfalso; omega)
                | skip
                  refine aK_i ?_
                  refine aw_ifeq (tgt := 33) dX7_between_17 (by decide) (fun _ => ?_) (fun h => absurd h (by decide))
                  refine aw_aload_n dX7_between_33 rfl ?_
                  refine aw_iconst dX7_between_34 (by decide) ?_
                  refine c_X7_72 rfl dX7_between_35 m_ob (Nat.le_of_ble_eq_true rfl) (by omega) (C_m_refuse ?_)
                  refine aK_i ?_
                  refine aw_ireturn dX7_between_38 rfl ?_
                  first
                    | (exfalso; omega)
                    | (refine XR.sameE h ?_ ?_ ?_ ?_ ?_ ?_
                       · first
                           | rfl
                           | omega
                       · repeat (first | exact xs.rf | refine xs.up ?_ (by decide))
                       · repeat (first | exact mss.rf | refine mss.up0 ?_ (by decide))
                       · first
                           | (simp [aup, hv2, hv3, hv4]; done)
                           | (simp [aup, hv2, hv3, hv4]; omega)
                       · simp [aup, hv2, hv3, hv4]
                       · simp [aup, hv2, hv3, hv4])
      · first
          | (exfalso; omega)
          | skip
            refine aK_i ?_
            refine aw_ifeq (tgt := 33) dX7_between_5 (by decide) (fun _ => ?_) (fun h => absurd h (by decide))
            refine aw_aload_n dX7_between_33 rfl ?_
            refine aw_iconst dX7_between_34 (by decide) ?_
            refine c_X7_72 rfl dX7_between_35 m_ob (Nat.le_of_ble_eq_true rfl) (by omega) (C_m_refuse ?_)
            refine aK_i ?_
            refine aw_ireturn dX7_between_38 rfl ?_
            first
              | (exfalso; omega)
              | (refine XR.sameE h ?_ ?_ ?_ ?_ ?_ ?_
                 · first
                     | rfl
                     | omega
                 · repeat (first | exact xs.rf | refine xs.up ?_ (by decide))
                 · repeat (first | exact mss.rf | refine mss.up0 ?_ (by decide))
                 · first
                     | (simp [aup, hv2, hv3, hv4]; done)
                     | (simp [aup, hv2, hv3, hv4]; omega)
                 · simp [aup, hv2, hv3, hv4]
                 · simp [aup, hv2, hv3, hv4])
  · refine aK_i ?_
    refine aw_ifeq (tgt := 38) dX0_between_6 (by decide) (fun _ => ?_) (fun h => absurd h (by decide))
    refine aw_iconst dX0_between_38 (by decide) ?_
    refine p_X0_73_0 rfl dX0_between_39 hR.o0 ?_
    refine aw_aload_n dX0_between_42 rfl ?_
    refine g_X0_73_0 rfl dX0_between_43 hR.o0 ?_
    repeat (first | rw [aup_s] | rw [aup_n (by omega)])
    refine aw_ifle (tgt := 51) dX0_between_46 (by decide) (fun h => absurd h (by decide)) (fun _ => ?_)
    refine aw_iconst dX0_between_49 (by decide) ?_
    refine aw_ireturn dX0_between_50 rfl ?_
    refine ⟨_, rfl, ?_⟩
    refine AMet.go (L := [some (vR 0), some (vI a), some (vI b), some (vI c), none, none, none]) mok_X7_between (Nat.le_of_ble_eq_true rfl) rfl ?_
    refine aw_aload_n dX7_between_0 rfl ?_
    refine aw_iload_n dX7_between_1 rfl ?_
    refine c_X7_274 rfl dX7_between_2 m_ob (Nat.le_of_ble_eq_true rfl) (by omega) (C_m_isHive (fun hh => ?_) (fun hh => ?_))
    · first
        | (exfalso; omega)
        | skip
          refine aK_i ?_
          refine aw_ifeq (tgt := 33) dX7_between_5 (by decide) (fun h => absurd h (by decide)) (fun _ => ?_)
          refine aw_iload_n dX7_between_8 rfl ?_
          refine aw_i2l dX7_between_9 ?_
          refine aw_lconst0 dX7_between_10 ?_
          refine aw_ldc2 (x := 20) dX7_between_11 q1988 (by decide) ?_
          refine c_X7_306 rfl dX7_between_14  (Nat.le_of_ble_eq_true rfl) (by omega) (C_m_isFrom (fun hfr => ?_) (fun hfr => ?_))
          · first
              | (exfalso; omega)
              | skip
                refine aK_i ?_
                refine aw_ifeq (tgt := 33) dX7_between_17 (by decide) (fun h => absurd h (by decide)) (fun _ => ?_)
                refine aw_iload_n dX7_between_20 rfl ?_
                refine aw_i2l dX7_between_21 ?_
                refine aw_iload_n dX7_between_22 rfl ?_
                refine aw_i2l dX7_between_23 ?_
                refine aw_ldc2 (x := 20) dX7_between_24 q1988 (by decide) ?_
                refine c_X7_306 rfl dX7_between_27  (Nat.le_of_ble_eq_true rfl) (by omega) (C_m_isFrom (fun hfr => ?_) (fun hfr => ?_))
                · first
                    | (exfalso; omega)
                    | skip
                      refine aK_i ?_
                      refine aw_ifne (tgt := 39) dX7_between_30 (by decide) (fun _ => ?_) (fun h => absurd h (by decide))
                      refine aw_iload_n dX7_between_39 rfl ?_
                      refine c_X7_217 rfl dX7_between_40  (Nat.le_of_ble_eq_true rfl) (by omega) (C_m_hiveRow (by omega) ?_)
                      refine aK_i ?_
                      refine aw_istore4 dX7_between_43 (by decide) rfl ?_
                      refine aw_iconst dX7_between_45 (by decide) ?_
                      refine aw_istore5 dX7_between_46 (by decide) rfl ?_
                      refine aw_iload dX7_between_48 rfl ?_
                      refine aw_bipush dX7_between_50 (by decide) ?_
                      refine aw_iaddr dX7_between_52 (by omega) ?_
                      refine aw_istore6 dX7_between_53 (by decide) rfl ?_
                      refine L_m_between (a := a) (b := b) (e9 := c) (h := 64 + 198 * a) (by omega) rfl gh.1 (by omega) gh.2.1 (by omega) (fun f => ?_) (16 * cm 1 (64 + 198 * a)).toNat 0 _ (by omega) (by omega)
                      refine aw_aload_n dX7_between_116 rfl ?_
                      refine aw_iload dX7_between_117 rfl ?_
                      refine c_X7_76 rfl dX7_between_119 m_ob (Nat.le_of_ble_eq_true rfl) (by omega) (C_m_gives ?_)
                      refine aK_i ?_
                      refine aw_ireturn dX7_between_122 rfl ?_
                      first
                        | (exfalso; omega)
                        | (refine XR.sameE h ?_ ?_ ?_ ?_ ?_ ?_
                           · first
                               | rfl
                               | omega
                           · repeat (first | exact xs.rf | refine xs.up ?_ (by decide))
                           · repeat (first | exact mss.rf | refine mss.up0 ?_ (by decide))
                           · first
                               | (simp [aup, hv2, hv3, hv4]; done)
                               | (simp [aup, hv2, hv3, hv4]; omega)
                           · simp [aup, hv2, hv3, hv4]
                           · simp [aup, hv2, hv3, hv4])
                · first
                    | (exfalso; omega)
                    | skip
                      refine aK_i ?_
                      refine aw_ifne (tgt := 39) dX7_between_30 (by decide) (fun h => absurd h (by decide)) (fun _ => ?_)
                      refine aw_aload_n dX7_between_33 rfl ?_
                      refine aw_iconst dX7_between_34 (by decide) ?_
                      refine c_X7_72 rfl dX7_between_35 m_ob (Nat.le_of_ble_eq_true rfl) (by omega) (C_m_refuse ?_)
                      refine aK_i ?_
                      refine aw_ireturn dX7_between_38 rfl ?_
                      first
                        | (exfalso; omega)
                        | (refine XR.sameE h ?_ ?_ ?_ ?_ ?_ ?_
                           · first
                               | rfl
                               | omega
                           · repeat (first | exact xs.rf | refine xs.up ?_ (by decide))
                           · repeat (first | exact mss.rf | refine mss.up0 ?_ (by decide))
                           · first
                               | (simp [aup, hv2, hv3, hv4]; done)
                               | (simp [aup, hv2, hv3, hv4]; omega)
                           · simp [aup, hv2, hv3, hv4]
                           · simp [aup, hv2, hv3, hv4])
          · first
              | (exfalso; omega)
              | skip
                refine aK_i ?_
                refine aw_ifeq (tgt := 33) dX7_between_17 (by decide) (fun _ => ?_) (fun h => absurd h (by decide))
                refine aw_aload_n dX7_between_33 rfl ?_
                refine aw_iconst dX7_between_34 (by decide) ?_
                refine c_X7_72 rfl dX7_between_35 m_ob (Nat.le_of_ble_eq_true rfl) (by omega) (C_m_refuse ?_)
                refine aK_i ?_
                refine aw_ireturn dX7_between_38 rfl ?_
                first
                  | (exfalso; omega)
                  | (refine XR.sameE h ?_ ?_ ?_ ?_ ?_ ?_
                     · first
                         | rfl
                         | omega
                     · repeat (first | exact xs.rf | refine xs.up ?_ (by decide))
                     · repeat (first | exact mss.rf | refine mss.up0 ?_ (by decide))
                     · first
                         | (simp [aup, hv2, hv3, hv4]; done)
                         | (simp [aup, hv2, hv3, hv4]; omega)
                     · simp [aup, hv2, hv3, hv4]
                     · simp [aup, hv2, hv3, hv4])
    · first
        | (exfalso; omega)
        | skip
          refine aK_i ?_
          refine aw_ifeq (tgt := 33) dX7_between_5 (by decide) (fun _ => ?_) (fun h => absurd h (by decide))
          refine aw_aload_n dX7_between_33 rfl ?_
          refine aw_iconst dX7_between_34 (by decide) ?_
          refine c_X7_72 rfl dX7_between_35 m_ob (Nat.le_of_ble_eq_true rfl) (by omega) (C_m_refuse ?_)
          refine aK_i ?_
          refine aw_ireturn dX7_between_38 rfl ?_
          first
            | (exfalso; omega)
            | (refine XR.sameE h ?_ ?_ ?_ ?_ ?_ ?_
               · first
                   | rfl
                   | omega
               · repeat (first | exact xs.rf | refine xs.up ?_ (by decide))
               · repeat (first | exact mss.rf | refine mss.up0 ?_ (by decide))
               · first
                   | (simp [aup, hv2, hv3, hv4]; done)
                   | (simp [aup, hv2, hv3, hv4]; omega)
               · simp [aup, hv2, hv3, hv4]
               · simp [aup, hv2, hv3, hv4])
