set_option maxRecDepth 100000
/-! operations, 10: sisters, nearest, take -/
theorem L_x_sis {own : Int → Int} {sz : Int} {im : Int → aIm} {ct ct0 ct2 : Int → Int → Int} {a la dd : Int} {s N : Int → Int} {Q : aPost} {d kc ks : Nat} (hd : 3 ≤ d) (hR : RT own sz im ct0) (HY : YR own 0 sz im ct2 10 s dd N) (hl : ct 10 0 = la) (HL : LR own sz im ct la s N) (hPQ : PQ s) (ha : one s a) (K : AW (mq Q) md_X0_sisters d kc ks 102 [some (vR 0), some (vI a), some (vI (isum (fun v => if ((0 ≤ v ∧ v < s 1) ∨ (8 ≤ v ∧ v < 8 + s 2)) ∧ v ≠ a ∧ mot s a ≠ -1 ∧ mot s v = mot s a then (1 : Int) else 0) 16)), some (vI 16)] [] (sz, im, ct)) : ∀ (r j : Nat), j + r = 16 → AW (mq Q) md_X0_sisters d kc ks 33 [some (vR 0), some (vI a), some (vI (isum (fun v => if ((0 ≤ v ∧ v < s 1) ∨ (8 ≤ v ∧ v < 8 + s 2)) ∧ v ≠ a ∧ mot s a ≠ -1 ∧ mot s v = mot s a then (1 : Int) else 0) j)), some (vI j)] [] (sz, im, ct) := by
  have hab := one_bd hPQ.1 ha
  have hma := HL.motE ha
  have hpa0 := hPQ.2.2.2.1 _ ha
  have hq1 := hPQ.1
  intro r
  induction r with
  | zero =>
    intro j h1
    have ej : j = 16 := by omega
    subst ej
    refine aw_iload_n dX0_sisters_33 rfl ?_
    refine aw_bipush dX0_sisters_34 (by decide) ?_
    refine aw_icmpge (tgt := 102) dX0_sisters_36 (by decide) (fun h36 => ?_) (fun h36 => ?_)
    · exact K
    · exfalso; omega
  | succ r ih =>
    intro j h1
    have hb := isum_bd (g := (fun v => if ((0 ≤ v ∧ v < s 1) ∨ (8 ≤ v ∧ v < 8 + s 2)) ∧ v ≠ a ∧ mot s a ≠ -1 ∧ mot s v = mot s a then (1 : Int) else 0)) (B := 1) (n := j) fun i i0 i1 => by
      show 0 ≤ (if _ then (1 : Int) else 0) ∧ (if _ then (1 : Int) else 0) ≤ 1
      split <;> omega
    have es : isum (fun v => if ((0 ≤ v ∧ v < s 1) ∨ (8 ≤ v ∧ v < 8 + s 2)) ∧ v ≠ a ∧ mot s a ≠ -1 ∧ mot s v = mot s a then (1 : Int) else 0) (j + 1) = isum (fun v => if ((0 ≤ v ∧ v < s 1) ∨ (8 ≤ v ∧ v < 8 + s 2)) ∧ v ≠ a ∧ mot s a ≠ -1 ∧ mot s v = mot s a then (1 : Int) else 0) j + (fun v => if ((0 ≤ v ∧ v < s 1) ∨ (8 ≤ v ∧ v < 8 + s 2)) ∧ v ≠ a ∧ mot s a ≠ -1 ∧ mot s v = mot s a then (1 : Int) else 0) (j : Int) := rfl
    have ih := ih (j + 1) (by omega)
    rw [es] at ih
    refine aw_iload_n dX0_sisters_33 rfl ?_
    refine aw_bipush dX0_sisters_34 (by decide) ?_
    refine aw_icmpge (tgt := 102) dX0_sisters_36 (by decide) (fun h36 => ?_) (fun h36 => ?_)
    · exfalso; omega
    · refine aw_iload_n dX0_sisters_39 rfl ?_
      refine aw_iload_n dX0_sisters_40 rfl ?_
      refine aw_iload_n dX0_sisters_41 rfl ?_
      refine aw_icmpeq (tgt := 93) dX0_sisters_42 (by decide) (fun h42 => ?_) (fun h42 => ?_)
      · refine aw_iconst dX0_sisters_93 (by decide) ?_
        refine aw_iaddr dX0_sisters_94 (by omega) ?_
        refine aw_istore2 dX0_sisters_95 (by decide) rfl ?_
        refine aw_iinc3r dX0_sisters_96 (by decide) (by decide) rfl (by omega) ?_
        refine aw_goto (tgt := 33) dX0_sisters_99 (by decide) ?_
        first
          | (rw [show (fun v => if ((0 ≤ v ∧ v < s 1) ∨ (8 ≤ v ∧ v < 8 + s 2)) ∧ v ≠ a ∧ mot s a ≠ -1 ∧ mot s v = mot s a then (1 : Int) else 0) (j : Int) = 1 by exact if_pos ⟨by omega, by omega, by omega, by omega⟩] at ih; exact ih)
          | (rw [show (fun v => if ((0 ≤ v ∧ v < s 1) ∨ (8 ≤ v ∧ v < 8 + s 2)) ∧ v ≠ a ∧ mot s a ≠ -1 ∧ mot s v = mot s a then (1 : Int) else 0) (j : Int) = 0 by exact if_neg (by rintro ⟨y1, y2, y3, y4⟩; omega)] at ih; exact ih)
      · refine aw_aload_n dX0_sisters_45 rfl ?_
        refine c_X0_182 rfl dX0_sisters_46 hR.o0 (Nat.le_of_ble_eq_true rfl) (by omega) (C_x_lines hR HY ?_)
        rw [hl]
        refine aK_i ?_
        refine aw_iload_n dX0_sisters_49 rfl ?_
        refine c_X0_287 rfl dX0_sisters_50 HL.1 (Nat.le_of_ble_eq_true rfl) (by omega) (C_x_isThere HL (fun xo => ?_) (fun xo => ?_))
        · have xoo := xo
          have hpa := hPQ.2.2.2.1 _ xoo
          have hmj := HL.motE xoo
          unfold one at xo
          refine aK_i ?_
          refine aw_ifeq (tgt := 93) dX0_sisters_53 (by decide) (fun h => absurd h (by decide)) (fun _ => ?_)
          refine aw_aload_n dX0_sisters_56 rfl ?_
          refine c_X0_182 rfl dX0_sisters_57 hR.o0 (Nat.le_of_ble_eq_true rfl) (by omega) (C_x_lines hR HY ?_)
          rw [hl]
          refine aK_i ?_
          refine g_X0_295_6 rfl dX0_sisters_60 HL.1 ?_
          refine aw_iload_n dX0_sisters_63 rfl ?_
          refine aw_iaload dX0_sisters_64 HL.2.1.2.1 (by omega) (by omega) ?_
          rw [hma]
          refine aw_iflt (tgt := 93) dX0_sisters_65 (by decide) (fun h65 => ?_) (fun h65 => ?_)
          · refine aw_iconst dX0_sisters_93 (by decide) ?_
            refine aw_iaddr dX0_sisters_94 (by omega) ?_
            refine aw_istore2 dX0_sisters_95 (by decide) rfl ?_
            refine aw_iinc3r dX0_sisters_96 (by decide) (by decide) rfl (by omega) ?_
            refine aw_goto (tgt := 33) dX0_sisters_99 (by decide) ?_
            first
              | (rw [show (fun v => if ((0 ≤ v ∧ v < s 1) ∨ (8 ≤ v ∧ v < 8 + s 2)) ∧ v ≠ a ∧ mot s a ≠ -1 ∧ mot s v = mot s a then (1 : Int) else 0) (j : Int) = 1 by exact if_pos ⟨by omega, by omega, by omega, by omega⟩] at ih; exact ih)
              | (rw [show (fun v => if ((0 ≤ v ∧ v < s 1) ∨ (8 ≤ v ∧ v < 8 + s 2)) ∧ v ≠ a ∧ mot s a ≠ -1 ∧ mot s v = mot s a then (1 : Int) else 0) (j : Int) = 0 by exact if_neg (by rintro ⟨y1, y2, y3, y4⟩; omega)] at ih; exact ih)
          · refine aw_aload_n dX0_sisters_68 rfl ?_
            refine c_X0_182 rfl dX0_sisters_69 hR.o0 (Nat.le_of_ble_eq_true rfl) (by omega) (C_x_lines hR HY ?_)
            rw [hl]
            refine aK_i ?_
            refine g_X0_295_6 rfl dX0_sisters_72 HL.1 ?_
            refine aw_iload_n dX0_sisters_75 rfl ?_
            refine aw_iaload dX0_sisters_76 HL.2.1.2.1 (by omega) (by omega) ?_
            rw [hmj]
            refine aw_aload_n dX0_sisters_77 rfl ?_
            refine c_X0_182 rfl dX0_sisters_78 hR.o0 (Nat.le_of_ble_eq_true rfl) (by omega) (C_x_lines hR HY ?_)
            rw [hl]
            refine aK_i ?_
            refine g_X0_295_6 rfl dX0_sisters_81 HL.1 ?_
            refine aw_iload_n dX0_sisters_84 rfl ?_
            refine aw_iaload dX0_sisters_85 HL.2.1.2.1 (by omega) (by omega) ?_
            rw [hma]
            refine aw_icmpne (tgt := 93) dX0_sisters_86 (by decide) (fun h86 => ?_) (fun h86 => ?_)
            · refine aw_iconst dX0_sisters_93 (by decide) ?_
              refine aw_iaddr dX0_sisters_94 (by omega) ?_
              refine aw_istore2 dX0_sisters_95 (by decide) rfl ?_
              refine aw_iinc3r dX0_sisters_96 (by decide) (by decide) rfl (by omega) ?_
              refine aw_goto (tgt := 33) dX0_sisters_99 (by decide) ?_
              first
                | (rw [show (fun v => if ((0 ≤ v ∧ v < s 1) ∨ (8 ≤ v ∧ v < 8 + s 2)) ∧ v ≠ a ∧ mot s a ≠ -1 ∧ mot s v = mot s a then (1 : Int) else 0) (j : Int) = 1 by exact if_pos ⟨by omega, by omega, by omega, by omega⟩] at ih; exact ih)
                | (rw [show (fun v => if ((0 ≤ v ∧ v < s 1) ∨ (8 ≤ v ∧ v < 8 + s 2)) ∧ v ≠ a ∧ mot s a ≠ -1 ∧ mot s v = mot s a then (1 : Int) else 0) (j : Int) = 0 by exact if_neg (by rintro ⟨y1, y2, y3, y4⟩; omega)] at ih; exact ih)
            · refine aw_iconst dX0_sisters_89 (by decide) ?_
              refine aw_goto (tgt := 94) dX0_sisters_90 (by decide) ?_
              refine aw_iaddr dX0_sisters_94 (by omega) ?_
              refine aw_istore2 dX0_sisters_95 (by decide) rfl ?_
              refine aw_iinc3r dX0_sisters_96 (by decide) (by decide) rfl (by omega) ?_
              refine aw_goto (tgt := 33) dX0_sisters_99 (by decide) ?_
              first
                | (rw [show (fun v => if ((0 ≤ v ∧ v < s 1) ∨ (8 ≤ v ∧ v < 8 + s 2)) ∧ v ≠ a ∧ mot s a ≠ -1 ∧ mot s v = mot s a then (1 : Int) else 0) (j : Int) = 1 by exact if_pos ⟨by omega, by omega, by omega, by omega⟩] at ih; exact ih)
                | (rw [show (fun v => if ((0 ≤ v ∧ v < s 1) ∨ (8 ≤ v ∧ v < 8 + s 2)) ∧ v ≠ a ∧ mot s a ≠ -1 ∧ mot s v = mot s a then (1 : Int) else 0) (j : Int) = 0 by exact if_neg (by rintro ⟨y1, y2, y3, y4⟩; omega)] at ih; exact ih)
        · have xoo := xo
          unfold one at xo
          refine aK_i ?_
          refine aw_ifeq (tgt := 93) dX0_sisters_53 (by decide) (fun _ => ?_) (fun h => absurd h (by decide))
          refine aw_iconst dX0_sisters_93 (by decide) ?_
          refine aw_iaddr dX0_sisters_94 (by omega) ?_
          refine aw_istore2 dX0_sisters_95 (by decide) rfl ?_
          refine aw_iinc3r dX0_sisters_96 (by decide) (by decide) rfl (by omega) ?_
          refine aw_goto (tgt := 33) dX0_sisters_99 (by decide) ?_
          first
            | (rw [show (fun v => if ((0 ≤ v ∧ v < s 1) ∨ (8 ≤ v ∧ v < 8 + s 2)) ∧ v ≠ a ∧ mot s a ≠ -1 ∧ mot s v = mot s a then (1 : Int) else 0) (j : Int) = 1 by exact if_pos ⟨by omega, by omega, by omega, by omega⟩] at ih; exact ih)
            | (rw [show (fun v => if ((0 ≤ v ∧ v < s 1) ∨ (8 ≤ v ∧ v < 8 + s 2)) ∧ v ≠ a ∧ mot s a ≠ -1 ∧ mot s v = mot s a then (1 : Int) else 0) (j : Int) = 0 by exact if_neg (by rintro ⟨y1, y2, y3, y4⟩; omega)] at ih; exact ih)
theorem L_m_sis {ct : Int → Int → Int} {a : Int} {Q : aPost} {d kc ks : Nat} (hd : 3 ≤ d) (hPQ : PQ (ct 1)) (ha : one (ct 1) a) (K : AW (mq Q) md_X7_sisters d kc ks 73 [some (vR 0), some (vI a), some (vI (isum (fun v => if ((0 ≤ v ∧ v < (ct 1) 1) ∨ (8 ≤ v ∧ v < 8 + (ct 1) 2)) ∧ v ≠ a ∧ mot (ct 1) a ≠ -1 ∧ mot (ct 1) v = mot (ct 1) a then (1 : Int) else 0) 16)), some (vI 16)] [] (gM ct)) : ∀ (r j : Nat), j + r = 16 → AW (mq Q) md_X7_sisters d kc ks 18 [some (vR 0), some (vI a), some (vI (isum (fun v => if ((0 ≤ v ∧ v < (ct 1) 1) ∨ (8 ≤ v ∧ v < 8 + (ct 1) 2)) ∧ v ≠ a ∧ mot (ct 1) a ≠ -1 ∧ mot (ct 1) v = mot (ct 1) a then (1 : Int) else 0) j)), some (vI j)] [] (gM ct) := by
  have hab := one_bd hPQ.1 ha
  have hq1 := hPQ.1
  intro r
  induction r with
  | zero =>
    intro j h1
    have ej : j = 16 := by omega
    subst ej
    refine aw_iload_n dX7_sisters_18 rfl ?_
    refine aw_bipush dX7_sisters_19 (by decide) ?_
    refine aw_icmpge (tgt := 73) dX7_sisters_21 (by decide) (fun h21 => ?_) (fun h21 => ?_)
    · exact K
    · exfalso; omega
  | succ r ih =>
    intro j h1
    have hb := isum_bd (g := (fun v => if ((0 ≤ v ∧ v < (ct 1) 1) ∨ (8 ≤ v ∧ v < 8 + (ct 1) 2)) ∧ v ≠ a ∧ mot (ct 1) a ≠ -1 ∧ mot (ct 1) v = mot (ct 1) a then (1 : Int) else 0)) (B := 1) (n := j) fun i i0 i1 => by
      show 0 ≤ (if _ then (1 : Int) else 0) ∧ (if _ then (1 : Int) else 0) ≤ 1
      split <;> omega
    have es : isum (fun v => if ((0 ≤ v ∧ v < (ct 1) 1) ∨ (8 ≤ v ∧ v < 8 + (ct 1) 2)) ∧ v ≠ a ∧ mot (ct 1) a ≠ -1 ∧ mot (ct 1) v = mot (ct 1) a then (1 : Int) else 0) (j + 1) = isum (fun v => if ((0 ≤ v ∧ v < (ct 1) 1) ∨ (8 ≤ v ∧ v < 8 + (ct 1) 2)) ∧ v ≠ a ∧ mot (ct 1) a ≠ -1 ∧ mot (ct 1) v = mot (ct 1) a then (1 : Int) else 0) j + (fun v => if ((0 ≤ v ∧ v < (ct 1) 1) ∨ (8 ≤ v ∧ v < 8 + (ct 1) 2)) ∧ v ≠ a ∧ mot (ct 1) a ≠ -1 ∧ mot (ct 1) v = mot (ct 1) a then (1 : Int) else 0) (j : Int) := rfl
    have ih := ih (j + 1) (by omega)
    rw [es] at ih
    refine aw_iload_n dX7_sisters_18 rfl ?_
    refine aw_bipush dX7_sisters_19 (by decide) ?_
    refine aw_icmpge (tgt := 73) dX7_sisters_21 (by decide) (fun h21 => ?_) (fun h21 => ?_)
    · exfalso; omega
    · refine aw_iload_n dX7_sisters_24 rfl ?_
      refine aw_aload_n dX7_sisters_25 rfl ?_
      refine aw_iload_n dX7_sisters_26 rfl ?_
      refine c_X7_286 rfl dX7_sisters_27 m_ob (Nat.le_of_ble_eq_true rfl) (by omega) (C_m_isOne (by omega) (fun ho => ?_) (fun ho => ?_))
      · refine aK_i ?_
        refine aw_ifeq (tgt := 64) dX7_sisters_30 (by decide) (fun h => absurd h (by decide)) (fun _ => ?_)
        refine aw_iload_n dX7_sisters_33 rfl ?_
        refine aw_iload_n dX7_sisters_34 rfl ?_
        refine aw_icmpeq (tgt := 64) dX7_sisters_35 (by decide) (fun h35 => ?_) (fun h35 => ?_)
        · refine aw_iconst dX7_sisters_64 (by decide) ?_
          refine aw_iaddr dX7_sisters_65 (by omega) ?_
          refine aw_istore2 dX7_sisters_66 (by decide) rfl ?_
          refine aw_iinc3r dX7_sisters_67 (by decide) (by decide) rfl (by omega) ?_
          refine aw_goto (tgt := 18) dX7_sisters_70 (by decide) ?_
          first
            | (rw [show (fun v => if ((0 ≤ v ∧ v < (ct 1) 1) ∨ (8 ≤ v ∧ v < 8 + (ct 1) 2)) ∧ v ≠ a ∧ mot (ct 1) a ≠ -1 ∧ mot (ct 1) v = mot (ct 1) a then (1 : Int) else 0) (j : Int) = 1 by exact if_pos ⟨by omega, by omega, by omega, by omega⟩] at ih; exact ih)
            | (rw [show (fun v => if ((0 ≤ v ∧ v < (ct 1) 1) ∨ (8 ≤ v ∧ v < 8 + (ct 1) 2)) ∧ v ≠ a ∧ mot (ct 1) a ≠ -1 ∧ mot (ct 1) v = mot (ct 1) a then (1 : Int) else 0) (j : Int) = 0 by exact if_neg (by rintro ⟨y1, y2, y3, y4⟩; omega)] at ih; exact ih)
        · refine aw_aload_n dX7_sisters_38 rfl ?_
          refine aw_iload_n dX7_sisters_39 rfl ?_
          refine c_X7_289 rfl dX7_sisters_40 m_ob (Nat.le_of_ble_eq_true rfl) (by omega) (C_m_mot (by omega) ?_)
          refine aK_i ?_
          refine aw_iconst dX7_sisters_43 (by decide) ?_
          refine aw_icmpeq (tgt := 64) dX7_sisters_44 (by decide) (fun h44 => ?_) (fun h44 => ?_)
          · refine aw_iconst dX7_sisters_64 (by decide) ?_
            refine aw_iaddr dX7_sisters_65 (by omega) ?_
            refine aw_istore2 dX7_sisters_66 (by decide) rfl ?_
            refine aw_iinc3r dX7_sisters_67 (by decide) (by decide) rfl (by omega) ?_
            refine aw_goto (tgt := 18) dX7_sisters_70 (by decide) ?_
            first
              | (rw [show (fun v => if ((0 ≤ v ∧ v < (ct 1) 1) ∨ (8 ≤ v ∧ v < 8 + (ct 1) 2)) ∧ v ≠ a ∧ mot (ct 1) a ≠ -1 ∧ mot (ct 1) v = mot (ct 1) a then (1 : Int) else 0) (j : Int) = 1 by exact if_pos ⟨by omega, by omega, by omega, by omega⟩] at ih; exact ih)
              | (rw [show (fun v => if ((0 ≤ v ∧ v < (ct 1) 1) ∨ (8 ≤ v ∧ v < 8 + (ct 1) 2)) ∧ v ≠ a ∧ mot (ct 1) a ≠ -1 ∧ mot (ct 1) v = mot (ct 1) a then (1 : Int) else 0) (j : Int) = 0 by exact if_neg (by rintro ⟨y1, y2, y3, y4⟩; omega)] at ih; exact ih)
          · refine aw_aload_n dX7_sisters_47 rfl ?_
            refine aw_iload_n dX7_sisters_48 rfl ?_
            refine c_X7_289 rfl dX7_sisters_49 m_ob (Nat.le_of_ble_eq_true rfl) (by omega) (C_m_mot (by omega) ?_)
            refine aK_i ?_
            refine aw_aload_n dX7_sisters_52 rfl ?_
            refine aw_iload_n dX7_sisters_53 rfl ?_
            refine c_X7_289 rfl dX7_sisters_54 m_ob (Nat.le_of_ble_eq_true rfl) (by omega) (C_m_mot (by omega) ?_)
            refine aK_i ?_
            refine aw_icmpne (tgt := 64) dX7_sisters_57 (by decide) (fun h57 => ?_) (fun h57 => ?_)
            · refine aw_iconst dX7_sisters_64 (by decide) ?_
              refine aw_iaddr dX7_sisters_65 (by omega) ?_
              refine aw_istore2 dX7_sisters_66 (by decide) rfl ?_
              refine aw_iinc3r dX7_sisters_67 (by decide) (by decide) rfl (by omega) ?_
              refine aw_goto (tgt := 18) dX7_sisters_70 (by decide) ?_
              first
                | (rw [show (fun v => if ((0 ≤ v ∧ v < (ct 1) 1) ∨ (8 ≤ v ∧ v < 8 + (ct 1) 2)) ∧ v ≠ a ∧ mot (ct 1) a ≠ -1 ∧ mot (ct 1) v = mot (ct 1) a then (1 : Int) else 0) (j : Int) = 1 by exact if_pos ⟨by omega, by omega, by omega, by omega⟩] at ih; exact ih)
                | (rw [show (fun v => if ((0 ≤ v ∧ v < (ct 1) 1) ∨ (8 ≤ v ∧ v < 8 + (ct 1) 2)) ∧ v ≠ a ∧ mot (ct 1) a ≠ -1 ∧ mot (ct 1) v = mot (ct 1) a then (1 : Int) else 0) (j : Int) = 0 by exact if_neg (by rintro ⟨y1, y2, y3, y4⟩; omega)] at ih; exact ih)
            · refine aw_iconst dX7_sisters_60 (by decide) ?_
              refine aw_goto (tgt := 65) dX7_sisters_61 (by decide) ?_
              refine aw_iaddr dX7_sisters_65 (by omega) ?_
              refine aw_istore2 dX7_sisters_66 (by decide) rfl ?_
              refine aw_iinc3r dX7_sisters_67 (by decide) (by decide) rfl (by omega) ?_
              refine aw_goto (tgt := 18) dX7_sisters_70 (by decide) ?_
              first
                | (rw [show (fun v => if ((0 ≤ v ∧ v < (ct 1) 1) ∨ (8 ≤ v ∧ v < 8 + (ct 1) 2)) ∧ v ≠ a ∧ mot (ct 1) a ≠ -1 ∧ mot (ct 1) v = mot (ct 1) a then (1 : Int) else 0) (j : Int) = 1 by exact if_pos ⟨by omega, by omega, by omega, by omega⟩] at ih; exact ih)
                | (rw [show (fun v => if ((0 ≤ v ∧ v < (ct 1) 1) ∨ (8 ≤ v ∧ v < 8 + (ct 1) 2)) ∧ v ≠ a ∧ mot (ct 1) a ≠ -1 ∧ mot (ct 1) v = mot (ct 1) a then (1 : Int) else 0) (j : Int) = 0 by exact if_neg (by rintro ⟨y1, y2, y3, y4⟩; omega)] at ih; exact ih)
      · refine aK_i ?_
        refine aw_ifeq (tgt := 64) dX7_sisters_30 (by decide) (fun _ => ?_) (fun h => absurd h (by decide))
        refine aw_iconst dX7_sisters_64 (by decide) ?_
        refine aw_iaddr dX7_sisters_65 (by omega) ?_
        refine aw_istore2 dX7_sisters_66 (by decide) rfl ?_
        refine aw_iinc3r dX7_sisters_67 (by decide) (by decide) rfl (by omega) ?_
        refine aw_goto (tgt := 18) dX7_sisters_70 (by decide) ?_
        first
          | (rw [show (fun v => if ((0 ≤ v ∧ v < (ct 1) 1) ∨ (8 ≤ v ∧ v < 8 + (ct 1) 2)) ∧ v ≠ a ∧ mot (ct 1) a ≠ -1 ∧ mot (ct 1) v = mot (ct 1) a then (1 : Int) else 0) (j : Int) = 1 by exact if_pos ⟨by omega, by omega, by omega, by omega⟩] at ih; exact ih)
          | (rw [show (fun v => if ((0 ≤ v ∧ v < (ct 1) 1) ∨ (8 ≤ v ∧ v < 8 + (ct 1) 2)) ∧ v ≠ a ∧ mot (ct 1) a ≠ -1 ∧ mot (ct 1) v = mot (ct 1) a then (1 : Int) else 0) (j : Int) = 0 by exact if_neg (by rintro ⟨y1, y2, y3, y4⟩; omega)] at ih; exact ih)
theorem OP_sisters {sz : Int} {im : Int → aIm} {ct cm : Int → Int → Int} (h : XR (sz, im, ct) cm) {a : Int} (r0 : -2147483648 ≤ a ∧ a < 2147483648)  : AMet md_X0_sisters 4 0 0 [vR 0, vI a] (sz, im, ct) (XQ md_X7_sisters 5 [vR 0, vI a] cm) := by
  obtain ⟨own, N, hR, HY, HL, HN, HS, HP, HF, HX, hv2, hv3, hv4⟩ := id h
  dsimp only at hR HY HL HS HX hv2 hv3 hv4
  have hp0 := HP.1
  have hp3 := HP.2.1
  have hpq := HP.2.2.2.1.1
  have hps := HP.2.2.2.2.2
  have hlt : ct 10 0 ≠ 0 := fun e => by have q1 := HL.2.2.1.1; rw [e] at q1; have q2 := hR.1.2; omega
  have hPQ := HP.2.2.2.1
  have HL1 := HL.up0 (j := 7) (v := 0) hR.1.2
  refine AMet.go (L := [some (vR 0), some (vI a), none, none]) mok_X0_sisters (Nat.le_of_ble_eq_true rfl) rfl ?_
  refine aw_aload_n dX0_sisters_0 rfl ?_
  refine aw_aload_n dX0_sisters_1 rfl ?_
  refine c_X0_182 rfl dX0_sisters_2 hR.o0 (Nat.le_of_ble_eq_true rfl) (by omega) (C_x_lines hR HY ?_)
  repeat (first | rw [aup_s] | rw [aup_n (by omega)])
  refine aK_i ?_
  refine aw_iload_n dX0_sisters_5 rfl ?_
  refine c_X0_287 rfl dX0_sisters_6 HL.1 (Nat.le_of_ble_eq_true rfl) (by omega) (C_x_isThere HL (fun xo => ?_) (fun xo => ?_))
  · have xoo := xo
    have hpa := hPQ.2.2.2.1 _ xoo
    unfold one at xo
    refine aK_i ?_
    refine aw_ifeq (tgt := 16) dX0_sisters_9 (by decide) (fun h => absurd h (by decide)) (fun _ => ?_)
    refine aw_iconst dX0_sisters_12 (by decide) ?_
    refine aw_goto (tgt := 17) dX0_sisters_13 (by decide) ?_
    refine p_X0_73_0 rfl dX0_sisters_17 hR.o0 ?_
    refine aw_aload_n dX0_sisters_20 rfl ?_
    refine g_X0_73_0 rfl dX0_sisters_21 hR.o0 ?_
    repeat (first | rw [aup_s] | rw [aup_n (by omega)])
    refine aw_ifle (tgt := 29) dX0_sisters_24 (by decide) (fun _ => ?_) (fun h => absurd h (by decide))
    refine aw_iconst dX0_sisters_29 (by decide) ?_
    refine aw_istore2 dX0_sisters_30 (by decide) rfl ?_
    refine aw_iconst dX0_sisters_31 (by decide) ?_
    refine aw_istore3 dX0_sisters_32 (by decide) rfl ?_
    refine L_x_sis (a := a) (by omega) hR HY (aup_n (by omega)) HL1 hPQ xoo ?_ 16 0 (by omega)
    refine aw_iload_n dX0_sisters_102 rfl ?_
    refine aw_ireturn dX0_sisters_103 rfl ?_
    refine ⟨_, rfl, ?_⟩
    refine AMet.go (L := [some (vR 0), some (vI a), none, none]) mok_X7_sisters (Nat.le_of_ble_eq_true rfl) rfl ?_
    refine aw_aload_n dX7_sisters_0 rfl ?_
    refine aw_iload_n dX7_sisters_1 rfl ?_
    refine c_X7_286 rfl dX7_sisters_2 m_ob (Nat.le_of_ble_eq_true rfl) (by omega) (C_m_isOne (by omega) (fun ho => ?_) (fun ho => ?_))
    · first
        | (exfalso; omega)
        | skip
          refine aK_i ?_
          refine aw_ifne (tgt := 14) dX7_sisters_5 (by decide) (fun _ => ?_) (fun h => absurd h (by decide))
          refine aw_iconst dX7_sisters_14 (by decide) ?_
          refine aw_istore2 dX7_sisters_15 (by decide) rfl ?_
          refine aw_iconst dX7_sisters_16 (by decide) ?_
          refine aw_istore3 dX7_sisters_17 (by decide) rfl ?_
          refine L_m_sis (a := a) (by omega) hPQ xoo ?_ 16 0 (by omega)
          refine aw_aload_n dX7_sisters_73 rfl ?_
          refine aw_iload_n dX7_sisters_74 rfl ?_
          refine c_X7_76 rfl dX7_sisters_75 m_ob (Nat.le_of_ble_eq_true rfl) (by omega) (C_m_gives ?_)
          refine aK_i ?_
          refine aw_ireturn dX7_sisters_78 rfl ?_
          first
            | (exfalso; omega)
            | (refine XR.sameE h ?_ ?_ ?_ ?_ ?_ ?_
               · first
                   | rfl
                   | omega
               · repeat (first | exact xs.rf | refine xs.up ?_ (by decide))
               · repeat (first | exact mss.rf | refine mss.up0 ?_ (by decide))
               · first
                   | (simp [aup, hv2, hv3, hv4]; done)
                   | (simp [aup, hv2, hv3, hv4]; omega)
               · simp [aup, hv2, hv3, hv4]
               · simp [aup, hv2, hv3, hv4])
    · first
        | (exfalso; omega)
        | skip
          refine aK_i ?_
          refine aw_ifne (tgt := 14) dX7_sisters_5 (by decide) (fun h => absurd h (by decide)) (fun _ => ?_)
          refine aw_aload_n dX7_sisters_8 rfl ?_
          refine aw_iconst dX7_sisters_9 (by decide) ?_
          refine c_X7_72 rfl dX7_sisters_10 m_ob (Nat.le_of_ble_eq_true rfl) (by omega) (C_m_refuse ?_)
          refine aK_i ?_
          refine aw_ireturn dX7_sisters_13 rfl ?_
          first
            | (exfalso; omega)
            | (refine XR.sameE h ?_ ?_ ?_ ?_ ?_ ?_
               · first
                   | rfl
                   | omega
               · repeat (first | exact xs.rf | refine xs.up ?_ (by decide))
               · repeat (first | exact mss.rf | refine mss.up0 ?_ (by decide))
               · first
                   | (simp [aup, hv2, hv3, hv4]; done)
                   | (simp [aup, hv2, hv3, hv4]; omega)
               · simp [aup, hv2, hv3, hv4]
               · simp [aup, hv2, hv3, hv4])
  · have xoo := xo
    unfold one at xo
    refine aK_i ?_
    refine aw_ifeq (tgt := 16) dX0_sisters_9 (by decide) (fun _ => ?_) (fun h => absurd h (by decide))
    refine aw_iconst dX0_sisters_16 (by decide) ?_
    refine p_X0_73_0 rfl dX0_sisters_17 hR.o0 ?_
    refine aw_aload_n dX0_sisters_20 rfl ?_
    refine g_X0_73_0 rfl dX0_sisters_21 hR.o0 ?_
    repeat (first | rw [aup_s] | rw [aup_n (by omega)])
    refine aw_ifle (tgt := 29) dX0_sisters_24 (by decide) (fun h => absurd h (by decide)) (fun _ => ?_)
    refine aw_iconst dX0_sisters_27 (by decide) ?_
    refine aw_ireturn dX0_sisters_28 rfl ?_
    refine ⟨_, rfl, ?_⟩
    refine AMet.go (L := [some (vR 0), some (vI a), none, none]) mok_X7_sisters (Nat.le_of_ble_eq_true rfl) rfl ?_
    refine aw_aload_n dX7_sisters_0 rfl ?_
    refine aw_iload_n dX7_sisters_1 rfl ?_
    refine c_X7_286 rfl dX7_sisters_2 m_ob (Nat.le_of_ble_eq_true rfl) (by omega) (C_m_isOne (by omega) (fun ho => ?_) (fun ho => ?_))
    · first
        | (exfalso; omega)
        | skip
          refine aK_i ?_
          refine aw_ifne (tgt := 14) dX7_sisters_5 (by decide) (fun _ => ?_) (fun h => absurd h (by decide))
          refine aw_iconst dX7_sisters_14 (by decide) ?_
          refine aw_istore2 dX7_sisters_15 (by decide) rfl ?_
          refine aw_iconst dX7_sisters_16 (by decide) ?_
          refine aw_istore3 dX7_sisters_17 (by decide) rfl ?_
          refine L_m_sis (a := a) (by omega) hPQ xoo ?_ 16 0 (by omega)
          refine aw_aload_n dX7_sisters_73 rfl ?_
          refine aw_iload_n dX7_sisters_74 rfl ?_
          refine c_X7_76 rfl dX7_sisters_75 m_ob (Nat.le_of_ble_eq_true rfl) (by omega) (C_m_gives ?_)
          refine aK_i ?_
          refine aw_ireturn dX7_sisters_78 rfl ?_
          first
            | (exfalso; omega)
            | (refine XR.sameE h ?_ ?_ ?_ ?_ ?_ ?_
               · first
                   | rfl
                   | omega
               · repeat (first | exact xs.rf | refine xs.up ?_ (by decide))
               · repeat (first | exact mss.rf | refine mss.up0 ?_ (by decide))
               · first
                   | (simp [aup, hv2, hv3, hv4]; done)
                   | (simp [aup, hv2, hv3, hv4]; omega)
               · simp [aup, hv2, hv3, hv4]
               · simp [aup, hv2, hv3, hv4])
    · first
        | (exfalso; omega)
        | skip
          refine aK_i ?_
          refine aw_ifne (tgt := 14) dX7_sisters_5 (by decide) (fun h => absurd h (by decide)) (fun _ => ?_)
          refine aw_aload_n dX7_sisters_8 rfl ?_
          refine aw_iconst dX7_sisters_9 (by decide) ?_
          refine c_X7_72 rfl dX7_sisters_10 m_ob (Nat.le_of_ble_eq_true rfl) (by omega) (C_m_refuse ?_)
          refine aK_i ?_
          refine aw_ireturn dX7_sisters_13 rfl ?_
          first
            | (exfalso; omega)
            | (refine XR.sameE h ?_ ?_ ?_ ?_ ?_ ?_
               · first
                   | rfl
                   | omega
               · repeat (first | exact xs.rf | refine xs.up ?_ (by decide))
               · repeat (first | exact mss.rf | refine mss.up0 ?_ (by decide))
               · first
                   | (simp [aup, hv2, hv3, hv4]; done)
                   | (simp [aup, hv2, hv3, hv4]; omega)
               · simp [aup, hv2, hv3, hv4]
               · simp [aup, hv2, hv3, hv4])
theorem L_x_inL {own : Int → Int} {sz : Int} {im : Int → aIm} {ct ct0 ct2 : Int → Int → Int} {a la dd : Int} {s N : Int → Int} {Q : aPost} {d kc ks : Nat} (hd : 3 ≤ d) (hR : RT own sz im ct0) (HY : YR own 0 sz im ct2 10 s dd N) (hl : ct 10 0 = la) (HL : LR own sz im ct la s N) (hPQ : PQ s) {b : Int} {R : Int} (hQ : Q (.inl (some (vI R))) (sz, im, ct)) : ∀ (f : Nat) (k : Int), chn s f k → inL s a f k = R → AW (mq Q) md_X0_isInLine d kc ks 2 [some (vR 0), some (vI a), some (vI b), some (vI k)] [] (sz, im, ct) := by
  intro f
  induction f with
  | zero =>
    intro k h1 h2
    have e := chn.zero hPQ h1
    subst e
    rw [inL_n] at h2
    subst h2
    refine aw_iload_n dX0_isInLine_2 rfl ?_
    refine aw_iflt (tgt := 24) dX0_isInLine_3 (by decide) (fun h3 => ?_) (fun h3 => ?_)
    · first
        | (exfalso; omega)
        | skip
          refine aw_iload_n dX0_isInLine_24 rfl ?_
          refine aw_iflt (tgt := 32) dX0_isInLine_25 (by decide) (fun h25 => ?_) (fun h25 => ?_)
          · first
              | (exfalso; omega)
              | skip
                refine aw_iconst dX0_isInLine_32 (by decide) ?_
                refine aw_zreturn dX0_isInLine_33 rfl (Or.inl rfl) ?_
                first
                  | exact hQ
                  | (exfalso; omega)
          · first
              | (exfalso; omega)
              | skip
                refine aw_iconst dX0_isInLine_28 (by decide) ?_
                refine aw_goto (tgt := 33) dX0_isInLine_29 (by decide) ?_
                refine aw_zreturn dX0_isInLine_33 rfl (Or.inr rfl) ?_
                first
                  | exact hQ
                  | (exfalso; omega)
    · exfalso; omega
  | succ f ih =>
    intro k h1 h2
    rcases h1 with h1 | ⟨h1, h5⟩
    · subst h1
      rw [inL_n] at h2
      subst h2
      refine aw_iload_n dX0_isInLine_2 rfl ?_
      refine aw_iflt (tgt := 24) dX0_isInLine_3 (by decide) (fun h3 => ?_) (fun h3 => ?_)
      · first
          | (exfalso; omega)
          | skip
            refine aw_iload_n dX0_isInLine_24 rfl ?_
            refine aw_iflt (tgt := 32) dX0_isInLine_25 (by decide) (fun h25 => ?_) (fun h25 => ?_)
            · first
                | (exfalso; omega)
                | skip
                  refine aw_iconst dX0_isInLine_32 (by decide) ?_
                  refine aw_zreturn dX0_isInLine_33 rfl (Or.inl rfl) ?_
                  first
                    | exact hQ
                    | (exfalso; omega)
            · first
                | (exfalso; omega)
                | skip
                  refine aw_iconst dX0_isInLine_28 (by decide) ?_
                  refine aw_goto (tgt := 33) dX0_isInLine_29 (by decide) ?_
                  refine aw_zreturn dX0_isInLine_33 rfl (Or.inr rfl) ?_
                  first
                    | exact hQ
                    | (exfalso; omega)
      · exfalso; omega
    · have hb := one_bd hPQ.1 h1
      simp only [inL, if_neg (show ¬ k = -1 by omega)] at h2
      refine aw_iload_n dX0_isInLine_2 rfl ?_
      refine aw_iflt (tgt := 24) dX0_isInLine_3 (by decide) (fun h3 => ?_) (fun h3 => ?_)
      · first
          | (exfalso; omega)
          | skip
            refine aw_iload_n dX0_isInLine_24 rfl ?_
            refine aw_iflt (tgt := 32) dX0_isInLine_25 (by decide) (fun h25 => ?_) (fun h25 => ?_)
            · first
                | (exfalso; omega)
                | skip
                  refine aw_iconst dX0_isInLine_32 (by decide) ?_
                  refine aw_zreturn dX0_isInLine_33 rfl (Or.inl rfl) ?_
                  rw [if_pos (by omega)] at h2
                  subst h2
                  exact hQ
            · first
                | (exfalso; omega)
                | skip
                  refine aw_iconst dX0_isInLine_28 (by decide) ?_
                  refine aw_goto (tgt := 33) dX0_isInLine_29 (by decide) ?_
                  refine aw_zreturn dX0_isInLine_33 rfl (Or.inr rfl) ?_
                  rw [if_pos (by omega)] at h2
                  subst h2
                  exact hQ
      · first
          | (exfalso; omega)
          | skip
            refine aw_iload_n dX0_isInLine_6 rfl ?_
            refine aw_iload_n dX0_isInLine_7 rfl ?_
            refine aw_icmpeq (tgt := 24) dX0_isInLine_8 (by decide) (fun h8 => ?_) (fun h8 => ?_)
            · first
                | (exfalso; omega)
                | skip
                  refine aw_iload_n dX0_isInLine_24 rfl ?_
                  refine aw_iflt (tgt := 32) dX0_isInLine_25 (by decide) (fun h25 => ?_) (fun h25 => ?_)
                  · first
                      | (exfalso; omega)
                      | skip
                        refine aw_iconst dX0_isInLine_32 (by decide) ?_
                        refine aw_zreturn dX0_isInLine_33 rfl (Or.inl rfl) ?_
                        rw [if_pos (by omega)] at h2
                        subst h2
                        exact hQ
                  · first
                      | (exfalso; omega)
                      | skip
                        refine aw_iconst dX0_isInLine_28 (by decide) ?_
                        refine aw_goto (tgt := 33) dX0_isInLine_29 (by decide) ?_
                        refine aw_zreturn dX0_isInLine_33 rfl (Or.inr rfl) ?_
                        rw [if_pos (by omega)] at h2
                        subst h2
                        exact hQ
            · first
                | (exfalso; omega)
                | skip
                  refine aw_aload_n dX0_isInLine_11 rfl ?_
                  refine c_X0_182 rfl dX0_isInLine_12 hR.o0 (Nat.le_of_ble_eq_true rfl) (by omega) (C_x_lines hR HY ?_)
                  rw [hl]
                  refine aK_i ?_
                  refine g_X0_295_6 rfl dX0_isInLine_15 HL.1 ?_
                  refine aw_iload_n dX0_isInLine_18 rfl ?_
                  refine aw_iaload dX0_isInLine_19 HL.2.1.2.1 (by omega) (by omega) ?_
                  rw [HL.motE h1]
                  refine aw_istore3 dX0_isInLine_20 (by decide) rfl ?_
                  refine aw_goto (tgt := 2) dX0_isInLine_21 (by decide) ?_
                  exact ih _ (chn.step hPQ h1 h5) (by rw [if_neg (by omega)] at h2; exact h2)
theorem C_x_isInLine {own : Int → Int} {sz : Int} {im : Int → aIm} {ct ct0 ct2 : Int → Int → Int} {a b la dd : Int} {s N : Int → Int} {Q : aPost} (hR : RT own sz im ct0) (HY : YR own 0 sz im ct2 10 s dd N) (hl : ct 10 0 = la) (HL : LR own sz im ct la s N) (hPQ : PQ s) (hb : one s b) (hQ : Q (.inl (some (vI (inL s a 16 b)))) (sz, im, ct)) : AMet md_X0_isInLine 3 0 0 [vR 0, vI a, vI b] (sz, im, ct) Q := by
  refine AMet.go (L := [some (vR 0), some (vI a), some (vI b), none]) mok_X0_isInLine (Nat.le_of_ble_eq_true rfl) rfl ?_
  refine aw_iload_n dX0_isInLine_0 rfl ?_
  refine aw_istore3 dX0_isInLine_1 (by decide) rfl ?_
  exact L_x_inL (a := a) (b := b) (by omega) hR HY hl HL hPQ hQ 16 _ (chn.of hPQ hb) rfl
theorem L_x_near {own : Int → Int} {sz : Int} {im : Int → aIm} {ct ct0 ct2 : Int → Int → Int} {a la dd : Int} {s N : Int → Int} {Q : aPost} {d kc ks : Nat} (hd : 3 ≤ d) (hR : RT own sz im ct0) (HY : YR own 0 sz im ct2 10 s dd N) (hl : ct 10 0 = la) (HL : LR own sz im ct la s N) (hPQ : PQ s) {b R : Int} (hd4 : 4 ≤ d) (hb : one s b) (K : AW (mq Q) md_X0_nearest d kc ks 68 [some (vR 0), some (vI a), some (vI b), some (vI R)] [] (sz, im, ct)) : ∀ (f : Nat) (k : Int), chn s f k → neaF s b f k = R → AW (mq Q) md_X0_nearest d kc ks 42 [some (vR 0), some (vI a), some (vI b), some (vI k)] [] (sz, im, ct) := by
  intro f
  induction f with
  | zero =>
    intro k h1 h2
    have e := chn.zero hPQ h1
    subst e
    rw [neaF_n] at h2
    subst h2
    refine aw_iload_n dX0_nearest_42 rfl ?_
    refine aw_iflt (tgt := 68) dX0_nearest_43 (by decide) (fun h43 => ?_) (fun h43 => ?_)
    · exact K
    · exfalso; omega
  | succ f ih =>
    intro k h1 h2
    rcases h1 with h1 | ⟨h1, h5⟩
    · subst h1
      rw [neaF_n] at h2
      subst h2
      refine aw_iload_n dX0_nearest_42 rfl ?_
      refine aw_iflt (tgt := 68) dX0_nearest_43 (by decide) (fun h43 => ?_) (fun h43 => ?_)
      · exact K
      · exfalso; omega
    · have hkb := one_bd hPQ.1 h1
      have h01 := inL_01 (s := s) (w := k) (f := 16) (k := b)
      simp only [neaF, if_neg (show ¬ k = -1 by omega)] at h2
      refine aw_iload_n dX0_nearest_42 rfl ?_
      refine aw_iflt (tgt := 68) dX0_nearest_43 (by decide) (fun h43 => ?_) (fun h43 => ?_)
      · exfalso; omega
      · refine aw_aload_n dX0_nearest_46 rfl ?_
        refine aw_iload_n dX0_nearest_47 rfl ?_
        refine aw_iload_n dX0_nearest_48 rfl ?_
        refine c_X0_382 rfl dX0_nearest_49 hR.o0 (Nat.le_of_ble_eq_true rfl) (by omega) (C_x_isInLine hR HY hl HL hPQ hb ?_)
        refine aK_i ?_
        refine aw_ifne (tgt := 68) dX0_nearest_52 (by decide) (fun h52 => ?_) (fun h52 => ?_)
        · rw [if_pos (by omega)] at h2
          subst h2
          exact K
        · refine aw_aload_n dX0_nearest_55 rfl ?_
          refine c_X0_182 rfl dX0_nearest_56 hR.o0 (Nat.le_of_ble_eq_true rfl) (by omega) (C_x_lines hR HY ?_)
          rw [hl]
          refine aK_i ?_
          refine g_X0_295_6 rfl dX0_nearest_59 HL.1 ?_
          refine aw_iload_n dX0_nearest_62 rfl ?_
          refine aw_iaload dX0_nearest_63 HL.2.1.2.1 (by omega) (by omega) ?_
          rw [HL.motE h1]
          refine aw_istore3 dX0_nearest_64 (by decide) rfl ?_
          refine aw_goto (tgt := 42) dX0_nearest_65 (by decide) ?_
          exact ih _ (chn.step hPQ h1 h5) (by rw [if_neg (by omega)] at h2; exact h2)
