set_option maxRecDepth 100000
/-! kin: the walks -/
theorem C_x_kinO {own : Int → Int} {sz : Int} {im : Int → aIm} {ct : Int → Int → Int} {la : Int} {s N : Int → Int} {r : Nat} {x y : Int} {Q : aPost} (HL : LR own sz im ct la s N) (H : ∀ {a b : Int} {Q : aPost}, one s a → one s b → tld s a < r → tld s b < r → Q (.inl (some (vI (kinG 65536 s r a b)))) (sz, im, ct) → AMet md_X6_kin (2 * r + 1) 0 0 [vR la, vI a, vI b] (sz, im, ct) Q) (hx : bef s r x) (hy : bef s r y) (hQ : Q (.inl (some (vI (kinO (kinG 65536 s r) x y)))) (sz, im, ct)) : AMet md_X6_kinOrNone (2 * r + 2) 0 0 [vR la, vI x, vI y] (sz, im, ct) Q := by
  have hb := HL.2.2.2.2.1
  have gx : -1 ≤ x := by
    rcases hx with e | ⟨e, -⟩
    · omega
    · have := one_nn e; omega
  have gy : -1 ≤ y := by
    rcases hy with e | ⟨e, -⟩
    · omega
    · have := one_nn e; omega
  unfold kinO at hQ
  refine AMet.go (L := [some (vR la), some (vI x), some (vI y)]) mok_X6_kinOrNone (Nat.le_of_ble_eq_true rfl) rfl ?_
  refine aw_iload_n dX6_kinOrNone_0 rfl ?_
  refine aw_iflt (tgt := 8) dX6_kinOrNone_1 (by decide) (fun h1 => ?_) (fun h1 => ?_)
  · refine aw_iconst dX6_kinOrNone_8 (by decide) ?_
    refine aw_goto (tgt := 18) dX6_kinOrNone_9 (by decide) ?_
    refine aw_ireturn dX6_kinOrNone_18 rfl ?_
    first
      | (rw [if_pos (by omega)] at hQ; exact hQ)
      | (rw [if_neg (by omega)] at hQ; exact hQ)
  · refine aw_iload_n dX6_kinOrNone_4 rfl ?_
    refine aw_ifge (tgt := 12) dX6_kinOrNone_5 (by decide) (fun h5 => ?_) (fun h5 => ?_)
    · refine aw_aload_n dX6_kinOrNone_12 rfl ?_
      refine aw_iload_n dX6_kinOrNone_13 rfl ?_
      refine aw_iload_n dX6_kinOrNone_14 rfl ?_
      refine c_X6_42 rfl dX6_kinOrNone_15 HL.1 (Nat.le_of_ble_eq_true rfl) (by omega) (H (by rcases hx with e | ⟨e, -⟩; omega; exact e) (by rcases hy with e | ⟨e, -⟩; omega; exact e) (by rcases hx with e | ⟨-, e⟩; omega; exact e) (by rcases hy with e | ⟨-, e⟩; omega; exact e) ?_)
      refine aK_i ?_
      refine aw_ireturn dX6_kinOrNone_18 rfl ?_
      first
        | (rw [if_pos (by omega)] at hQ; exact hQ)
        | (rw [if_neg (by omega)] at hQ; exact hQ)
    · refine aw_iconst dX6_kinOrNone_8 (by decide) ?_
      refine aw_goto (tgt := 18) dX6_kinOrNone_9 (by decide) ?_
      refine aw_ireturn dX6_kinOrNone_18 rfl ?_
      first
        | (rw [if_pos (by omega)] at hQ; exact hQ)
        | (rw [if_neg (by omega)] at hQ; exact hQ)
theorem C_x_kin {own : Int → Int} {sz : Int} {im : Int → aIm} {ct : Int → Int → Int} {la : Int} {s N : Int → Int} (HL : LR own sz im ct la s N) (hp : PQ s) : ∀ (r : Nat) {a b : Int} {Q : aPost}, one s a → one s b → tld s a < r → tld s b < r → Q (.inl (some (vI (kinG 65536 s r a b)))) (sz, im, ct) → AMet md_X6_kin (2 * r + 1) 0 0 [vR la, vI a, vI b] (sz, im, ct) Q := by
  intro r
  induction r with
  | zero =>
    intro a b Q ha hb h1
    have := (hp.2.2.2.1 a ha).1
    omega
  | succ r ih =>
    intro a b Q ha hb hta htb hQ
    have q8 := hp.1
    have ba := one_bd hp.1 ha
    have bb := one_bd hp.1 hb
    have hne : a ≠ b → tld s a ≠ tld s b := fun z y => z (hp.2.2.2.2.1 a b ha hb y)
    refine AMet.go (L := [some (vR la), some (vI a), some (vI b), none, none, none]) mok_X6_kin (Nat.le_of_ble_eq_true rfl) rfl ?_
    refine aw_iload_n dX6_kin_0 rfl ?_
    refine aw_iload_n dX6_kin_1 rfl ?_
    refine aw_icmpne (tgt := 38) dX6_kin_2 (by decide) (fun h2 => ?_) (fun h2 => ?_)
    · first
        | (exfalso; omega)
        | skip
          refine aw_aload_n dX6_kin_38 rfl ?_
          refine g_X6_22_6 rfl dX6_kin_39 HL.1 ?_
          refine aw_iload_n dX6_kin_42 rfl ?_
          refine aw_iaload dX6_kin_43 HL.2.1.2.2.2.1 (by omega) (by omega) ?_
          rw [HL.tldE ha]
          refine aw_aload_n dX6_kin_44 rfl ?_
          refine g_X6_22_6 rfl dX6_kin_45 HL.1 ?_
          refine aw_iload_n dX6_kin_48 rfl ?_
          refine aw_iaload dX6_kin_49 HL.2.1.2.2.2.1 (by omega) (by omega) ?_
          rw [HL.tldE hb]
          refine aw_icmple (tgt := 57) dX6_kin_50 (by decide) (fun h50 => ?_) (fun h50 => ?_)
          · first
              | (exfalso; omega)
              | skip
                refine aw_iload_n dX6_kin_57 rfl ?_
                refine aw_istore3 dX6_kin_58 (by decide) rfl ?_
                refine aw_iload_n dX6_kin_59 rfl ?_
                refine aw_iload_n dX6_kin_60 rfl ?_
                refine aw_icmpne (tgt := 68) dX6_kin_61 (by decide) (fun h61 => ?_) (fun h61 => ?_)
                · first
                    | (exfalso; omega)
                    | skip
                      refine aw_iload_n dX6_kin_68 rfl ?_
                      refine aw_istore4 dX6_kin_69 (by decide) rfl ?_
                      refine aw_aload_n dX6_kin_71 rfl ?_
                      refine aw_aload_n dX6_kin_72 rfl ?_
                      refine g_X6_15_6 rfl dX6_kin_73 HL.1 ?_
                      refine aw_iload_n dX6_kin_76 rfl ?_
                      refine aw_iaload dX6_kin_77 HL.2.1.2.1 (by omega) (by omega) ?_
                      first | rw [HL.motE ha] | rw [HL.motE hb]
                      refine aw_iload dX6_kin_78 rfl ?_
                      refine c_X6_48 rfl dX6_kin_80 HL.1 (Nat.le_of_ble_eq_true rfl) (by omega) (C_x_kinO HL ih (by first | exact bef.mono (bef_m hp ha) (by omega) | exact bef.mono (bef_m hp hb) (by omega)) (by first | exact Or.inr ⟨hb, by omega⟩ | exact Or.inr ⟨ha, by omega⟩) ?_)
                      have hk1 := kinO_bd (W := 65536) (s := s) (r := r) (x := mot s a) (y := b) (by decide)
                      have hk2 := kinO_bd (W := 65536) (s := s) (r := r) (x := mot s b) (y := a) (by decide)
                      refine aK_i ?_
                      refine aw_istore5 dX6_kin_83 (by decide) rfl ?_
                      refine aw_iload_n dX6_kin_85 rfl ?_
                      refine aw_bipush dX6_kin_86 (by decide) ?_
                      refine aw_icmplt (tgt := 96) dX6_kin_88 (by decide) (fun h88 => ?_) (fun h88 => ?_)
                      · first
                          | (exfalso; omega)
                          | skip
                            refine aw_iload dX6_kin_96 rfl ?_
                            refine aw_aload_n dX6_kin_98 rfl ?_
                            refine aw_aload_n dX6_kin_99 rfl ?_
                            refine g_X6_19_6 rfl dX6_kin_100 HL.1 ?_
                            refine aw_iload_n dX6_kin_103 rfl ?_
                            refine aw_iaload dX6_kin_104 HL.2.1.2.2.1 (by omega) (by omega) ?_
                            first | rw [HL.fatE ha] | rw [HL.fatE hb]
                            refine aw_iload dX6_kin_105 rfl ?_
                            refine c_X6_48 rfl dX6_kin_107 HL.1 (Nat.le_of_ble_eq_true rfl) (by omega) (C_x_kinO HL ih (by first | exact bef.mono (bef_f hp ha) (by omega) | exact bef.mono (bef_f hp hb) (by omega)) (by first | exact Or.inr ⟨hb, by omega⟩ | exact Or.inr ⟨ha, by omega⟩) ?_)
                            have hk3 := kinO_bd (W := 65536) (s := s) (r := r) (x := fat s a) (y := b) (by decide)
                            have hk4 := kinO_bd (W := 65536) (s := s) (r := r) (x := fat s b) (y := a) (by decide)
                            refine aK_i ?_
                            refine aw_iaddr dX6_kin_110 (by omega) ?_
                            refine aw_iconst dX6_kin_111 (by decide) ?_
                            refine aw_idivr dX6_kin_112 (by omega) (by omega) ?_
                            refine aw_ireturn dX6_kin_113 rfl ?_
                            first
                              | (rw [kinG_d h2 (by omega)] at hQ; exact hQ)
                              | (rw [kinG_q h2 (by omega), show ∀ z : Int, (65536 + z) / 2 = 32768 + z / 2 by intro z; omega] at hQ; exact hQ)
                              | (rw [kinG_a h2 (by omega), kinS_d (by omega)] at hQ; exact hQ)
                              | (rw [kinG_a h2 (by omega), kinS_q (by omega)] at hQ; exact hQ)
                              | (rw [kinG_b h2 (by omega), kinS_d (by omega)] at hQ; exact hQ)
                              | (rw [kinG_b h2 (by omega), kinS_q (by omega)] at hQ; exact hQ)
                      · first
                          | (exfalso; omega)
                          | skip
                            refine aw_iload dX6_kin_91 rfl ?_
                            refine aw_goto (tgt := 113) dX6_kin_93 (by decide) ?_
                            refine aw_ireturn dX6_kin_113 rfl ?_
                            first
                              | (rw [kinG_d h2 (by omega)] at hQ; exact hQ)
                              | (rw [kinG_q h2 (by omega), show ∀ z : Int, (65536 + z) / 2 = 32768 + z / 2 by intro z; omega] at hQ; exact hQ)
                              | (rw [kinG_a h2 (by omega), kinS_d (by omega)] at hQ; exact hQ)
                              | (rw [kinG_a h2 (by omega), kinS_q (by omega)] at hQ; exact hQ)
                              | (rw [kinG_b h2 (by omega), kinS_d (by omega)] at hQ; exact hQ)
                              | (rw [kinG_b h2 (by omega), kinS_q (by omega)] at hQ; exact hQ)
                · first
                    | (exfalso; omega)
                    | skip
                      refine aw_iload_n dX6_kin_64 rfl ?_
                      refine aw_goto (tgt := 69) dX6_kin_65 (by decide) ?_
                      refine aw_istore4 dX6_kin_69 (by decide) rfl ?_
                      refine aw_aload_n dX6_kin_71 rfl ?_
                      refine aw_aload_n dX6_kin_72 rfl ?_
                      refine g_X6_15_6 rfl dX6_kin_73 HL.1 ?_
                      refine aw_iload_n dX6_kin_76 rfl ?_
                      refine aw_iaload dX6_kin_77 HL.2.1.2.1 (by omega) (by omega) ?_
                      first | rw [HL.motE ha] | rw [HL.motE hb]
                      refine aw_iload dX6_kin_78 rfl ?_
                      refine c_X6_48 rfl dX6_kin_80 HL.1 (Nat.le_of_ble_eq_true rfl) (by omega) (C_x_kinO HL ih (by first | exact bef.mono (bef_m hp ha) (by omega) | exact bef.mono (bef_m hp hb) (by omega)) (by first | exact Or.inr ⟨hb, by omega⟩ | exact Or.inr ⟨ha, by omega⟩) ?_)
                      have hk1 := kinO_bd (W := 65536) (s := s) (r := r) (x := mot s a) (y := b) (by decide)
                      have hk2 := kinO_bd (W := 65536) (s := s) (r := r) (x := mot s b) (y := a) (by decide)
                      refine aK_i ?_
                      refine aw_istore5 dX6_kin_83 (by decide) rfl ?_
                      refine aw_iload_n dX6_kin_85 rfl ?_
                      refine aw_bipush dX6_kin_86 (by decide) ?_
                      refine aw_icmplt (tgt := 96) dX6_kin_88 (by decide) (fun h88 => ?_) (fun h88 => ?_)
                      · first
                          | (exfalso; omega)
                          | skip
                            refine aw_iload dX6_kin_96 rfl ?_
                            refine aw_aload_n dX6_kin_98 rfl ?_
                            refine aw_aload_n dX6_kin_99 rfl ?_
                            refine g_X6_19_6 rfl dX6_kin_100 HL.1 ?_
                            refine aw_iload_n dX6_kin_103 rfl ?_
                            refine aw_iaload dX6_kin_104 HL.2.1.2.2.1 (by omega) (by omega) ?_
                            first | rw [HL.fatE ha] | rw [HL.fatE hb]
                            refine aw_iload dX6_kin_105 rfl ?_
                            refine c_X6_48 rfl dX6_kin_107 HL.1 (Nat.le_of_ble_eq_true rfl) (by omega) (C_x_kinO HL ih (by first | exact bef.mono (bef_f hp ha) (by omega) | exact bef.mono (bef_f hp hb) (by omega)) (by first | exact Or.inr ⟨hb, by omega⟩ | exact Or.inr ⟨ha, by omega⟩) ?_)
                            have hk3 := kinO_bd (W := 65536) (s := s) (r := r) (x := fat s a) (y := b) (by decide)
                            have hk4 := kinO_bd (W := 65536) (s := s) (r := r) (x := fat s b) (y := a) (by decide)
                            refine aK_i ?_
                            refine aw_iaddr dX6_kin_110 (by omega) ?_
                            refine aw_iconst dX6_kin_111 (by decide) ?_
                            refine aw_idivr dX6_kin_112 (by omega) (by omega) ?_
                            refine aw_ireturn dX6_kin_113 rfl ?_
                            first
                              | (rw [kinG_d h2 (by omega)] at hQ; exact hQ)
                              | (rw [kinG_q h2 (by omega), show ∀ z : Int, (65536 + z) / 2 = 32768 + z / 2 by intro z; omega] at hQ; exact hQ)
                              | (rw [kinG_a h2 (by omega), kinS_d (by omega)] at hQ; exact hQ)
                              | (rw [kinG_a h2 (by omega), kinS_q (by omega)] at hQ; exact hQ)
                              | (rw [kinG_b h2 (by omega), kinS_d (by omega)] at hQ; exact hQ)
                              | (rw [kinG_b h2 (by omega), kinS_q (by omega)] at hQ; exact hQ)
                      · first
                          | (exfalso; omega)
                          | skip
                            refine aw_iload dX6_kin_91 rfl ?_
                            refine aw_goto (tgt := 113) dX6_kin_93 (by decide) ?_
                            refine aw_ireturn dX6_kin_113 rfl ?_
                            first
                              | (rw [kinG_d h2 (by omega)] at hQ; exact hQ)
                              | (rw [kinG_q h2 (by omega), show ∀ z : Int, (65536 + z) / 2 = 32768 + z / 2 by intro z; omega] at hQ; exact hQ)
                              | (rw [kinG_a h2 (by omega), kinS_d (by omega)] at hQ; exact hQ)
                              | (rw [kinG_a h2 (by omega), kinS_q (by omega)] at hQ; exact hQ)
                              | (rw [kinG_b h2 (by omega), kinS_d (by omega)] at hQ; exact hQ)
                              | (rw [kinG_b h2 (by omega), kinS_q (by omega)] at hQ; exact hQ)
          · first
              | (exfalso; omega)
              | skip
                refine aw_iload_n dX6_kin_53 rfl ?_
                refine aw_goto (tgt := 58) dX6_kin_54 (by decide) ?_
                refine aw_istore3 dX6_kin_58 (by decide) rfl ?_
                refine aw_iload_n dX6_kin_59 rfl ?_
                refine aw_iload_n dX6_kin_60 rfl ?_
                refine aw_icmpne (tgt := 68) dX6_kin_61 (by decide) (fun h61 => ?_) (fun h61 => ?_)
                · first
                    | (exfalso; omega)
                    | skip
                      refine aw_iload_n dX6_kin_68 rfl ?_
                      refine aw_istore4 dX6_kin_69 (by decide) rfl ?_
                      refine aw_aload_n dX6_kin_71 rfl ?_
                      refine aw_aload_n dX6_kin_72 rfl ?_
                      refine g_X6_15_6 rfl dX6_kin_73 HL.1 ?_
                      refine aw_iload_n dX6_kin_76 rfl ?_
                      refine aw_iaload dX6_kin_77 HL.2.1.2.1 (by omega) (by omega) ?_
                      first | rw [HL.motE ha] | rw [HL.motE hb]
                      refine aw_iload dX6_kin_78 rfl ?_
                      refine c_X6_48 rfl dX6_kin_80 HL.1 (Nat.le_of_ble_eq_true rfl) (by omega) (C_x_kinO HL ih (by first | exact bef.mono (bef_m hp ha) (by omega) | exact bef.mono (bef_m hp hb) (by omega)) (by first | exact Or.inr ⟨hb, by omega⟩ | exact Or.inr ⟨ha, by omega⟩) ?_)
                      have hk1 := kinO_bd (W := 65536) (s := s) (r := r) (x := mot s a) (y := b) (by decide)
                      have hk2 := kinO_bd (W := 65536) (s := s) (r := r) (x := mot s b) (y := a) (by decide)
                      refine aK_i ?_
                      refine aw_istore5 dX6_kin_83 (by decide) rfl ?_
                      refine aw_iload_n dX6_kin_85 rfl ?_
                      refine aw_bipush dX6_kin_86 (by decide) ?_
                      refine aw_icmplt (tgt := 96) dX6_kin_88 (by decide) (fun h88 => ?_) (fun h88 => ?_)
                      · first
                          | (exfalso; omega)
                          | skip
                            refine aw_iload dX6_kin_96 rfl ?_
                            refine aw_aload_n dX6_kin_98 rfl ?_
                            refine aw_aload_n dX6_kin_99 rfl ?_
                            refine g_X6_19_6 rfl dX6_kin_100 HL.1 ?_
                            refine aw_iload_n dX6_kin_103 rfl ?_
                            refine aw_iaload dX6_kin_104 HL.2.1.2.2.1 (by omega) (by omega) ?_
                            first | rw [HL.fatE ha] | rw [HL.fatE hb]
                            refine aw_iload dX6_kin_105 rfl ?_
                            refine c_X6_48 rfl dX6_kin_107 HL.1 (Nat.le_of_ble_eq_true rfl) (by omega) (C_x_kinO HL ih (by first | exact bef.mono (bef_f hp ha) (by omega) | exact bef.mono (bef_f hp hb) (by omega)) (by first | exact Or.inr ⟨hb, by omega⟩ | exact Or.inr ⟨ha, by omega⟩) ?_)
                            have hk3 := kinO_bd (W := 65536) (s := s) (r := r) (x := fat s a) (y := b) (by decide)
                            have hk4 := kinO_bd (W := 65536) (s := s) (r := r) (x := fat s b) (y := a) (by decide)
                            refine aK_i ?_
                            refine aw_iaddr dX6_kin_110 (by omega) ?_
                            refine aw_iconst dX6_kin_111 (by decide) ?_
                            refine aw_idivr dX6_kin_112 (by omega) (by omega) ?_
                            refine aw_ireturn dX6_kin_113 rfl ?_
                            first
                              | (rw [kinG_d h2 (by omega)] at hQ; exact hQ)
                              | (rw [kinG_q h2 (by omega), show ∀ z : Int, (65536 + z) / 2 = 32768 + z / 2 by intro z; omega] at hQ; exact hQ)
                              | (rw [kinG_a h2 (by omega), kinS_d (by omega)] at hQ; exact hQ)
                              | (rw [kinG_a h2 (by omega), kinS_q (by omega)] at hQ; exact hQ)
                              | (rw [kinG_b h2 (by omega), kinS_d (by omega)] at hQ; exact hQ)
                              | (rw [kinG_b h2 (by omega), kinS_q (by omega)] at hQ; exact hQ)
                      · first
                          | (exfalso; omega)
                          | skip
                            refine aw_iload dX6_kin_91 rfl ?_
                            refine aw_goto (tgt := 113) dX6_kin_93 (by decide) ?_
                            refine aw_ireturn dX6_kin_113 rfl ?_
                            first
                              | (rw [kinG_d h2 (by omega)] at hQ; exact hQ)
                              | (rw [kinG_q h2 (by omega), show ∀ z : Int, (65536 + z) / 2 = 32768 + z / 2 by intro z; omega] at hQ; exact hQ)
                              | (rw [kinG_a h2 (by omega), kinS_d (by omega)] at hQ; exact hQ)
                              | (rw [kinG_a h2 (by omega), kinS_q (by omega)] at hQ; exact hQ)
                              | (rw [kinG_b h2 (by omega), kinS_d (by omega)] at hQ; exact hQ)
                              | (rw [kinG_b h2 (by omega), kinS_q (by omega)] at hQ; exact hQ)
                · first
                    | (exfalso; omega)
                    | skip
                      refine aw_iload_n dX6_kin_64 rfl ?_
                      refine aw_goto (tgt := 69) dX6_kin_65 (by decide) ?_
                      refine aw_istore4 dX6_kin_69 (by decide) rfl ?_
                      refine aw_aload_n dX6_kin_71 rfl ?_
                      refine aw_aload_n dX6_kin_72 rfl ?_
                      refine g_X6_15_6 rfl dX6_kin_73 HL.1 ?_
                      refine aw_iload_n dX6_kin_76 rfl ?_
                      refine aw_iaload dX6_kin_77 HL.2.1.2.1 (by omega) (by omega) ?_
                      first | rw [HL.motE ha] | rw [HL.motE hb]
                      refine aw_iload dX6_kin_78 rfl ?_
                      refine c_X6_48 rfl dX6_kin_80 HL.1 (Nat.le_of_ble_eq_true rfl) (by omega) (C_x_kinO HL ih (by first | exact bef.mono (bef_m hp ha) (by omega) | exact bef.mono (bef_m hp hb) (by omega)) (by first | exact Or.inr ⟨hb, by omega⟩ | exact Or.inr ⟨ha, by omega⟩) ?_)
                      have hk1 := kinO_bd (W := 65536) (s := s) (r := r) (x := mot s a) (y := b) (by decide)
                      have hk2 := kinO_bd (W := 65536) (s := s) (r := r) (x := mot s b) (y := a) (by decide)
                      refine aK_i ?_
                      refine aw_istore5 dX6_kin_83 (by decide) rfl ?_
                      refine aw_iload_n dX6_kin_85 rfl ?_
                      refine aw_bipush dX6_kin_86 (by decide) ?_
                      refine aw_icmplt (tgt := 96) dX6_kin_88 (by decide) (fun h88 => ?_) (fun h88 => ?_)
                      · first
                          | (exfalso; omega)
                          | skip
                            refine aw_iload dX6_kin_96 rfl ?_
                            refine aw_aload_n dX6_kin_98 rfl ?_
                            refine aw_aload_n dX6_kin_99 rfl ?_
                            refine g_X6_19_6 rfl dX6_kin_100 HL.1 ?_
                            refine aw_iload_n dX6_kin_103 rfl ?_
                            refine aw_iaload dX6_kin_104 HL.2.1.2.2.1 (by omega) (by omega) ?_
                            first | rw [HL.fatE ha] | rw [HL.fatE hb]
                            refine aw_iload dX6_kin_105 rfl ?_
                            refine c_X6_48 rfl dX6_kin_107 HL.1 (Nat.le_of_ble_eq_true rfl) (by omega) (C_x_kinO HL ih (by first | exact bef.mono (bef_f hp ha) (by omega) | exact bef.mono (bef_f hp hb) (by omega)) (by first | exact Or.inr ⟨hb, by omega⟩ | exact Or.inr ⟨ha, by omega⟩) ?_)
                            have hk3 := kinO_bd (W := 65536) (s := s) (r := r) (x := fat s a) (y := b) (by decide)
                            have hk4 := kinO_bd (W := 65536) (s := s) (r := r) (x := fat s b) (y := a) (by decide)
                            refine aK_i ?_
                            refine aw_iaddr dX6_kin_110 (by omega) ?_
                            refine aw_iconst dX6_kin_111 (by decide) ?_
                            refine aw_idivr dX6_kin_112 (by omega) (by omega) ?_
                            refine aw_ireturn dX6_kin_113 rfl ?_
                            first
                              | (rw [kinG_d h2 (by omega)] at hQ; exact hQ)
                              | (rw [kinG_q h2 (by omega), show ∀ z : Int, (65536 + z) / 2 = 32768 + z / 2 by intro z; omega] at hQ; exact hQ)
                              | (rw [kinG_a h2 (by omega), kinS_d (by omega)] at hQ; exact hQ)
                              | (rw [kinG_a h2 (by omega), kinS_q (by omega)] at hQ; exact hQ)
                              | (rw [kinG_b h2 (by omega), kinS_d (by omega)] at hQ; exact hQ)
                              | (rw [kinG_b h2 (by omega), kinS_q (by omega)] at hQ; exact hQ)
                      · first
                          | (exfalso; omega)
                          | skip
                            refine aw_iload dX6_kin_91 rfl ?_
                            refine aw_goto (tgt := 113) dX6_kin_93 (by decide) ?_
                            refine aw_ireturn dX6_kin_113 rfl ?_
                            first
                              | (rw [kinG_d h2 (by omega)] at hQ; exact hQ)
                              | (rw [kinG_q h2 (by omega), show ∀ z : Int, (65536 + z) / 2 = 32768 + z / 2 by intro z; omega] at hQ; exact hQ)
                              | (rw [kinG_a h2 (by omega), kinS_d (by omega)] at hQ; exact hQ)
                              | (rw [kinG_a h2 (by omega), kinS_q (by omega)] at hQ; exact hQ)
                              | (rw [kinG_b h2 (by omega), kinS_d (by omega)] at hQ; exact hQ)
                              | (rw [kinG_b h2 (by omega), kinS_q (by omega)] at hQ; exact hQ)
    · first
        | (exfalso; omega)
        | skip
          refine aw_iload_n dX6_kin_5 rfl ?_
          refine aw_bipush dX6_kin_6 (by decide) ?_
          refine aw_icmplt (tgt := 16) dX6_kin_8 (by decide) (fun h8 => ?_) (fun h8 => ?_)
          · first
              | (exfalso; omega)
              | skip
                refine aw_ldc (x := 32768) dX6_kin_16 q1188 (by decide) ?_
                refine aw_aload_n dX6_kin_18 rfl ?_
                refine aw_aload_n dX6_kin_19 rfl ?_
                refine g_X6_15_6 rfl dX6_kin_20 HL.1 ?_
                refine aw_iload_n dX6_kin_23 rfl ?_
                refine aw_iaload dX6_kin_24 HL.2.1.2.1 (by omega) (by omega) ?_
                rw [HL.motE ha]
                refine aw_aload_n dX6_kin_25 rfl ?_
                refine g_X6_19_6 rfl dX6_kin_26 HL.1 ?_
                refine aw_iload_n dX6_kin_29 rfl ?_
                refine aw_iaload dX6_kin_30 HL.2.1.2.2.1 (by omega) (by omega) ?_
                rw [HL.fatE ha]
                refine c_X6_48 rfl dX6_kin_31 HL.1 (Nat.le_of_ble_eq_true rfl) (by omega) (C_x_kinO HL ih (bef.mono (bef_m hp ha) (by omega)) (bef.mono (bef_f hp ha) (by omega)) ?_)
                have hk0 := kinO_bd (W := 65536) (s := s) (r := r) (x := mot s a) (y := fat s a) (by decide)
                refine aK_i ?_
                refine aw_iconst dX6_kin_34 (by decide) ?_
                refine aw_idivr dX6_kin_35 (by omega) (by omega) ?_
                refine aw_iaddr dX6_kin_36 (by omega) ?_
                refine aw_ireturn dX6_kin_37 rfl ?_
                first
                  | (rw [kinG_d h2 (by omega)] at hQ; exact hQ)
                  | (rw [kinG_q h2 (by omega), show ∀ z : Int, (65536 + z) / 2 = 32768 + z / 2 by intro z; omega] at hQ; exact hQ)
                  | (rw [kinG_a h2 (by omega), kinS_d (by omega)] at hQ; exact hQ)
                  | (rw [kinG_a h2 (by omega), kinS_q (by omega)] at hQ; exact hQ)
                  | (rw [kinG_b h2 (by omega), kinS_d (by omega)] at hQ; exact hQ)
                  | (rw [kinG_b h2 (by omega), kinS_q (by omega)] at hQ; exact hQ)
          · first
              | (exfalso; omega)
              | skip
                refine aw_ldc (x := 65536) dX6_kin_11 q1187 (by decide) ?_
                refine aw_goto (tgt := 37) dX6_kin_13 (by decide) ?_
                refine aw_ireturn dX6_kin_37 rfl ?_
                first
                  | (rw [kinG_d h2 (by omega)] at hQ; exact hQ)
                  | (rw [kinG_q h2 (by omega), show ∀ z : Int, (65536 + z) / 2 = 32768 + z / 2 by intro z; omega] at hQ; exact hQ)
                  | (rw [kinG_a h2 (by omega), kinS_d (by omega)] at hQ; exact hQ)
                  | (rw [kinG_a h2 (by omega), kinS_q (by omega)] at hQ; exact hQ)
                  | (rw [kinG_b h2 (by omega), kinS_d (by omega)] at hQ; exact hQ)
                  | (rw [kinG_b h2 (by omega), kinS_q (by omega)] at hQ; exact hQ)
theorem C_x_kin17 {own : Int → Int} {sz : Int} {im : Int → aIm} {ct : Int → Int → Int} {la : Int} {s N : Int → Int} {a b : Int} {Q : aPost} (HL : LR own sz im ct la s N) (hp : PQ s) (ha : one s a) (hb : one s b) (hQ : Q (.inl (some (vI (kinX 65536 s a b)))) (sz, im, ct)) : AMet md_X6_kin 35 0 0 [vR la, vI a, vI b] (sz, im, ct) Q := C_x_kin HL hp 17 ha hb (by have := hp.t16 ha; omega) (by have := hp.t16 hb; omega) hQ
theorem tld_q {s : Int → Int} {w : Int} (h : w < 8) : tld s w = s (14 + 4 * w + 3) := by
  unfold tld
  rw [if_pos h, show 17 + 4 * w = 14 + 4 * w + 3 by omega]
theorem tld_d {s : Int → Int} {w : Int} (h : 8 ≤ w) : tld s w = s (46 + 2 * (w - 8) + 1) := by
  unfold tld
  rw [if_neg (by omega), show 47 + 2 * (w - 8) = 46 + 2 * (w - 8) + 1 by omega]
theorem C_m_told {ct : Int → Int → Int} {w : Int} {Q : aPost} (h0 : 0 ≤ w ∧ w < 16) (hQ : Q (.inl (some (vI (tld (ct 1) w)))) (gM ct)) : AMet md_X7_toldAs 1 0 0 [vR 0, vI w] (gM ct) Q :=
  C_m_toldAs h0 (fun z => by rw [tld_d z] at hQ; exact hQ) (fun z => by rw [tld_q z] at hQ; exact hQ)
theorem L_m_atT2 {ct : Int → Int → Int} {k : Int} {Q : aPost} {d kc ks : Nat} (hd : 2 ≤ d) (hq : ((0 ≤ ct 1 1 ∧ ct 1 1 ≤ 8) ∧ 0 ≤ ct 1 2 ∧ ct 1 2 ≤ 8)) (w : Int) (hw : 8 ≤ w ∧ w < 8 + ct 1 2) (tw : tld (ct 1) w = k) (hQ : ∀ w, 8 ≤ w → w < 8 + ct 1 2 → tld (ct 1) w = k → Q (.inl (some (vI w))) (gM ct)) : ∀ (r : Nat) (v : Int), v + r = w → 8 ≤ v → AW (mq Q) md_X7_atTold d kc ks 32 [some (vR 0), some (vI k), some (vI v)] [] (gM ct) := by
  intro r
  induction r with
  | zero =>
    intro v h1 h2
    have e : v = w := by omega
    subst e
    refine aw_aload_n dX7_atTold_32 rfl ?_
    refine aw_iload_n dX7_atTold_33 rfl ?_
    refine c_X7_337 rfl dX7_atTold_34 m_ob (Nat.le_of_ble_eq_true rfl) (by omega) (C_m_told (by omega) ?_)
    refine aK_i ?_
    refine aw_iload_n dX7_atTold_37 rfl ?_
    refine aw_icmpeq (tgt := 47) dX7_atTold_38 (by decide) (fun h38 => ?_) (fun h38 => ?_)
    · refine aw_iload_n dX7_atTold_47 rfl ?_
      refine aw_ireturn dX7_atTold_48 rfl ?_
      exact hQ v (by omega) (by omega) tw
    · exfalso; omega
  | succ r ih =>
    intro v h1 h2
    refine aw_aload_n dX7_atTold_32 rfl ?_
    refine aw_iload_n dX7_atTold_33 rfl ?_
    refine c_X7_337 rfl dX7_atTold_34 m_ob (Nat.le_of_ble_eq_true rfl) (by omega) (C_m_told (by omega) ?_)
    refine aK_i ?_
    refine aw_iload_n dX7_atTold_37 rfl ?_
    refine aw_icmpeq (tgt := 47) dX7_atTold_38 (by decide) (fun h38 => ?_) (fun h38 => ?_)
    · refine aw_iload_n dX7_atTold_47 rfl ?_
      refine aw_ireturn dX7_atTold_48 rfl ?_
      exact hQ v (by omega) (by omega) (by omega)
    · refine aw_iinc2r dX7_atTold_41 (by decide) (by decide) rfl (by omega) ?_
      refine aw_goto (tgt := 32) dX7_atTold_44 (by decide) ?_
      exact ih _ (by omega) (by omega)
theorem L_m_atT1 {ct : Int → Int → Int} {k : Int} {Q : aPost} {d kc ks : Nat} (hd : 2 ≤ d) (hp : PQ (ct 1)) (w : Int) (hw : one (ct 1) w) (tw : tld (ct 1) w = k) (hQ : ∀ w, one (ct 1) w → tld (ct 1) w = k → Q (.inl (some (vI w))) (gM ct)) : ∀ (r : Nat) (v : Int), v + r = ct 1 1 → 0 ≤ v → (∀ j, 0 ≤ j → j < v → tld (ct 1) j ≠ k) → AW (mq Q) md_X7_atTold d kc ks 2 [some (vR 0), some (vI k), some (vI v)] [] (gM ct) := by
  have q8 := hp.1
  intro r
  induction r with
  | zero =>
    intro v h1 h2 h3
    have w8 : 8 ≤ w ∧ w < 8 + ct 1 2 := by
      rcases hw with ⟨a, b⟩ | ⟨a, b⟩
      · exact absurd tw (h3 w a (by omega))
      · exact ⟨a, b⟩
    refine aw_iload_n dX7_atTold_2 rfl ?_
    refine gm_7 rfl dX7_atTold_3 dX7_atTold_4 rfl ?_
    refine aw_iconst dX7_atTold_7 (by decide) ?_
    refine aw_iaload dX7_atTold_8 m_a1 (by omega) (by omega) ?_
    refine aw_icmpge (tgt := 29) dX7_atTold_9 (by decide) (fun h9 => ?_) (fun h9 => ?_)
    · refine aw_bipush dX7_atTold_29 (by decide) ?_
      refine aw_istore2 dX7_atTold_31 (by decide) rfl ?_
      exact L_m_atT2 hd q8 w w8 tw (fun u u0 u1 u2 => hQ u (Or.inr ⟨u0, u1⟩) u2) (w - 8).toNat 8 (by omega) (by omega)
    · exfalso; omega
  | succ r ih =>
    intro v h1 h2 h3
    refine aw_iload_n dX7_atTold_2 rfl ?_
    refine gm_7 rfl dX7_atTold_3 dX7_atTold_4 rfl ?_
    refine aw_iconst dX7_atTold_7 (by decide) ?_
    refine aw_iaload dX7_atTold_8 m_a1 (by omega) (by omega) ?_
    refine aw_icmpge (tgt := 29) dX7_atTold_9 (by decide) (fun h9 => ?_) (fun h9 => ?_)
    · exfalso; omega
    · refine aw_aload_n dX7_atTold_12 rfl ?_
      refine aw_iload_n dX7_atTold_13 rfl ?_
      refine c_X7_337 rfl dX7_atTold_14 m_ob (Nat.le_of_ble_eq_true rfl) (by omega) (C_m_told (by omega) ?_)
      refine aK_i ?_
      refine aw_iload_n dX7_atTold_17 rfl ?_
      refine aw_icmpne (tgt := 23) dX7_atTold_18 (by decide) (fun h18 => ?_) (fun h18 => ?_)
      · refine aw_iinc2r dX7_atTold_23 (by decide) (by decide) rfl (by omega) ?_
        refine aw_goto (tgt := 2) dX7_atTold_26 (by decide) ?_
        exact ih _ (by omega) (by omega) (fun j j0 j1 => by rcases (by omega : j = v ∨ j < v) with z | z; subst z; omega; exact h3 j j0 z)
      · refine aw_iload_n dX7_atTold_21 rfl ?_
        refine aw_ireturn dX7_atTold_22 rfl ?_
        exact hQ v (Or.inl ⟨by omega, by omega⟩) (by omega)
theorem C_m_atTold {ct : Int → Int → Int} {k : Int} {Q : aPost} (hp : PQ (ct 1)) (k0 : 0 ≤ k) (k1 : k < ct 1 13) (hQ : ∀ w, one (ct 1) w → tld (ct 1) w = k → Q (.inl (some (vI w))) (gM ct)) : AMet md_X7_atTold 2 0 0 [vR 0, vI k] (gM ct) Q := by
  refine AMet.go (L := [some (vR 0), some (vI k), none]) mok_X7_atTold (Nat.le_of_ble_eq_true rfl) rfl ?_
  obtain ⟨w, hw, tw⟩ := hp.2.2.2.2.2 k k0 k1
  have q8 := hp.1
  refine aw_iconst dX7_atTold_0 (by decide) ?_
  refine aw_istore2 dX7_atTold_1 (by decide) rfl ?_
  exact L_m_atT1 (by omega) hp w hw tw hQ (ct 1 1).toNat 0 (by omega) (by omega) (fun j j0 j1 => by omega)
theorem C_m_kinX {ct : Int → Int → Int} {i x y : Int} {Q : aPost} {s : Int → Int} (hp : PQ s) (hK : KT s i (ct 10)) (hx : bef s i x) (hy : bef s i y) (hQ : Q (.inl (some (vL (kinO (kinX 68719476736 s) x y)))) (gM ct)) : AMet md_X7_kinOf 1 0 0 [vR 0, vI x, vI y] (gM ct) Q := by
  have bx : -1 ≤ x ∧ x < 16 := by
    rcases hx with e | ⟨e, -⟩
    · omega
    · have := one_bd hp.1 e; omega
  have b2 : -1 ≤ y ∧ y < 16 := by
    rcases hy with e | ⟨e, -⟩
    · omega
    · have := one_bd hp.1 e; omega
  unfold kinO at hQ
  refine C_m_kinOf bx b2 (fun z => ?_) (fun x0 y0 => ?_)
  · rw [if_pos (by omega)] at hQ; exact hQ
  · rw [if_neg (by omega)] at hQ
    rcases hx with e | ⟨e1, e2⟩
    · omega
    · rcases hy with f | ⟨f1, f2⟩
      · omega
      · rw [hK x y e1 f1 e2 f2]; exact hQ
theorem L_m_kin1 {ct : Int → Int → Int} {i a : Int} {Q : aPost} {d kc ks : Nat} (hd : 3 ≤ d) (hp : PQ (ct 1)) (ha : one (ct 1) a) (ta : tld (ct 1) a = i) (K : ∀ (ct1 : Int → Int → Int) (x6 x7 x8 : Option aV), nolong [x6, x7, x8] 3 = true → KI (ct 1) i a i (ct1 10) → (∀ z, z ≠ 10 → ct1 z = ct z) → AW (mq Q) md_X7_laysKin d kc ks 121 [some (vR 0), some (vI i), some (vI a), some (vI (mot (ct 1) a)), some (vI (fat (ct 1) a)), some (vI i), x6, x7, x8] [] (gM ct1)) : ∀ (r : Nat) (k : Int) (ct1 : Int → Int → Int) (x6 x7 x8 : Option aV), k + r = i → 0 ≤ k → nolong [x6, x7, x8] 3 = true → KI (ct 1) i a k (ct1 10) → (∀ z, z ≠ 10 → ct1 z = ct z) → AW (mq Q) md_X7_laysKin d kc ks 35 [some (vR 0), some (vI i), some (vI a), some (vI (mot (ct 1) a)), some (vI (fat (ct 1) a)), some (vI k), x6, x7, x8] [] (gM ct1) := by
  have q8 := hp.1
  have ba := one_bd hp.1 ha
  have t16 := hp.t16 ha
  have t13 := (hp.2.2.2.1 a ha).1
  intro r
  induction r with
  | zero =>
    intro k ct1 x6 x7 x8 h1 h2 hx hI n10
    have e : k = i := by omega
    subst e
    refine aw_iload dX7_laysKin_35 rfl ?_
    refine aw_iload_n dX7_laysKin_37 rfl ?_
    refine aw_icmpge (tgt := 121) dX7_laysKin_38 (by decide) (fun h38 => ?_) (fun h38 => ?_)
    · exact K ct1 _ _ _ hx hI n10
    · exfalso; omega
  | succ r ih =>
    intro k ct1 x6 x7 x8 h1 h2 hx hI n10
    refine aw_iload dX7_laysKin_35 rfl ?_
    refine aw_iload_n dX7_laysKin_37 rfl ?_
    refine aw_icmpge (tgt := 121) dX7_laysKin_38 (by decide) (fun h38 => ?_) (fun h38 => ?_)
    · exfalso; omega
    · first
        | (exfalso; omega)
        | skip
          refine aw_aload_n dX7_laysKin_41 rfl ?_
          refine aw_iload dX7_laysKin_42 rfl ?_
          refine c_X7_340 rfl dX7_laysKin_44 m_ob (Nat.le_of_ble_eq_true rfl) (by omega) (C_m_atTold (by rw [n10 1 (by decide)]; exact hp) (by omega) (by rw [n10 1 (by decide)]; omega) (fun b hb tb => ?_))
          rw [n10 1 (by decide)] at hb tb
          refine aK_i ?_
          refine aw_istore6 dX7_laysKin_47 (by decide) rfl ?_
          refine aw_iload_n dX7_laysKin_49 rfl ?_
          refine aw_bipush dX7_laysKin_50 (by decide) ?_
          refine aw_icmplt (tgt := 65) dX7_laysKin_52 (by decide) (fun h52 => ?_) (fun h52 => ?_)
          · first
              | (exfalso; omega)
              | skip
                refine aw_aload_n dX7_laysKin_65 rfl ?_
                refine aw_iload_n dX7_laysKin_66 rfl ?_
                refine aw_iload dX7_laysKin_67 rfl ?_
                refine c_X7_343 rfl dX7_laysKin_69 m_ob (Nat.le_of_ble_eq_true rfl) (by omega) (C_m_kinX hp hI.1 (bef.mono (bef_m hp ha) (by omega)) (Or.inr ⟨hb, by omega⟩) ?_)
                have hg : 0 ≤ kinO (kinX 68719476736 (ct 1)) (mot (ct 1) a) b ∧ kinO (kinX 68719476736 (ct 1)) (mot (ct 1) a) b ≤ 68719476736 := kinO_bd (by decide)
                have bb := one_bd hp.1 hb
                refine aK_i ?_
                refine aw_aload_n dX7_laysKin_72 rfl ?_
                refine aw_iload dX7_laysKin_73 rfl ?_
                refine aw_iload dX7_laysKin_75 rfl ?_
                refine c_X7_343 rfl dX7_laysKin_77 m_ob (Nat.le_of_ble_eq_true rfl) (by omega) (C_m_kinX hp hI.1 (bef.mono (bef_f hp ha) (by omega)) (Or.inr ⟨hb, by omega⟩) ?_)
                have hg2 : 0 ≤ kinO (kinX 68719476736 (ct 1)) (fat (ct 1) a) b ∧ kinO (kinX 68719476736 (ct 1)) (fat (ct 1) a) b ≤ 68719476736 := kinO_bd (by decide)
                refine aK_i ?_
                refine aw_laddr dX7_laysKin_80 (by omega) ?_
                refine aw_ldc2 (x := 2) dX7_laysKin_81 q1925 (by decide) ?_
                refine aw_ldivr dX7_laysKin_84 (by omega) (by omega) ?_
                refine aw_lstore7 dX7_laysKin_85 (by decide) rfl ?_
                refine gm_50 rfl dX7_laysKin_87 dX7_laysKin_88 rfl ?_
                refine aw_bipush dX7_laysKin_91 (by decide) ?_
                refine aw_iload_n dX7_laysKin_93 rfl ?_
                refine aw_imulr dX7_laysKin_94 (by omega) ?_
                refine aw_iload dX7_laysKin_95 rfl ?_
                refine aw_iaddr dX7_laysKin_97 (by omega) ?_
                refine aw_lload dX7_laysKin_98 rfl ?_
                refine aw_lastore dX7_laysKin_100 m_a10 (by omega) (by omega) ?_
                refine gm_50 rfl dX7_laysKin_101 dX7_laysKin_102 rfl ?_
                refine aw_bipush dX7_laysKin_105 (by decide) ?_
                refine aw_iload dX7_laysKin_107 rfl ?_
                refine aw_imulr dX7_laysKin_109 (by omega) ?_
                refine aw_iload_n dX7_laysKin_110 rfl ?_
                refine aw_iaddr dX7_laysKin_111 (by omega) ?_
                refine aw_lload dX7_laysKin_112 rfl ?_
                refine aw_lastore dX7_laysKin_114 m_a10 (by omega) (by omega) ?_
                refine aw_iinc5r dX7_laysKin_115 (by decide) (by decide) rfl (by omega) ?_
                refine aw_goto (tgt := 35) dX7_laysKin_118 (by decide) ?_
                refine ih _ _ _ _ _ (by omega) (by omega) (by first | rfl | exact hx) ?_ (fun z hz => by rw [aup_rn hz, aup_rn hz]; exact n10 z hz)
                rw [aup_r, aup_r]
                exact hI.put hp ha hb ta tb (by omega) (by first | (have h8 : 8 ≤ a := (by omega); exact (kinS_d h8).symm) | (have h8 : a < 8 := (by omega); exact (kinS_q h8).symm))
          · first
              | (exfalso; omega)
              | skip
                refine aw_aload_n dX7_laysKin_55 rfl ?_
                refine aw_iload_n dX7_laysKin_56 rfl ?_
                refine aw_iload dX7_laysKin_57 rfl ?_
                refine c_X7_343 rfl dX7_laysKin_59 m_ob (Nat.le_of_ble_eq_true rfl) (by omega) (C_m_kinX hp hI.1 (bef.mono (bef_m hp ha) (by omega)) (Or.inr ⟨hb, by omega⟩) ?_)
                have hg := kinO_bd (W := 68719476736) (s := ct 1) (r := 17) (x := mot (ct 1) a) (y := b) (by decide)
                have bb := one_bd hp.1 hb
                refine aK_i ?_
                refine aw_goto (tgt := 85) dX7_laysKin_62 (by decide) ?_
                refine aw_lstore7 dX7_laysKin_85 (by decide) rfl ?_
                refine gm_50 rfl dX7_laysKin_87 dX7_laysKin_88 rfl ?_
                refine aw_bipush dX7_laysKin_91 (by decide) ?_
                refine aw_iload_n dX7_laysKin_93 rfl ?_
                refine aw_imulr dX7_laysKin_94 (by omega) ?_
                refine aw_iload dX7_laysKin_95 rfl ?_
                refine aw_iaddr dX7_laysKin_97 (by omega) ?_
                refine aw_lload dX7_laysKin_98 rfl ?_
                refine aw_lastore dX7_laysKin_100 m_a10 (by omega) (by omega) ?_
                refine gm_50 rfl dX7_laysKin_101 dX7_laysKin_102 rfl ?_
                refine aw_bipush dX7_laysKin_105 (by decide) ?_
                refine aw_iload dX7_laysKin_107 rfl ?_
                refine aw_imulr dX7_laysKin_109 (by omega) ?_
                refine aw_iload_n dX7_laysKin_110 rfl ?_
                refine aw_iaddr dX7_laysKin_111 (by omega) ?_
                refine aw_lload dX7_laysKin_112 rfl ?_
                refine aw_lastore dX7_laysKin_114 m_a10 (by omega) (by omega) ?_
                refine aw_iinc5r dX7_laysKin_115 (by decide) (by decide) rfl (by omega) ?_
                refine aw_goto (tgt := 35) dX7_laysKin_118 (by decide) ?_
                refine ih _ _ _ _ _ (by omega) (by omega) (by first | rfl | exact hx) ?_ (fun z hz => by rw [aup_rn hz, aup_rn hz]; exact n10 z hz)
                rw [aup_r, aup_r]
                exact hI.put hp ha hb ta tb (by omega) (by first | (have h8 : 8 ≤ a := (by omega); exact (kinS_d h8).symm) | (have h8 : a < 8 := (by omega); exact (kinS_q h8).symm))
theorem L_m_kin2 {ct : Int → Int → Int} {Q : aPost} {d kc ks : Nat} (hd : 3 ≤ d) (hp : PQ (ct 1)) (hQ : ∀ ct1 : Int → Int → Int, KT (ct 1) (ct 1 13) (ct1 10) → (∀ z, z ≠ 10 → ct1 z = ct z) → Q (.inl none) (gM ct1)) : ∀ (r : Nat) (i : Int) (ct1 : Int → Int → Int) (x2 x3 x4 x5 x6 x7 x8 : Option aV), i + r = ct 1 13 → 0 ≤ i → nl (some x2) = true → nl (some x3) = true → nl (some x4) = true → nl (some x5) = true → nolong [x6, x7, x8] 3 = true → KT (ct 1) i (ct1 10) → (∀ z, z ≠ 10 → ct1 z = ct z) → AW (mq Q) md_X7_laysKin d kc ks 2 [some (vR 0), some (vI i), x2, x3, x4, x5, x6, x7, x8] [] (gM ct1) := by
  have q8 := hp.1
  have q13 := hp.2.1
  intro r
  induction r with
  | zero =>
    intro i ct1 x2 x3 x4 x5 x6 x7 x8 h1 h2 y2 y3 y4 y5 y6 hK n10
    have e : i = ct 1 13 := by omega
    have e13 : ct1 1 13 = ct 1 13 := by rw [n10 1 (by decide)]
    subst e
    refine aw_iload_n dX7_laysKin_2 rfl ?_
    refine gm_7 rfl dX7_laysKin_3 dX7_laysKin_4 rfl ?_
    refine aw_bipush dX7_laysKin_7 (by decide) ?_
    refine aw_iaload dX7_laysKin_9 m_a1 (by omega) (by omega) ?_
    rw [e13]
    refine aw_icmpge (tgt := 163) dX7_laysKin_10 (by decide) (fun h10 => ?_) (fun h10 => ?_)
    · refine aw_ret dX7_laysKin_163 rfl ?_
      exact hQ ct1 hK n10
    · exfalso; omega
  | succ r ih =>
    intro i ct1 x2 x3 x4 x5 x6 x7 x8 h1 h2 y2 y3 y4 y5 y6 hK n10
    have e13 : ct1 1 13 = ct 1 13 := by rw [n10 1 (by decide)]
    refine aw_iload_n dX7_laysKin_2 rfl ?_
    refine gm_7 rfl dX7_laysKin_3 dX7_laysKin_4 rfl ?_
    refine aw_bipush dX7_laysKin_7 (by decide) ?_
    refine aw_iaload dX7_laysKin_9 m_a1 (by omega) (by omega) ?_
    rw [e13]
    refine aw_icmpge (tgt := 163) dX7_laysKin_10 (by decide) (fun h10 => ?_) (fun h10 => ?_)
    · exfalso; omega
    · refine aw_aload_n dX7_laysKin_13 rfl ?_
      refine aw_iload_n dX7_laysKin_14 rfl ?_
      refine c_X7_340 rfl dX7_laysKin_15 m_ob (Nat.le_of_ble_eq_true rfl) (by omega) (C_m_atTold (by rw [n10 1 (by decide)]; exact hp) (by omega) (by rw [n10 1 (by decide)]; omega) (fun a ha ta => ?_))
      rw [n10 1 (by decide)] at ha ta
      have ba := one_bd hp.1 ha
      refine aK_i ?_
      refine aw_istore2 dX7_laysKin_18 (by decide) rfl ?_
      refine aw_aload_n dX7_laysKin_19 rfl ?_
      refine aw_iload_n dX7_laysKin_20 rfl ?_
      refine c_X7_289 rfl dX7_laysKin_21 m_ob (Nat.le_of_ble_eq_true rfl) (by omega) (C_m_mot (by omega) ?_)
      rw [n10 1 (by decide)]
      refine aK_i ?_
      refine aw_istore3 dX7_laysKin_24 (by decide) rfl ?_
      refine aw_aload_n dX7_laysKin_25 rfl ?_
      refine aw_iload_n dX7_laysKin_26 rfl ?_
      refine c_X7_292 rfl dX7_laysKin_27 m_ob (Nat.le_of_ble_eq_true rfl) (by omega) (C_m_fat (by omega) (fun z => by have q9 := PQ.f16 hp (q := a) (by omega) (by unfold one at ha; omega); rw [n10 1 (by decide)]; omega) ?_)
      rw [n10 1 (by decide)]
      refine aK_i ?_
      refine aw_istore4 dX7_laysKin_30 (by decide) rfl ?_
      refine aw_iconst dX7_laysKin_32 (by decide) ?_
      refine aw_istore5 dX7_laysKin_33 (by decide) rfl ?_
      refine L_m_kin1 (by omega) hp ha ta (fun ct2 z6 z7 z8 hz hI m10 => ?_) i.toNat 0 ct1 _ _ _ (by omega) (by omega) y6 ⟨hK, fun b hb tb => by have := (hp.2.2.2.1 b hb).1; omega⟩ n10
      refine gm_50 rfl dX7_laysKin_121 dX7_laysKin_122 rfl ?_
      refine aw_bipush dX7_laysKin_125 (by decide) ?_
      refine aw_iload_n dX7_laysKin_127 rfl ?_
      refine aw_imulr dX7_laysKin_128 (by omega) ?_
      refine aw_iload_n dX7_laysKin_129 rfl ?_
      refine aw_bipush dX7_laysKin_130 (by decide) ?_
      refine aw_icmplt (tgt := 141) dX7_laysKin_132 (by decide) (fun h132 => ?_) (fun h132 => ?_)
      · first
          | (exfalso; omega)
          | skip
            refine aw_ldc2 (x := 68719476736) dX7_laysKin_141 q1926 (by decide) ?_
            refine aw_aload_n dX7_laysKin_144 rfl ?_
            refine aw_iload_n dX7_laysKin_145 rfl ?_
            refine aw_iload dX7_laysKin_146 rfl ?_
            refine c_X7_343 rfl dX7_laysKin_148 m_ob (Nat.le_of_ble_eq_true rfl) (by omega) (C_m_kinX hp hI.1 (bef.mono (bef_m hp ha) (by omega)) (bef.mono (bef_f hp ha) (by omega)) ?_)
            have hg : 0 ≤ kinO (kinX 68719476736 (ct 1)) (mot (ct 1) a) (fat (ct 1) a) ∧ kinO (kinX 68719476736 (ct 1)) (mot (ct 1) a) (fat (ct 1) a) ≤ 68719476736 := kinO_bd (by decide)
            refine aK_i ?_
            refine aw_laddr dX7_laysKin_151 (by omega) ?_
            refine aw_ldc2 (x := 2) dX7_laysKin_152 q1925 (by decide) ?_
            refine aw_ldivr dX7_laysKin_155 (by omega) (by omega) ?_
            refine aw_lastore dX7_laysKin_156 m_a10 (by omega) (by omega) ?_
            refine aw_iinc1r dX7_laysKin_157 (by decide) (by decide) rfl (by omega) ?_
            refine aw_goto (tgt := 2) dX7_laysKin_160 (by decide) ?_
            refine ih _ _ _ _ _ _ _ _ _ (by omega) (by omega) rfl rfl rfl rfl hz ?_ (fun z h => by rw [aup_rn h]; exact m10 z h)
            rw [aup_r]
            exact hI.done hp ha ta (by first | (have h8 : 8 ≤ a := (by omega); exact (kinX_d (W := 68719476736) h8).symm) | (have h8 : a < 8 := (by omega); exact (kinX_q (W := 68719476736) hp ha h8).symm))
      · first
          | (exfalso; omega)
          | skip
            refine aw_ldc2 (x := 68719476736) dX7_laysKin_135 q1926 (by decide) ?_
            refine aw_goto (tgt := 156) dX7_laysKin_138 (by decide) ?_
            refine aw_lastore dX7_laysKin_156 m_a10 (by omega) (by omega) ?_
            refine aw_iinc1r dX7_laysKin_157 (by decide) (by decide) rfl (by omega) ?_
            refine aw_goto (tgt := 2) dX7_laysKin_160 (by decide) ?_
            refine ih _ _ _ _ _ _ _ _ _ (by omega) (by omega) rfl rfl rfl rfl hz ?_ (fun z h => by rw [aup_rn h]; exact m10 z h)
            rw [aup_r]
            exact hI.done hp ha ta (by first | (have h8 : 8 ≤ a := (by omega); exact (kinX_d (W := 68719476736) h8).symm) | (have h8 : a < 8 := (by omega); exact (kinX_q (W := 68719476736) hp ha h8).symm))
theorem C_m_laysKin {ct : Int → Int → Int} {Q : aPost} (hp : PQ (ct 1)) (hQ : ∀ ct1 : Int → Int → Int, KT (ct 1) (ct 1 13) (ct1 10) → (∀ z, z ≠ 10 → ct1 z = ct z) → Q (.inl none) (gM ct1)) : AMet md_X7_laysKin 3 0 0 [vR 0] (gM ct) Q := by
  refine AMet.go (L := [some (vR 0), none, none, none, none, none, none, none, none]) mok_X7_laysKin (Nat.le_of_ble_eq_true rfl) rfl ?_
  have q8 := hp.1
  have q13 := hp.2.1
  refine aw_iconst dX7_laysKin_0 (by decide) ?_
  refine aw_istore1 dX7_laysKin_1 (by decide) rfl ?_
  exact L_m_kin2 (by omega) hp hQ (ct 1 13).toNat 0 ct _ _ _ _ _ _ _ (by omega) (by omega) rfl rfl rfl rfl rfl (fun u v hu _ h1 => by have := (hp.2.2.2.1 u hu).1; omega) (fun _ _ => rfl)
