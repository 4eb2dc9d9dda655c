set_option maxRecDepth 100000
/-! constant strings: the methods of the JDK -/
theorem slen_shr : ∀ k, k < 24 → ishr32 (slen k) 0 = slen k := by decide +kernel
theorem sch_bd : ∀ k, k < 24 → ∀ j, j < awSL.getD k 0 → iand32 (sch k (j : Nat)) 255 = sch k (j : Nat) ∧ 0 ≤ sch k (j : Nat) ∧ sch k (j : Nat) < 128 := by decide +kernel
theorem sch_in {k : Nat} {j : Int} (hk : k < 24) (h0 : 0 ≤ j) (h1 : j < slen k) : iand32 (sch k j) 255 = sch k j ∧ 0 ≤ sch k j ∧ sch k j < 128 := by
  obtain ⟨n, hn⟩ := Int.nat_of h0
  subst hn
  unfold slen at h1
  exact sch_bd k hk n (by omega)
theorem C_s_coder {G : aG} {k : Nat} {Q : aPost} (hk : k < 24) (hQ : Q (.inl (some (vI 0))) G) : AMet md_J4_coder 1 0 0 [vR (-2 - (k : Int))] G Q := by
  refine AMet.go (L := [some (vR (-2 - (k : Int)))]) mok_J4_coder (Nat.le_of_ble_eq_true rfl) rfl ?_
  refine aw_gcomp dJ4_coder_0 q620 ?_
  refine aw_ifeq (tgt := 13) dJ4_coder_3 (by decide) (fun h => absurd h (by decide)) (fun _ => ?_)
  refine aw_aload_n dJ4_coder_6 rfl ?_
  refine aw_scod hk dJ4_coder_7 q2084 ?_
  refine aw_goto (tgt := 14) dJ4_coder_10 (by decide) ?_
  exact aw_nreturn dJ4_coder_14 rfl (nar_b (by decide)) hQ
theorem C_s_isLatin1 {G : aG} {k : Nat} {Q : aPost} (hk : k < 24) (hQ : Q (.inl (some (vI 1))) G) : AMet md_J4_isLatin1 1 0 0 [vR (-2 - (k : Int))] G Q := by
  refine AMet.go (L := [some (vR (-2 - (k : Int)))]) mok_J4_isLatin1 (Nat.le_of_ble_eq_true rfl) rfl ?_
  refine aw_gcomp dJ4_isLatin1_0 q620 ?_
  refine aw_ifeq (tgt := 17) dJ4_isLatin1_3 (by decide) (fun h => absurd h (by decide)) (fun _ => ?_)
  refine aw_aload_n dJ4_isLatin1_6 rfl ?_
  refine aw_scod hk dJ4_isLatin1_7 q2084 ?_
  refine aw_ifne (tgt := 17) dJ4_isLatin1_10 (by decide) (fun h => absurd h (by decide)) (fun _ => ?_)
  refine aw_iconst dJ4_isLatin1_13 (by decide) ?_
  refine aw_goto (tgt := 18) dJ4_isLatin1_14 (by decide) ?_
  refine aw_zreturn dJ4_isLatin1_18 rfl (Or.inr rfl) ?_
  exact hQ
theorem C_s_length {G : aG} {k : Nat} {Q : aPost} (hk : k < 24) (hQ : Q (.inl (some (vI (slen k)))) G) : AMet md_J4_length 2 0 0 [vR (-2 - (k : Int))] G Q := by
  refine AMet.go (L := [some (vR (-2 - (k : Int)))]) mok_J4_length (Nat.le_of_ble_eq_true rfl) rfl ?_
  refine aw_aload_n dJ4_length_0 rfl ?_
  refine aw_sval hk dJ4_length_1 q2083 ?_
  refine aw_slen hk dJ4_length_4 ?_
  refine aw_aload_n dJ4_length_5 rfl ?_
  refine AW.widen (kc' := 0 + 0) (ks' := 0 + 0) (by omega) (by omega) (aw_callVs (as := []) mok_J4_coder hk q616 q617 q618 rfl dJ4_length_6 rfl (Nat.le_of_ble_eq_true rfl) (by omega) (C_s_coder hk ?_))
  refine aK_i ?_
  refine aw_ishr dJ4_length_9 ?_
  refine aw_ireturn dJ4_length_10 rfl ?_
  rw [slen_shr k hk]
  exact hQ
theorem C_s_pchk {G : aG} {j n f : Int} {Q : aPost} (h0 : 0 ≤ j ∧ j < n) (hQ : Q (.inl (some (vI j))) G) : AMet md_J8_checkIndex 1 0 0 [vI j, vI n, vR f] G Q := by
  refine AMet.go (L := [some (vI j), some (vI n), some (vR f)]) mok_J8_checkIndex (Nat.le_of_ble_eq_true rfl) rfl ?_
  refine aw_iload_n dJ8_checkIndex_0 rfl ?_
  refine aw_iflt (tgt := 9) dJ8_checkIndex_1 (by decide) (fun h1 => ?_) (fun h1 => ?_)
  · exfalso; omega
  · refine aw_iload_n dJ8_checkIndex_4 rfl ?_
    refine aw_iload_n dJ8_checkIndex_5 rfl ?_
    refine aw_icmplt (tgt := 16) dJ8_checkIndex_6 (by decide) (fun h6 => ?_) (fun h6 => ?_)
    · refine aw_iload_n dJ8_checkIndex_16 rfl ?_
      refine aw_ireturn dJ8_checkIndex_17 rfl ?_
      exact hQ
    · exfalso; omega
theorem C_s_chk {G : aG} {j n : Int} {Q : aPost} (h0 : 0 ≤ j ∧ j < n) (hQ : Q (.inl none) G) : AMet md_J4_checkIndex 2 0 0 [vI j, vI n] G Q := by
  refine AMet.go (L := [some (vI j), some (vI n)]) mok_J4_checkIndex (Nat.le_of_ble_eq_true rfl) rfl ?_
  refine aw_iload_n dJ4_checkIndex_0 rfl ?_
  refine aw_iload_n dJ4_checkIndex_1 rfl ?_
  refine aw_gfmt dJ4_checkIndex_2 q636 ?_
  refine c_J4_1059 rfl dJ4_checkIndex_5  (Nat.le_of_ble_eq_true rfl) (by omega) (C_s_pchk h0 ?_)
  refine aK_i ?_
  refine aw_pop dJ4_checkIndex_8 rfl ?_
  refine aw_ret dJ4_checkIndex_9 rfl ?_
  exact hQ
theorem C_s_lch {G : aG} {k : Nat} {j : Int} {Q : aPost} (hk : k < 24) (h0 : 0 ≤ j ∧ j < slen k) (hQ : Q (.inl (some (vI (sch k j)))) G) : AMet md_J7_charAt 3 0 0 [vR (-2 - ((24 + k : Nat) : Int)), vI j] G Q := by
  refine AMet.go (L := [some (vR (-2 - ((24 + k : Nat) : Int))), some (vI j)]) mok_J7_charAt (Nat.le_of_ble_eq_true rfl) rfl ?_
  have hch := sch_in hk h0.1 h0.2
  refine aw_iload_n dJ7_charAt_0 rfl ?_
  refine aw_aload_n dJ7_charAt_1 rfl ?_
  refine aw_slen hk dJ7_charAt_2 ?_
  refine c_J7_9 rfl dJ7_charAt_3  (Nat.le_of_ble_eq_true rfl) (by omega) (C_s_chk h0 ?_)
  refine aK_v ?_
  refine aw_aload_n dJ7_charAt_6 rfl ?_
  refine aw_iload_n dJ7_charAt_7 rfl ?_
  refine aw_sbld hk dJ7_charAt_8 h0.1 h0.2 ?_
  refine aw_sipush dJ7_charAt_9 (by decide) ?_
  refine aw_iand dJ7_charAt_12 ?_
  rw [hch.1]
  refine aw_i2cr dJ7_charAt_13 (by omega) ?_
  exact aw_nreturn dJ7_charAt_14 rfl (nar_c (by omega)) hQ
theorem C_s_charAt {G : aG} {k : Nat} {j : Int} {Q : aPost} (hk : k < 24) (h0 : 0 ≤ j ∧ j < slen k) (hQ : Q (.inl (some (vI (sch k j)))) G) : AMet md_J4_charAt 4 0 0 [vR (-2 - (k : Int)), vI j] G Q := by
  refine AMet.go (L := [some (vR (-2 - (k : Int))), some (vI j)]) mok_J4_charAt (Nat.le_of_ble_eq_true rfl) rfl ?_
  have hch := sch_in hk h0.1 h0.2
  refine aw_aload_n dJ4_charAt_0 rfl ?_
  refine AW.widen (kc' := 0 + 0) (ks' := 0 + 0) (by omega) (by omega) (aw_callVs (as := []) mok_J4_isLatin1 hk q626 q627 q628 rfl dJ4_charAt_1 rfl (Nat.le_of_ble_eq_true rfl) (by omega) (C_s_isLatin1 hk ?_))
  refine aK_i ?_
  refine aw_ifeq (tgt := 16) dJ4_charAt_4 (by decide) (fun h => absurd h (by decide)) (fun _ => ?_)
  refine aw_aload_n dJ4_charAt_7 rfl ?_
  refine aw_sval hk dJ4_charAt_8 q2083 ?_
  refine aw_iload_n dJ4_charAt_11 rfl ?_
  refine c_J4_495 rfl dJ4_charAt_12  (Nat.le_of_ble_eq_true rfl) (by omega) (C_s_lch hk h0 ?_)
  refine aK_i ?_
  exact aw_nreturn dJ4_charAt_15 rfl (nar_c (by omega)) hQ
theorem s_X8_len {Z : aZ} {M : aMD} {d kc ks pc k : Nat} {L : List (Option aV)} {st : List aV} {G : aG} (hk : k < 24) (hM : M.1.cls = RX8) (hd : decode M.2.1 pc = .ok (.invokevirtual 45, 3)) (hw : stW st ≤ 8) (hdd : 3 ≤ d) (kk : AW Z M d kc ks (pc + 3) L (vI (slen k) :: st) G) : AW Z M d kc ks pc L (vR (-2 - (k : Int)) :: st) G :=
  AW.widen (kc' := 0 + kc) (ks' := 0 + ks) (by omega) (by omega) (aw_callVs (as := []) mok_J4_length hk (by rw [hM]; exact q612) q613 q614 rfl hd rfl hw (d' := 2) hdd (C_s_length hk (aK_i kk)))
theorem s_X8_chr {Z : aZ} {M : aMD} {d kc ks pc k : Nat} {j : Int} {L : List (Option aV)} {st : List aV} {G : aG} (hk : k < 24) (h0 : 0 ≤ j ∧ j < slen k) (hM : M.1.cls = RX8) (hd : decode M.2.1 pc = .ok (.invokevirtual 51, 3)) (hw : stW st ≤ 8) (hdd : 5 ≤ d) (kk : AW Z M d kc ks (pc + 3) L (vI (sch k j) :: st) G) : AW Z M d kc ks pc L (vI j :: vR (-2 - (k : Int)) :: st) G :=
  AW.widen (kc' := 0 + kc) (ks' := 0 + ks) (by omega) (by omega) (aw_callVs (as := [vI j]) mok_J4_charAt hk (by rw [hM]; exact q622) q623 q624 rfl hd rfl hw (d' := 4) hdd (C_s_charAt hk h0 (aK_i kk)))
theorem s_X7_len {Z : aZ} {M : aMD} {d kc ks pc k : Nat} {L : List (Option aV)} {st : List aV} {G : aG} (hk : k < 24) (hM : M.1.cls = RX7) (hd : decode M.2.1 pc = .ok (.invokevirtual 132, 3)) (hw : stW st ≤ 8) (hdd : 3 ≤ d) (kk : AW Z M d kc ks (pc + 3) L (vI (slen k) :: st) G) : AW Z M d kc ks pc L (vR (-2 - (k : Int)) :: st) G :=
  AW.widen (kc' := 0 + kc) (ks' := 0 + ks) (by omega) (by omega) (aw_callVs (as := []) mok_J4_length hk (by rw [hM]; exact q1638) q613 q614 rfl hd rfl hw (d' := 2) hdd (C_s_length hk (aK_i kk)))
theorem s_X7_chr {Z : aZ} {M : aMD} {d kc ks pc k : Nat} {j : Int} {L : List (Option aV)} {st : List aV} {G : aG} (hk : k < 24) (h0 : 0 ≤ j ∧ j < slen k) (hM : M.1.cls = RX7) (hd : decode M.2.1 pc = .ok (.invokevirtual 138, 3)) (hw : stW st ≤ 8) (hdd : 5 ≤ d) (kk : AW Z M d kc ks (pc + 3) L (vI (sch k j) :: st) G) : AW Z M d kc ks pc L (vI j :: vR (-2 - (k : Int)) :: st) G :=
  AW.widen (kc' := 0 + kc) (ks' := 0 + ks) (by omega) (by omega) (aw_callVs (as := [vI j]) mok_J4_charAt hk (by rw [hM]; exact q1639) q623 q624 rfl hd rfl hw (d' := 4) hdd (C_s_charAt hk h0 (aK_i kk)))
