set_option maxRecDepth 100000
/-! seasons: steps and blocks, BeeYard -/
theorem c_go_10 {Z : aZ} {M : aMD} {d d' kc ks pc : Nat} {L : List (Option aV)} {st : List aV} {G : aG} {v0 : aV} {a : Int} (hM : M.1.cls = RX11) (hd : decode M.2.1 pc = .ok (.invokevirtual 29, 3)) (ho : aob G.1 G.2.1 a 10) (hw : stW st ≤ 8) (hdd : d' + 1 ≤ d) (hm : AMet md_X10_go d' 0 0 (vR a :: [v0]) G (aK Z M d kc ks pc L st)) : AW Z M d kc ks pc L (v0 :: vR a :: st) G := AW.widen (kc' := 0 + kc) (ks' := 0 + ks) (by omega) (by omega) (aw_callU (x := ⟨"BeeYard$Step", "go", "(LBeeYard$Living;)V"⟩) (C9 := "BeeYard$Loop") (owner := "BeeYard$Step") (as := [v0]) mok_X10_go (by rw [hM]; exact q1360) q1362 q1364 q1361 rfl ⟨by decide, by decide, by decide +kernel⟩ hd ho ⟨_, rfl, rfl⟩ rfl hw hdd hm)
theorem c_go_11 {Z : aZ} {M : aMD} {d d' kc ks pc : Nat} {L : List (Option aV)} {st : List aV} {G : aG} {v0 : aV} {a : Int} (hM : M.1.cls = RX11) (hd : decode M.2.1 pc = .ok (.invokevirtual 29, 3)) (ho : aob G.1 G.2.1 a 11) (hw : stW st ≤ 8) (hdd : d' + 1 ≤ d) (hm : AMet md_X10_go d' 0 0 (vR a :: [v0]) G (aK Z M d kc ks pc L st)) : AW Z M d kc ks pc L (v0 :: vR a :: st) G := AW.widen (kc' := 0 + kc) (ks' := 0 + ks) (by omega) (by omega) (aw_callU (x := ⟨"BeeYard$Step", "go", "(LBeeYard$Living;)V"⟩) (C9 := "BeeYard$When") (owner := "BeeYard$Step") (as := [v0]) mok_X10_go (by rw [hM]; exact q1360) q1362 q1365 q1361 rfl ⟨by decide, by decide, by decide +kernel⟩ hd ho ⟨_, rfl, rfl⟩ rfl hw hdd hm)
theorem c_go_12 {Z : aZ} {M : aMD} {d d' kc ks pc : Nat} {L : List (Option aV)} {st : List aV} {G : aG} {v0 : aV} {a : Int} (hM : M.1.cls = RX11) (hd : decode M.2.1 pc = .ok (.invokevirtual 29, 3)) (ho : aob G.1 G.2.1 a 12) (hw : stW st ≤ 8) (hdd : d' + 1 ≤ d) (hm : AMet md_X10_go d' 0 0 (vR a :: [v0]) G (aK Z M d kc ks pc L st)) : AW Z M d kc ks pc L (v0 :: vR a :: st) G := AW.widen (kc' := 0 + kc) (ks' := 0 + ks) (by omega) (by omega) (aw_callU (x := ⟨"BeeYard$Step", "go", "(LBeeYard$Living;)V"⟩) (C9 := "BeeYard$Act") (owner := "BeeYard$Step") (as := [v0]) mok_X10_go (by rw [hM]; exact q1360) q1362 q1363 q1361 rfl ⟨by decide, by decide, by decide +kernel⟩ hd ho ⟨_, rfl, rfl⟩ rfl hw hdd hm)
theorem c_does_10 {Z : aZ} {M : aMD} {d d' kc ks pc : Nat} {L : List (Option aV)} {st : List aV} {G : aG} {v0 : aV} {a : Int} (hM : M.1.cls = RX10) (hd : decode M.2.1 pc = .ok (.invokevirtual 22, 3)) (ho : aob G.1 G.2.1 a 10) (hw : stW st ≤ 8) (hdd : d' + 1 ≤ d) (hm : AMet md_X12_does d' 0 0 (vR a :: [v0]) G (aK Z M d kc ks pc L st)) : AW Z M d kc ks pc L (v0 :: vR a :: st) G := AW.widen (kc' := 0 + kc) (ks' := 0 + ks) (by omega) (by omega) (aw_callA (x := ⟨"BeeYard$Step", "does", "(LBeeYard$Living;)V"⟩) (C9 := "BeeYard$Loop") (owner := "BeeYard$Step") (as := [v0]) mok_X12_does (by rw [hM]; exact q1367) q1369 q1388 q1389 q1368 ⟨by decide, by decide, by decide +kernel⟩ hd ho ⟨_, rfl, rfl⟩ rfl hw hdd hm)
theorem c_does_11 {Z : aZ} {M : aMD} {d d' kc ks pc : Nat} {L : List (Option aV)} {st : List aV} {G : aG} {v0 : aV} {a : Int} (hM : M.1.cls = RX10) (hd : decode M.2.1 pc = .ok (.invokevirtual 22, 3)) (ho : aob G.1 G.2.1 a 11) (hw : stW st ≤ 8) (hdd : d' + 1 ≤ d) (hm : AMet md_X13_does d' 0 0 (vR a :: [v0]) G (aK Z M d kc ks pc L st)) : AW Z M d kc ks pc L (v0 :: vR a :: st) G := AW.widen (kc' := 0 + kc) (ks' := 0 + ks) (by omega) (by omega) (aw_callA (x := ⟨"BeeYard$Step", "does", "(LBeeYard$Living;)V"⟩) (C9 := "BeeYard$When") (owner := "BeeYard$Step") (as := [v0]) mok_X13_does (by rw [hM]; exact q1367) q1369 q1392 q1393 q1368 ⟨by decide, by decide, by decide +kernel⟩ hd ho ⟨_, rfl, rfl⟩ rfl hw hdd hm)
theorem c_does_12 {Z : aZ} {M : aMD} {d d' kc ks pc : Nat} {L : List (Option aV)} {st : List aV} {G : aG} {v0 : aV} {a : Int} (hM : M.1.cls = RX10) (hd : decode M.2.1 pc = .ok (.invokevirtual 22, 3)) (ho : aob G.1 G.2.1 a 12) (hw : stW st ≤ 8) (hdd : d' + 1 ≤ d) (hm : AMet md_X14_does d' 0 0 (vR a :: [v0]) G (aK Z M d kc ks pc L st)) : AW Z M d kc ks pc L (v0 :: vR a :: st) G := AW.widen (kc' := 0 + kc) (ks' := 0 + ks) (by omega) (by omega) (aw_callA (x := ⟨"BeeYard$Step", "does", "(LBeeYard$Living;)V"⟩) (C9 := "BeeYard$Act") (owner := "BeeYard$Step") (as := [v0]) mok_X14_does (by rw [hM]; exact q1367) q1369 q1370 q1371 q1368 ⟨by decide, by decide, by decide +kernel⟩ hd ho ⟨_, rfl, rfl⟩ rfl hw hdd hm)
theorem c_all_12 {Z : aZ} {M : aMD} {d d' kc ks pc : Nat} {L : List (Option aV)} {st : List aV} {G : aG} {v0 : aV} {a : Int} (hM : M.1.cls = RX12) (hd : decode M.2.1 pc = .ok (.invokevirtual 19, 3)) (ho : aob G.1 G.2.1 a 10) (hw : stW st ≤ 8) (hdd : d' + 1 ≤ d) (hm : AMet md_X11_all d' 0 0 (vR a :: [v0]) G (aK Z M d kc ks pc L st)) : AW Z M d kc ks pc L (v0 :: vR a :: st) G := AW.widen (kc' := 0 + kc) (ks' := 0 + ks) (by omega) (by omega) (aw_callA (x := ⟨"BeeYard$Loop", "all", "(LBeeYard$Living;)V"⟩) (C9 := "BeeYard$Loop") (owner := "BeeYard$Block") (as := [v0]) mok_X11_all (by rw [hM]; exact q1391) q1355 q1357 q1358 q1356 ⟨by decide, by decide, by decide +kernel⟩ hd ho ⟨_, rfl, rfl⟩ rfl hw hdd hm)
theorem c_all_13 {Z : aZ} {M : aMD} {d d' kc ks pc : Nat} {L : List (Option aV)} {st : List aV} {G : aG} {v0 : aV} {a : Int} (hM : M.1.cls = RX13) (hd : decode M.2.1 pc = .ok (.invokevirtual 56, 3)) (ho : aob G.1 G.2.1 a 11) (hw : stW st ≤ 8) (hdd : d' + 1 ≤ d) (hm : AMet md_X11_all d' 0 0 (vR a :: [v0]) G (aK Z M d kc ks pc L st)) : AW Z M d kc ks pc L (v0 :: vR a :: st) G := AW.widen (kc' := 0 + kc) (ks' := 0 + ks) (by omega) (by omega) (aw_callA (x := ⟨"BeeYard$When", "all", "(LBeeYard$Living;)V"⟩) (C9 := "BeeYard$When") (owner := "BeeYard$Block") (as := [v0]) mok_X11_all (by rw [hM]; exact q1402) q1403 q1404 q1358 q1356 ⟨by decide, by decide, by decide +kernel⟩ hd ho ⟨_, rfl, rfl⟩ rfl hw hdd hm)
theorem c_all_0 {Z : aZ} {M : aMD} {d d' kc ks pc : Nat} {L : List (Option aV)} {st : List aV} {G : aG} {v0 : aV} {a : Int} (hM : M.1.cls = RX0) (hd : decode M.2.1 pc = .ok (.invokevirtual 428, 3)) (ho : aob G.1 G.2.1 a 10) (hw : stW st ≤ 8) (hdd : d' + 1 ≤ d) (hm : AMet md_X11_all d' 0 0 (vR a :: [v0]) G (aK Z M d kc ks pc L st)) : AW Z M d kc ks pc L (v0 :: vR a :: st) G := AW.widen (kc' := 0 + kc) (ks' := 0 + ks) (by omega) (by omega) (aw_callA (x := ⟨"BeeYard$Loop", "all", "(LBeeYard$Living;)V"⟩) (C9 := "BeeYard$Loop") (owner := "BeeYard$Block") (as := [v0]) mok_X11_all (by rw [hM]; exact q1354) q1355 q1357 q1358 q1356 ⟨by decide, by decide, by decide +kernel⟩ hd ho ⟨_, rfl, rfl⟩ rfl hw hdd hm)
theorem canB_01 {q : lvS} {r : Int} (h : LQ q) (hr : ROW q.1 r) : canB q r = 0 ∨ canB q r = 1 := by
  unfold canB
  split
  · exact Or.inr rfl
  · rename_i e
    obtain ⟨h1, h2, h3, h4, -⟩ := h
    have := (actF_ok h1 hr e h2 h4).2.2.2.2
    omega
theorem actQ_1 {q : lvS} {r : Int} (h : canB q r = 1) : actQ q r = canQ q r := by
  unfold canB at h
  unfold actQ canQ
  split at h
  · rename_i e
    rw [if_pos e, if_pos e]
  · rename_i e
    rw [if_neg e, if_neg e, h, show q.2.2.2.1 + (1 - 1) = q.2.2.2.1 by omega]
theorem actQ_0 {q : lvS} {r : Int} (h : canB q r = 0) : actQ q r = ((canQ q r).1, (canQ q r).2.1, q.2.2.1, q.2.2.2.1 + 1, (canQ q r).2.2.2.2.1, q.2.2.2.2.2.1, q.2.2.2.2.2.2) := by
  unfold canB at h
  unfold actQ canQ
  split at h
  · omega
  · rename_i e
    rw [if_neg e, if_neg e, h, show q.2.2.2.1 + (1 - 0) = q.2.2.2.1 + 1 by omega]
theorem canQ_0 {q : lvS} {r : Int} (h : canB q r = 0) : (canQ q r).2.2.1 = q.2.2.1 ∧ (canQ q r).2.2.2.1 = q.2.2.2.1 ∧ (canQ q r).2.2.2.2.2.1 = q.2.2.2.2.2.1 ∧ (canQ q r).2.2.2.2.2.2 = q.2.2.2.2.2.2 := by
  unfold canB at h
  unfold canQ
  split at h
  · omega
  · rename_i e
    rw [if_neg e]
    exact ⟨rfl, rfl, rfl, rfl⟩
theorem C_x_does {own0 own1 : Int → Int} {sz : Int} {im : Int → aIm} {ct0 ct1 : Int → Int → Int} {y ya la l o : Int} {s0 N : Int → Int} {q : lvS} {r : Int} {Q : aPost} (hX : XL own0 own1 sz im ct0 ct1 y ya la l s0 N q) (hA : ACT sz im o q.1 r) (hm : q.2.2.2.1 + 1 ≤ q.2.2.1) (K : ∀ (own2 : Int → Int) (ct2 : Int → Int → Int), XL own0 own2 sz im ct0 ct2 y ya la l s0 N (actQ q r) → Q (.inl none) (sz, im, ct2)) : AMet md_X14_does 8 0 0 [vR o, vR l] (sz, im, ct1) Q := by
  refine AMet.go (L := [some (vR o), some (vR l)]) mok_X14_does (Nat.le_of_ble_eq_true rfl) rfl ?_
  have hV := hX.2.2.2.2.2.1
  have hLq := hX.2.2.2.2.2.2
  have h01 := canB_01 hLq hA.2.1
  have hms := hLq.2.2.1
  have d100 := hLq.2.2.1.2.2
  refine aw_aload_n dX14_does_0 rfl ?_
  refine aw_aload_n dX14_does_1 rfl ?_
  refine c_X14_84 rfl dX14_does_2 hA.1 (Nat.le_of_ble_eq_true rfl) (by omega) (C_x_can hX hA (fun own2 ct2 hX2 => ?_))
  have hV2 := hX2.2.2.2.2.2.1
  have hL2 := hX2.2.2.2.2.2.2
  refine aK_i ?_
  refine aw_ifne (tgt := 18) dX14_does_5 (by decide) (fun h5 => ?_) (fun h5 => ?_)
  · rw [actQ_1 (by omega)] at K
    refine aw_ret dX14_does_18 rfl ?_
    exact K own2 ct2 hX2
  · have hc0 : canB q r = 0 := by omega
    have hcq := canQ_0 hc0
    rw [actQ_0 hc0] at K
    refine aw_aload_n dX14_does_8 rfl ?_
    refine aw_dup dX14_does_9 rfl ?_
    refine g_X14_88_13 rfl dX14_does_10 hV2.1.1 ?_
    rw [hV2.2.2.2.1, hcq.2.1]
    refine aw_iconst dX14_does_13 (by decide) ?_
    refine aw_iaddr dX14_does_14 (by omega) ?_
    refine p_X14_88_13 rfl dX14_does_15 hV2.1.1 ?_
    refine aw_ret dX14_does_18 rfl ?_
    exact K own2 _ (hX2.liv (fun x j hx => aup_rn_a hx) ⟨by rw [aup_n (by omega)]; exact hV2.2.1, by rw [aup_n (by omega), hV2.2.2.1]; exact hcq.1, by rw [aup_s], by rw [aup_n (by omega)]; exact hV2.2.2.2.2.1, by rw [aup_n (by omega), hV2.2.2.2.2.2.1]; exact hcq.2.2.1, by rw [aup_n (by omega), hV2.2.2.2.2.2.2]; exact hcq.2.2.2⟩ rfl ⟨hL2.1, hL2.2.1, ⟨by have := hLq.2.2.1.1; show 0 ≤ q.2.2.2.1 + 1; omega, hm, d100⟩, hL2.2.2.2.1, hLq.2.2.2.2.1, hLq.2.2.2.2.2⟩)
/-- a test and its row -/
def TST (sz : Int) (im : Int → aIm) (o : Int) (s : Int → Int) (r : Int) : Prop := aob sz im o 11 ∧ (im o).2.2 3 = s (r + 1) ∧ (0 ≤ s (r + 1) ∧ s (r + 1) < s 0) ∧ (im o).2.2 4 = s (r + 5) ∧ (im o).2.2 5 = s (r + 2) ∧ ((s r = 1721 ∧ (im o).2.2 2 = 0) ∨ (s r = 1705 ∧ (im o).2.2 2 = 1) ∨ (s r = 1706 ∧ (im o).2.2 2 = 2) ∨ (s r = 1722 ∧ (im o).2.2 2 = 3))
def hldV (s : Int → Int) (r v : Int) : Prop := if s (r + 5) = 60 then v < s (r + 2) else if s (r + 5) = 62 then s (r + 2) < v else v = s (r + 2)
def hldN (s : Int → Int) (r : Int) : Int := if s r = 1705 then s (64 + 198 * s (r + 1) + 1) else isum (fun i => sv (if s r = 1706 then 0 else 1) (sh (64 + 198 * s (r + 1)) s i)) (nF (s (64 + 198 * s (r + 1))))
theorem hldF_v {s : Int → Int} {r : Int} (h : s r ≠ 1721) : hldF s r ↔ hldV s r (hldN s r) := by
  unfold hldF
  rw [if_neg h]
  exact Iff.rfl
theorem hldF_c {s : Int → Int} {r : Int} (h : s r = 1721) : hldF s r ↔ crw s (s (r + 1)) := by
  unfold hldF
  rw [if_pos h]
theorem hldN_1 {s : Int → Int} {r : Int} (h : s r = 1705) : hldN s r = s (64 + 198 * s (r + 1) + 1) := if_pos h
theorem hldN_2 {s : Int → Int} {r : Int} (h : s r = 1706) : hldN s r = isum (fun i => sv 0 (sh (64 + 198 * s (r + 1)) s i)) (nF (s (64 + 198 * s (r + 1)))) := by
  unfold hldN
  rw [if_neg (by omega), if_pos h]
theorem hldN_3 {s : Int → Int} {r : Int} (h : s r = 1722) : hldN s r = isum (fun i => sv 1 (sh (64 + 198 * s (r + 1)) s i)) (nF (s (64 + 198 * s (r + 1)))) := by
  unfold hldN
  rw [if_neg (by omega), if_neg (by omega)]
theorem L_x_is46 {sz : Int} {im : Int → aIm} {ct : Int → Int → Int} {w r v : Int} {s : Int → Int} {Q : aPost} {d kc ks : Nat} {x1 x2 : Option aV} (ho : aob sz im w 11) (e4 : (im w).2.2 4 = s (r + 5)) (e5 : (im w).2.2 5 = s (r + 2)) (h1 : nl (some x1) = true) (hT : hldV s r v → Q (.inl (some (vI 1))) (sz, im, ct)) (hF : ¬ hldV s r v → Q (.inl (some (vI 0))) (sz, im, ct)) : AW (mq Q) md_X13_is d kc ks 46 [some (vR w), x1, x2] [vI v] (sz, im, ct) := by
  refine aw_istore2 dX13_is_46 (by decide) h1 ?_
  refine aw_aload_n dX13_is_47 rfl ?_
  refine g_X13_18_11 rfl dX13_is_48 ho ?_
  rw [e4]
  refine aw_bipush dX13_is_51 (by decide) ?_
  refine aw_icmpne (tgt := 72) dX13_is_53 (by decide) (fun h53 => ?_) (fun h53 => ?_)
  · refine aw_aload_n dX13_is_72 rfl ?_
    refine g_X13_18_11 rfl dX13_is_73 ho ?_
    rw [e4]
    refine aw_bipush dX13_is_76 (by decide) ?_
    refine aw_icmpne (tgt := 97) dX13_is_78 (by decide) (fun h78 => ?_) (fun h78 => ?_)
    · refine aw_iload_n dX13_is_97 rfl ?_
      refine aw_aload_n dX13_is_98 rfl ?_
      refine g_X13_21_11 rfl dX13_is_99 ho ?_
      rw [e5]
      refine aw_icmpne (tgt := 109) dX13_is_102 (by decide) (fun h102 => ?_) (fun h102 => ?_)
      · refine aw_iconst dX13_is_109 (by decide) ?_
        refine aw_zreturn dX13_is_110 rfl (Or.inl rfl) ?_
        first
          | (exfalso; omega)
          | (refine hT ?_
             unfold hldV
             (repeat (first | rw [if_pos (by omega)] | rw [if_neg (by omega)]))
             omega)
          | (refine hF fun z => ?_
             unfold hldV at z
             (repeat (first | rw [if_pos (by omega)] at z | rw [if_neg (by omega)] at z))
             omega)
      · refine aw_iconst dX13_is_105 (by decide) ?_
        refine aw_goto (tgt := 110) dX13_is_106 (by decide) ?_
        refine aw_zreturn dX13_is_110 rfl (Or.inr rfl) ?_
        first
          | (exfalso; omega)
          | (refine hT ?_
             unfold hldV
             (repeat (first | rw [if_pos (by omega)] | rw [if_neg (by omega)]))
             omega)
          | (refine hF fun z => ?_
             unfold hldV at z
             (repeat (first | rw [if_pos (by omega)] at z | rw [if_neg (by omega)] at z))
             omega)
    · refine aw_iload_n dX13_is_81 rfl ?_
      refine aw_aload_n dX13_is_82 rfl ?_
      refine g_X13_21_11 rfl dX13_is_83 ho ?_
      rw [e5]
      refine aw_icmple (tgt := 93) dX13_is_86 (by decide) (fun h86 => ?_) (fun h86 => ?_)
      · refine aw_iconst dX13_is_93 (by decide) ?_
        refine aw_goto (tgt := 110) dX13_is_94 (by decide) ?_
        refine aw_zreturn dX13_is_110 rfl (Or.inl rfl) ?_
        first
          | (exfalso; omega)
          | (refine hT ?_
             unfold hldV
             (repeat (first | rw [if_pos (by omega)] | rw [if_neg (by omega)]))
             omega)
          | (refine hF fun z => ?_
             unfold hldV at z
             (repeat (first | rw [if_pos (by omega)] at z | rw [if_neg (by omega)] at z))
             omega)
      · refine aw_iconst dX13_is_89 (by decide) ?_
        refine aw_goto (tgt := 110) dX13_is_90 (by decide) ?_
        refine aw_zreturn dX13_is_110 rfl (Or.inr rfl) ?_
        first
          | (exfalso; omega)
          | (refine hT ?_
             unfold hldV
             (repeat (first | rw [if_pos (by omega)] | rw [if_neg (by omega)]))
             omega)
          | (refine hF fun z => ?_
             unfold hldV at z
             (repeat (first | rw [if_pos (by omega)] at z | rw [if_neg (by omega)] at z))
             omega)
  · refine aw_iload_n dX13_is_56 rfl ?_
    refine aw_aload_n dX13_is_57 rfl ?_
    refine g_X13_21_11 rfl dX13_is_58 ho ?_
    rw [e5]
    refine aw_icmpge (tgt := 68) dX13_is_61 (by decide) (fun h61 => ?_) (fun h61 => ?_)
    · refine aw_iconst dX13_is_68 (by decide) ?_
      refine aw_goto (tgt := 110) dX13_is_69 (by decide) ?_
      refine aw_zreturn dX13_is_110 rfl (Or.inl rfl) ?_
      first
        | (exfalso; omega)
        | (refine hT ?_
           unfold hldV
           (repeat (first | rw [if_pos (by omega)] | rw [if_neg (by omega)]))
           omega)
        | (refine hF fun z => ?_
           unfold hldV at z
           (repeat (first | rw [if_pos (by omega)] at z | rw [if_neg (by omega)] at z))
           omega)
    · refine aw_iconst dX13_is_64 (by decide) ?_
      refine aw_goto (tgt := 110) dX13_is_65 (by decide) ?_
      refine aw_zreturn dX13_is_110 rfl (Or.inr rfl) ?_
      first
        | (exfalso; omega)
        | (refine hT ?_
           unfold hldV
           (repeat (first | rw [if_pos (by omega)] | rw [if_neg (by omega)]))
           omega)
        | (refine hF fun z => ?_
           unfold hldV at z
           (repeat (first | rw [if_pos (by omega)] at z | rw [if_neg (by omega)] at z))
           omega)
theorem C_x_is {own : Int → Int} {sz : Int} {im : Int → aIm} {ct : Int → Int → Int} {w t hv nm r : Int} {s : Int → Int} {Q : aPost} (hA : TST sz im w s r) (hP : PI s) (Y : YH own t sz im ct hv s (64 + 198 * s (r + 1)) nm) (hT : hldF s r → Q (.inl (some (vI 1))) (sz, im, ct)) (hF : ¬ hldF s r → Q (.inl (some (vI 0))) (sz, im, ct)) : AMet md_X13_is 5 0 0 [vR w, vR hv] (sz, im, ct) Q := by
  refine AMet.go (L := [some (vR w), some (vR hv), none]) mok_X13_is (Nat.le_of_ble_eq_true rfl) rfl ?_
  obtain ⟨ho, e3, hb, e4, e5, ew⟩ := id hA
  have gk := hP.2.2.1 _ hb.1 hb.2
  obtain ⟨y1, y2, ⟨y3, y4, y5, y6, y7⟩, -⟩ := Y
  have hx : s r = 1721 ∨ s r = 1705 ∨ s r = 1706 ∨ s r = 1722 := by omega
  refine aw_aload_n dX13_is_0 rfl ?_
  refine g_X13_9_11 rfl dX13_is_1 hA.1 ?_
  refine aw_ifne (tgt := 12) dX13_is_4 (by decide) (fun h4 => ?_) (fun h4 => ?_)
  · first
      | (exfalso; omega)
      | skip
        refine aw_aload_n dX13_is_12 rfl ?_
        refine g_X13_9_11 rfl dX13_is_13 hA.1 ?_
        refine aw_iconst dX13_is_16 (by decide) ?_
        refine aw_icmpne (tgt := 27) dX13_is_17 (by decide) (fun h17 => ?_) (fun h17 => ?_)
        · first
            | (exfalso; omega)
            | skip
              refine aw_aload_n dX13_is_27 rfl ?_
              refine g_X13_9_11 rfl dX13_is_28 hA.1 ?_
              refine aw_iconst dX13_is_31 (by decide) ?_
              refine aw_icmpne (tgt := 42) dX13_is_32 (by decide) (fun h32 => ?_) (fun h32 => ?_)
              · first
                  | (exfalso; omega)
                  | skip
                    refine aw_aload_n dX13_is_42 rfl ?_
                    refine c_X13_37 rfl dX13_is_43 y1.1 (Nat.le_of_ble_eq_true rfl) (by omega) (C_x_brood y1 y2 gk.2.1 ?_)
                    refine aK_i ?_
                    first
                      | (exfalso; omega)
                      | (have hn := hldN_1 (s := s) (r := r) (by omega)
                         refine L_x_is46 ho e4 e5 rfl (fun z => hT ((hldF_v (by omega)).mpr (by rw [hn]; exact z))) (fun z => hF (fun w9 => z (by have w8 := (hldF_v (by omega)).mp w9; rw [hn] at w8; exact w8))))
                      | (have hn := hldN_2 (s := s) (r := r) (by omega)
                         refine L_x_is46 ho e4 e5 rfl (fun z => hT ((hldF_v (by omega)).mpr (by rw [hn]; exact z))) (fun z => hF (fun w9 => z (by have w8 := (hldF_v (by omega)).mp w9; rw [hn] at w8; exact w8))))
                      | (have hn := hldN_3 (s := s) (r := r) (by omega)
                         refine L_x_is46 ho e4 e5 rfl (fun z => hT ((hldF_v (by omega)).mpr (by rw [hn]; exact z))) (fun z => hF (fun w9 => z (by have w8 := (hldF_v (by omega)).mp w9; rw [hn] at w8; exact w8))))
              · first
                  | (exfalso; omega)
                  | skip
                    refine aw_aload_n dX13_is_35 rfl ?_
                    refine c_X13_33 rfl dX13_is_36 y1.1 (Nat.le_of_ble_eq_true rfl) (by omega) (C_x_honey y1 y2 gk.2.1 ?_)
                    refine aK_i ?_
                    refine aw_goto (tgt := 46) dX13_is_39 (by decide) ?_
                    first
                      | (exfalso; omega)
                      | (have hn := hldN_1 (s := s) (r := r) (by omega)
                         refine L_x_is46 ho e4 e5 rfl (fun z => hT ((hldF_v (by omega)).mpr (by rw [hn]; exact z))) (fun z => hF (fun w9 => z (by have w8 := (hldF_v (by omega)).mp w9; rw [hn] at w8; exact w8))))
                      | (have hn := hldN_2 (s := s) (r := r) (by omega)
                         refine L_x_is46 ho e4 e5 rfl (fun z => hT ((hldF_v (by omega)).mpr (by rw [hn]; exact z))) (fun z => hF (fun w9 => z (by have w8 := (hldF_v (by omega)).mp w9; rw [hn] at w8; exact w8))))
                      | (have hn := hldN_3 (s := s) (r := r) (by omega)
                         refine L_x_is46 ho e4 e5 rfl (fun z => hT ((hldF_v (by omega)).mpr (by rw [hn]; exact z))) (fun z => hF (fun w9 => z (by have w8 := (hldF_v (by omega)).mp w9; rw [hn] at w8; exact w8))))
        · first
            | (exfalso; omega)
            | skip
              refine aw_aload_n dX13_is_20 rfl ?_
              refine g_X13_30_9 rfl dX13_is_21 y1.1 ?_
              rw [y3]
              refine aw_goto (tgt := 46) dX13_is_24 (by decide) ?_
              first
                | (exfalso; omega)
                | (have hn := hldN_1 (s := s) (r := r) (by omega)
                   refine L_x_is46 ho e4 e5 rfl (fun z => hT ((hldF_v (by omega)).mpr (by rw [hn]; exact z))) (fun z => hF (fun w9 => z (by have w8 := (hldF_v (by omega)).mp w9; rw [hn] at w8; exact w8))))
                | (have hn := hldN_2 (s := s) (r := r) (by omega)
                   refine L_x_is46 ho e4 e5 rfl (fun z => hT ((hldF_v (by omega)).mpr (by rw [hn]; exact z))) (fun z => hF (fun w9 => z (by have w8 := (hldF_v (by omega)).mp w9; rw [hn] at w8; exact w8))))
                | (have hn := hldN_3 (s := s) (r := r) (by omega)
                   refine L_x_is46 ho e4 e5 rfl (fun z => hT ((hldF_v (by omega)).mpr (by rw [hn]; exact z))) (fun z => hF (fun w9 => z (by have w8 := (hldF_v (by omega)).mp w9; rw [hn] at w8; exact w8))))
  · first
      | (exfalso; omega)
      | skip
        refine aw_aload_n dX13_is_7 rfl ?_
        refine c_X13_24 rfl dX13_is_8 y1.1 (Nat.le_of_ble_eq_true rfl) (by omega) (C_x_isCrowded y1 y2 gk.2.1 (fun hc => ?_) (fun hc => ?_))
        · first
            | (exfalso; omega)
            | skip
              refine aK_i ?_
              refine aw_zreturn dX13_is_11 rfl (Or.inr rfl) ?_
              first
                | (refine hT ?_
                   refine (hldF_c (by omega)).mpr ?_
                   exact ⟨by rw [← y5]; omega, by rw [← y3]; exact hc.2.1, hc.2.2⟩)
                | (refine hF fun z => hc ?_
                   have z := (hldF_c (by omega)).mp z
                   exact ⟨by have z1 := z.1; have z2 := gk.2.2.2.2.1; rw [y5]; omega, by rw [y3]; exact z.2.1, z.2.2⟩)
        · first
            | (exfalso; omega)
            | skip
              refine aK_i ?_
              refine aw_zreturn dX13_is_11 rfl (Or.inl rfl) ?_
              first
                | (refine hT ?_
                   refine (hldF_c (by omega)).mpr ?_
                   exact ⟨by rw [← y5]; omega, by rw [← y3]; exact hc.2.1, hc.2.2⟩)
                | (refine hF fun z => hc ?_
                   have z := (hldF_c (by omega)).mp z
                   exact ⟨by have z1 := z.1; have z2 := gk.2.2.2.2.1; rw [y5]; omega, by rw [y3]; exact z.2.1, z.2.2⟩)
