set_option maxRecDepth 100000
/-! seasons: the run, BeeYardModel -/
theorem HDL_loop {c0 ct : Int → Int → Int} {q : lvS} {Q : aPost} {d : Nat} {sd k : Int} (h : MLV c0 ct q) (hLq : LQ q) (hk0 : 0 ≤ k ∧ k < 60) (hk : k < q.1 10) (hd : q.2.2.1 ≠ 100) (e18 : q.1 (860 + 6 * k) = 18) (ht : 1 ≤ q.1 (861 + 6 * k) ∧ q.1 (861 + 6 * k) ≤ 99) (hdd : 9 ≤ d) (K : ∀ ct2 : Int → Int → Int, MLV c0 ct2 (incQ q) → (∀ u, ct2 11 u = if u = k then q.1 (861 + 6 * k) - 1 else ct 11 u) → PEL Q d sd (k + 1) ct2) : HDL Q d sd k ct := by
  intro x3
  have ec := h.2.1
  have e30 := h.2.2.1.2.1
  have e120 := h.2.2.1.2.2.1
  have hI := h.num (i := 30) (v := q.2.2.1 + 1) (Or.inr rfl)
  have eI : aup ct 0 30 (q.2.2.1 + 1) 1 = q.1 := by rw [aup_rn (by decide)]; exact ec
  have hms := hLq.2.2.1
  have hb : q.1 (860 + 6 * k) = 18 ∨ 1700 ≤ q.1 (860 + 6 * k) := Or.inl e18
  have e861 : 860 + 6 * k + 1 = 861 + 6 * k := by omega
  refine aw_iload_n dX7_lives_32 rfl ?_
  refine gm_7 rfl dX7_lives_33 dX7_lives_34 rfl ?_
  refine aw_bipush dX7_lives_37 (by decide) ?_
  refine aw_iaload dX7_lives_39 m_a1 (by omega) (by omega) ?_
  rw [ec]
  refine aw_icmpge (tgt := 184) dX7_lives_40 (by decide) (fun h40 => ?_) (fun h40 => ?_)
  · exfalso; omega
  · refine gm_380 rfl dX7_lives_43 dX7_lives_44 rfl ?_
    rw [e30]
    refine aw_bipush dX7_lives_47 (by decide) ?_
    refine aw_icmpne (tgt := 60) dX7_lives_49 (by decide) (fun h49 => ?_) (fun h49 => ?_)
    · refine aw_sipush dX7_lives_60 (by decide) ?_
      refine aw_bipush dX7_lives_63 (by decide) ?_
      refine aw_iload_n dX7_lives_65 rfl ?_
      refine aw_imulr dX7_lives_66 (by omega) ?_
      refine aw_iaddr dX7_lives_67 (by omega) ?_
      refine aw_istore3 dX7_lives_68 (by decide) rfl ?_
      refine aw_aload_n dX7_lives_69 rfl ?_
      refine aw_dup dX7_lives_70 rfl ?_
      refine g_X7_380_7 rfl dX7_lives_71 m_ob ?_
      rw [e30]
      refine aw_iconst dX7_lives_74 (by decide) ?_
      refine aw_iaddr dX7_lives_75 (by omega) ?_
      refine p_X7_380_7 rfl dX7_lives_76 m_ob ?_
      refine gm_7 rfl dX7_lives_79 dX7_lives_80 rfl ?_
      refine aw_iload_n dX7_lives_83 rfl ?_
      refine aw_iaload dX7_lives_84 m_a1 (by omega) (by omega) ?_
      rw [eI]
      refine aw_bipush dX7_lives_85 (by decide) ?_
      refine aw_icmpne (tgt := 91) dX7_lives_87 (by decide) (fun h87 => ?_) (fun h87 => ?_)
      · refine gm_56 rfl dX7_lives_91 dX7_lives_92 rfl ?_
        refine aw_iconst dX7_lives_95 (by decide) ?_
        refine aw_dup2 dX7_lives_96 rfl rfl ?_
        refine aw_iaload dX7_lives_97 m_a12 (by omega) (by omega) ?_
        rw [aup_rn (by decide), e120]
        refine aw_aload_n dX7_lives_98 rfl ?_
        refine aw_iload_n dX7_lives_99 rfl ?_
        refine c_X7_383 rfl dX7_lives_100 m_ob (Nat.le_of_ble_eq_true rfl) (by omega) (C_m_actB hI (by omega) hb ?_)
        refine aK_i ?_
        refine aw_ifeq (tgt := 110) dX7_lives_103 (by decide) (fun h => absurd h (by decide)) (fun _ => ?_)
        refine aw_iconst dX7_lives_106 (by decide) ?_
        refine aw_goto (tgt := 111) dX7_lives_107 (by decide) ?_
        refine aw_iaddr dX7_lives_111 (by omega) ?_
        refine aw_iastore dX7_lives_112 m_a12 (by omega) (by omega) ?_
        refine gm_7 rfl dX7_lives_113 dX7_lives_114 rfl ?_
        refine aw_iload_n dX7_lives_117 rfl ?_
        refine aw_iaload dX7_lives_118 m_a1 (by omega) (by omega) ?_
        rw [aup_rn (by decide), eI]
        refine aw_bipush dX7_lives_119 (by decide) ?_
        refine aw_icmpne (tgt := 140) dX7_lives_121 (by decide) (fun h121 => ?_) (fun h121 => ?_)
        · exfalso; omega
        · refine gm_53 rfl dX7_lives_124 dX7_lives_125 rfl ?_
          refine aw_iload_n dX7_lives_128 rfl ?_
          refine gm_7 rfl dX7_lives_129 dX7_lives_130 rfl ?_
          refine aw_iload_n dX7_lives_133 rfl ?_
          refine aw_iconst dX7_lives_134 (by decide) ?_
          refine aw_iaddr dX7_lives_135 (by omega) ?_
          refine aw_iaload dX7_lives_136 m_a1 (by omega) (by omega) ?_
          rw [aup_rn (by decide), eI, e861]
          refine aw_iconst dX7_lives_137 (by decide) ?_
          refine aw_isubr dX7_lives_138 (by omega) ?_
          refine aw_iastore dX7_lives_139 m_a11 (by omega) (by omega) ?_
          refine aw_aload_n dX7_lives_140 rfl ?_
          refine gm_7 rfl dX7_lives_141 dX7_lives_142 rfl ?_
          refine aw_iload_n dX7_lives_145 rfl ?_
          refine aw_iaload dX7_lives_146 m_a1 (by omega) (by omega) ?_
          rw [aup_rn (by decide), aup_rn (by decide), eI]
          refine aw_sipush dX7_lives_147 (by decide) ?_
          refine aw_icmplt (tgt := 174) dX7_lives_150 (by decide) (fun h150 => ?_) (fun h150 => ?_)
          · refine aw_iload_n dX7_lives_174 rfl ?_
            refine aw_iconst dX7_lives_175 (by decide) ?_
            refine aw_iaddr dX7_lives_176 (by omega) ?_
            refine c_X7_389 rfl dX7_lives_177 m_ob (Nat.le_of_ble_eq_true rfl) (by omega) ((AMet.go (d := 1) (L := [some (vR 0), some (vI (k + 1)), none, none, none]) mok_X7_behindEnds (Nat.le_of_ble_eq_true rfl) rfl (aw_iload_n dX7_behindEnds_0 rfl (aw_istore2 dX7_behindEnds_1 (by decide) rfl ?_))))
            have hI2 := (hI.ran (i := 0) (v := q.2.2.2.1 + 0)).rou (i := k) (v := q.1 (861 + 6 * k) - 1)
            refine K _ (MLV.cg hI2 rfl rfl rfl (by show q.2.2.2.1 + 0 = q.2.2.2.1; omega) rfl rfl) (fun u => ?_) _ _ _ _ _ ?_
            · by_cases z : u = k
              · subst z; rw [aup_s, if_pos rfl]
              · rw [aup_n (by omega), if_neg z, aup_rn (by decide), aup_rn (by decide)]
            · rfl
          · exfalso; omega
      · exfalso; omega
    · exfalso; omega
theorem HDL_when {c0 ct : Int → Int → Int} {q : lvS} {Q : aPost} {d : Nat} {sd k : Int} (h : MLV c0 ct q) (hLq : LQ q) (hk0 : 0 ≤ k ∧ k < 60) (hk : k < q.1 10) (hd : q.2.2.1 ≠ 100) (hx : q.1 (860 + 6 * k) = 1721 ∨ q.1 (860 + 6 * k) = 1705 ∨ q.1 (860 + 6 * k) = 1706 ∨ q.1 (860 + 6 * k) = 1722) (hb1 : 0 ≤ q.1 (861 + 6 * k) ∧ q.1 (861 + 6 * k) < q.1 0) {c : Int} (hc : q.1 (864 + 6 * k) = c) (hc0 : 0 ≤ c ∧ c < 60) (hdd : 9 ≤ d) (K1 : hldF q.1 (860 + 6 * k) → ∀ ct2 : Int → Int → Int, MLV c0 ct2 (incQ q) → (∀ u, ct2 11 u = ct 11 u) → PEL Q d sd (k + 1) ct2) (K0 : ¬ hldF q.1 (860 + 6 * k) → ∀ ct2 : Int → Int → Int, MLV c0 ct2 (incQ q) → (∀ u, ct2 11 u = ct 11 u) → PEL Q d sd (c + 1) ct2) : HDL Q d sd k ct := by
  intro x3
  have ec := h.2.1
  have e30 := h.2.2.1.2.1
  have e120 := h.2.2.1.2.2.1
  have hI := h.num (i := 30) (v := q.2.2.1 + 1) (Or.inr rfl)
  have eI : aup ct 0 30 (q.2.2.1 + 1) 1 = q.1 := by rw [aup_rn (by decide)]; exact ec
  have hms := hLq.2.2.1
  have hb : q.1 (860 + 6 * k) = 18 ∨ 1700 ≤ q.1 (860 + 6 * k) := Or.inr (by omega)
  have e861 : 860 + 6 * k + 1 = 861 + 6 * k := by omega
  have e864 : 860 + 6 * k + 4 = 864 + 6 * k := by omega
  have hI2 : MLV c0 (aup (aup ct 0 30 (q.2.2.1 + 1)) 12 0 (q.2.2.2.1 + 0)) (incQ q) := MLV.cg (hI.ran (i := 0) (v := q.2.2.2.1 + 0)) rfl rfl rfl (by show q.2.2.2.1 + 0 = q.2.2.2.1; omega) rfl rfl
  have hu2 : ∀ u, aup (aup ct 0 30 (q.2.2.1 + 1)) 12 0 (q.2.2.2.1 + 0) 11 u = ct 11 u := fun u => by rw [aup_rn (by decide), aup_rn (by decide)]
  refine aw_iload_n dX7_lives_32 rfl ?_
  refine gm_7 rfl dX7_lives_33 dX7_lives_34 rfl ?_
  refine aw_bipush dX7_lives_37 (by decide) ?_
  refine aw_iaload dX7_lives_39 m_a1 (by omega) (by omega) ?_
  rw [ec]
  refine aw_icmpge (tgt := 184) dX7_lives_40 (by decide) (fun h40 => ?_) (fun h40 => ?_)
  · exfalso; omega
  · refine gm_380 rfl dX7_lives_43 dX7_lives_44 rfl ?_
    rw [e30]
    refine aw_bipush dX7_lives_47 (by decide) ?_
    refine aw_icmpne (tgt := 60) dX7_lives_49 (by decide) (fun h49 => ?_) (fun h49 => ?_)
    · refine aw_sipush dX7_lives_60 (by decide) ?_
      refine aw_bipush dX7_lives_63 (by decide) ?_
      refine aw_iload_n dX7_lives_65 rfl ?_
      refine aw_imulr dX7_lives_66 (by omega) ?_
      refine aw_iaddr dX7_lives_67 (by omega) ?_
      refine aw_istore3 dX7_lives_68 (by decide) rfl ?_
      refine aw_aload_n dX7_lives_69 rfl ?_
      refine aw_dup dX7_lives_70 rfl ?_
      refine g_X7_380_7 rfl dX7_lives_71 m_ob ?_
      rw [e30]
      refine aw_iconst dX7_lives_74 (by decide) ?_
      refine aw_iaddr dX7_lives_75 (by omega) ?_
      refine p_X7_380_7 rfl dX7_lives_76 m_ob ?_
      refine gm_7 rfl dX7_lives_79 dX7_lives_80 rfl ?_
      refine aw_iload_n dX7_lives_83 rfl ?_
      refine aw_iaload dX7_lives_84 m_a1 (by omega) (by omega) ?_
      rw [eI]
      refine aw_bipush dX7_lives_85 (by decide) ?_
      refine aw_icmpne (tgt := 91) dX7_lives_87 (by decide) (fun h87 => ?_) (fun h87 => ?_)
      · refine gm_56 rfl dX7_lives_91 dX7_lives_92 rfl ?_
        refine aw_iconst dX7_lives_95 (by decide) ?_
        refine aw_dup2 dX7_lives_96 rfl rfl ?_
        refine aw_iaload dX7_lives_97 m_a12 (by omega) (by omega) ?_
        rw [aup_rn (by decide), e120]
        refine aw_aload_n dX7_lives_98 rfl ?_
        refine aw_iload_n dX7_lives_99 rfl ?_
        refine c_X7_383 rfl dX7_lives_100 m_ob (Nat.le_of_ble_eq_true rfl) (by omega) (C_m_actB hI (by omega) hb ?_)
        refine aK_i ?_
        refine aw_ifeq (tgt := 110) dX7_lives_103 (by decide) (fun h => absurd h (by decide)) (fun _ => ?_)
        refine aw_iconst dX7_lives_106 (by decide) ?_
        refine aw_goto (tgt := 111) dX7_lives_107 (by decide) ?_
        refine aw_iaddr dX7_lives_111 (by omega) ?_
        refine aw_iastore dX7_lives_112 m_a12 (by omega) (by omega) ?_
        refine gm_7 rfl dX7_lives_113 dX7_lives_114 rfl ?_
        refine aw_iload_n dX7_lives_117 rfl ?_
        refine aw_iaload dX7_lives_118 m_a1 (by omega) (by omega) ?_
        rw [aup_rn (by decide), eI]
        refine aw_bipush dX7_lives_119 (by decide) ?_
        refine aw_icmpne (tgt := 140) dX7_lives_121 (by decide) (fun h121 => ?_) (fun h121 => ?_)
        · refine aw_aload_n dX7_lives_140 rfl ?_
          refine gm_7 rfl dX7_lives_141 dX7_lives_142 rfl ?_
          refine aw_iload_n dX7_lives_145 rfl ?_
          refine aw_iaload dX7_lives_146 m_a1 (by omega) (by omega) ?_
          rw [aup_rn (by decide), eI]
          refine aw_sipush dX7_lives_147 (by decide) ?_
          refine aw_icmplt (tgt := 174) dX7_lives_150 (by decide) (fun h150 => ?_) (fun h150 => ?_)
          · exfalso; omega
          · refine aw_aload_n dX7_lives_153 rfl ?_
            refine aw_iload_n dX7_lives_154 rfl ?_
            refine c_X7_386 rfl dX7_lives_155 m_ob (Nat.le_of_ble_eq_true rfl) (by omega) (C_m_holds (s := q.1) (by rw [aup_rn (by decide)]; exact eI) (by omega) hLq.1 hx (by rw [e861]; exact hb1) (fun hh => ?_) (fun hh => ?_))
            · refine aK_i ?_
              refine aw_ifne (tgt := 174) dX7_lives_158 (by decide) (fun _ => ?_) (fun h => absurd h (by decide))
              refine aw_iload_n dX7_lives_174 rfl ?_
              refine aw_iconst dX7_lives_175 (by decide) ?_
              refine aw_iaddr dX7_lives_176 (by omega) ?_
              refine c_X7_389 rfl dX7_lives_177 m_ob (Nat.le_of_ble_eq_true rfl) (by omega) ((AMet.go (d := 1) (L := [some (vR 0), some (vI (k + 1)), none, none, none]) mok_X7_behindEnds (Nat.le_of_ble_eq_true rfl) rfl (aw_iload_n dX7_behindEnds_0 rfl (aw_istore2 dX7_behindEnds_1 (by decide) rfl ?_))))
              refine K1 hh _ hI2 hu2 _ _ _ _ _ ?_
              rfl
            · refine aK_i ?_
              refine aw_ifne (tgt := 174) dX7_lives_158 (by decide) (fun h => absurd h (by decide)) (fun _ => ?_)
              refine gm_7 rfl dX7_lives_161 dX7_lives_162 rfl ?_
              refine aw_iload_n dX7_lives_165 rfl ?_
              refine aw_iconst dX7_lives_166 (by decide) ?_
              refine aw_iaddr dX7_lives_167 (by omega) ?_
              refine aw_iaload dX7_lives_168 m_a1 (by omega) (by omega) ?_
              rw [aup_rn (by decide), eI, e864, hc]
              refine aw_iconst dX7_lives_169 (by decide) ?_
              refine aw_iaddr dX7_lives_170 (by omega) ?_
              refine aw_goto (tgt := 177) dX7_lives_171 (by decide) ?_
              refine c_X7_389 rfl dX7_lives_177 m_ob (Nat.le_of_ble_eq_true rfl) (by omega) ((AMet.go (d := 1) (L := [some (vR 0), some (vI (c + 1)), none, none, none]) mok_X7_behindEnds (Nat.le_of_ble_eq_true rfl) rfl (aw_iload_n dX7_behindEnds_0 rfl (aw_istore2 dX7_behindEnds_1 (by decide) rfl ?_))))
              refine K0 hh _ hI2 hu2 _ _ _ _ _ ?_
              rfl
        · exfalso; omega
      · exfalso; omega
    · exfalso; omega
/-- what goes on to hold -/
def INQ (s0 : Int → Int) (q : lvS) : Prop := LQ q ∧ sK s0 q.1
theorem INQ.r {s0 : Int → Int} {q : lvS} (h : INQ s0 q) {i : Int} (hi : 860 ≤ i) : q.1 i = s0 i := h.2.1 i (Or.inr (Or.inr (Or.inr (Or.inr (Or.inr hi)))))
theorem lopF_ov {f : lvS → lvS} {q : lvS} (h : q.2.2.2.2.2.1 ≠ 0) : ∀ {t : Nat}, lopF f t q = q
  | 0 => by simp only [lopF]
  | t + 1 => by simp only [lopF]; rw [if_pos h]
theorem seqF_in {own : Int → Int} {sz : Int} {im : Int → aIm} {ct : Int → Int → Int} {s0 : Int → Int} {n : Nat} {a m j : Int} {p : Int → Int} (H : ∀ {o i j : Int} {q : lvS}, STs own sz im ct s0 n o i j → INQ s0 q → INQ s0 (stepF s0 n i q)) (hS : ∀ k, 0 ≤ k → k < m → STs own sz im ct s0 n (ct a k) (p k) (p (k + 1))) (hpm : p m = j) : ∀ (r : Nat) (k : Int) (fu : Nat) (q : lvS), k + r = m → 0 ≤ k → INQ s0 q → INQ s0 (seqF (stepF s0 n) s0 fu (p k) j q)
  | 0, k, fu, q, h1, h2, hq => by
    have : k = m := by omega
    subst this
    rw [hpm, seqF_end]; exact hq
  | r + 1, k, 0, q, h1, h2, hq => hq
  | r + 1, k, fu + 1, q, h1, h2, hq => by
    have hs := hS k h2 (by omega)
    have pu := p_up hS (r + 1) k h1 h2
    by_cases ov : q.2.2.2.2.2.1 = 0
    · rw [seqF_st (by omega) ov, hs.nx.2.1]
      exact seqF_in H hS hpm r (k + 1) fu _ (by omega) (by omega) (H hs hq)
    · rw [seqF_ov ov]; exact hq
theorem lopF_in {s0 : Int → Int} {f : lvS → lvS} (H : ∀ q, INQ s0 q → INQ s0 (f q)) : ∀ (t : Nat) (q : lvS), INQ s0 q → INQ s0 (lopF f t q)
  | 0, q, h => h
  | t + 1, q, h => by
    simp only [lopF]
    split
    · exact h
    · exact lopF_in H t _ (H q h)
theorem stepF_u {s0 : Int → Int} {n : Nat} {i : Int} {q : lvS} : stepF s0 (n + 1) i q = if q.2.2.1 = 100 then overQ q else if s0 (860 + 6 * i) = 18 then lopF (seqF (stepF s0 n) s0 60 (i + 1) (s0 (864 + 6 * i))) (s0 (861 + 6 * i)).toNat (incQ q) else if 1700 ≤ s0 (860 + 6 * i) then @ite _ (hldF q.1 (860 + 6 * i)) (Classical.propDecidable _) (seqF (stepF s0 n) s0 60 (i + 1) (s0 (864 + 6 * i)) (incQ q)) (incQ q) else actQ (incQ q) (860 + 6 * i) := by
  simp only [stepF]
theorem stepF_in {own : Int → Int} {sz : Int} {im : Int → aIm} {ct : Int → Int → Int} {s0 : Int → Int} : ∀ (n : Nat) {o i j : Int} {q : lvS}, STs own sz im ct s0 n o i j → INQ s0 q → INQ s0 (stepF s0 n i q)
  | 0, _, _, _, _, hS, _ => False.elim hS
  | n + 1, o, i, j, q, hS, hq => by
    rw [stepF_u]
    obtain ⟨g1, g2, g3, g4⟩ := hS
    by_cases hd : q.2.2.1 = 100
    · rw [if_pos hd]; exact ⟨hq.1.over, hq.2⟩
    · rw [if_neg hd]
      have hI : INQ s0 (incQ q) := ⟨hq.1.inc hd, hq.2⟩
      rcases g4 with ⟨b1, b2, b3, -⟩ | ⟨c1, c2, c3, c4, c5, cap, p, d1, d2, d3, d4, d5, d6, d7⟩
      · have hnk : s0 (860 + 6 * i) ≠ 18 ∧ s0 (860 + 6 * i) < 1700 := by
          rcases b3 with b | b | b | b | b | b | b <;> omega
        rw [if_neg hnk.1, if_neg (by omega)]
        have hrow := b3.row (s' := q.1) (hq.2.1 0 (Or.inl rfl)) (hq.2.1 1 (by omega)) (fun k k0 k1 => hq.2.2 k k0 k1) (fun z z0 z1 => hq.r (by omega))
        have a := LQ.act hI.1 hq.1 hrow
        exact ⟨a.1, hq.2.trans a.2⟩
      · have body : ∀ q2, INQ s0 q2 → INQ s0 (seqF (stepF s0 n) s0 60 (i + 1) (s0 (864 + 6 * i)) q2) := fun q2 h2 => by
          have := seqF_in (fun hs hq => stepF_in n hs hq) d7 d6 (ct o 1).toNat 0 60 q2 (by omega) (by omega) h2
          rw [d5] at this
          rw [c5]
          exact this
        rcases c1 with ⟨e1, e2, -⟩ | ⟨e1, -, -, -, -, e6⟩
        · rw [if_pos e2]
          exact lopF_in body _ _ hI
        · rw [if_neg (by omega), if_pos (by omega)]
          split
          · exact body _ hI
          · exact hI
theorem M_seq {c0 : Int → Int → Int} {own : Int → Int} {sz : Int} {im : Int → aIm} {cx : Int → Int → Int} {s0 : Int → Int} {Q : aPost} {d : Nat} {sd : Int} {n : Nat} {a m j i0 : Int} {p : Int → Int} (H : ∀ {o i j : Int} {q : lvS} {ct : Int → Int → Int}, STs own sz im cx s0 n o i j → j ≤ s0 10 → INQ s0 q → q.2.2.2.2.2.1 = 0 → MLV c0 ct q → (∀ ct2 : Int → Int → Int, (stepF s0 n i q).2.2.2.2.2.1 = 0 → MLV c0 ct2 (stepF s0 n i q) → (∀ u, u < i → ct2 11 u = ct 11 u) → PEL Q d sd j ct2) → (∀ ct2 : Int → Int → Int, (stepF s0 n i q).2.2.2.2.2.1 ≠ 0 → MLV c0 ct2 (stepF s0 n i q) → Q (.inl none) (gM ct2)) → HDL Q d sd i ct) (hS : ∀ k, 0 ≤ k → k < m → STs own sz im cx s0 n (cx a k) (p k) (p (k + 1))) (hpm : p m = j) (hT : j ≤ s0 10) (h60 : j ≤ 60) (hi0 : 0 ≤ i0) : ∀ (r : Nat) (k : Int) (fu : Nat) (q R : lvS) (ct : Int → Int → Int), k + r = m → 0 ≤ k → (fu : Int) + k = 60 → i0 + k ≤ p k → INQ s0 q → q.2.2.2.2.2.1 = 0 → MLV c0 ct q → seqF (stepF s0 n) s0 fu (p k) j q = R → (∀ ct2 : Int → Int → Int, (R).2.2.2.2.2.1 = 0 → MLV c0 ct2 (R) → (∀ u, u < i0 → ct2 11 u = ct 11 u) → PEL Q d sd j ct2) → (∀ ct2 : Int → Int → Int, (R).2.2.2.2.2.1 ≠ 0 → MLV c0 ct2 (R) → Q (.inl none) (gM ct2)) → PEL Q d sd (p k) ct
  | 0, k, fu, q, R, ct, h1, h2, h3, h4, hq, ov, hM, hR, K1, K2 => by
    have : k = m := by omega
    subst this
    rw [hpm, seqF_end] at hR
    subst hR
    rw [hpm]
    exact K1 ct ov hM (fun _ _ => rfl)
  | r + 1, k, fu, q, R, ct, h1, h2, h3, h4, hq, ov, hM, hR, K1, K2 => by
    have hs := hS k h2 (by omega)
    have pu := p_up hS (r + 1) k h1 h2
    obtain ⟨n1, n2, n3, n4, n5⟩ := hs.nx
    obtain ⟨fu, rfl⟩ : ∃ g, fu = g + 1 := ⟨fu - 1, by omega⟩
    rw [seqF_st (by omega) ov, n2] at hR
    have hn19 : s0 (860 + 6 * p k) ≠ 19 := by
      match n, hs with
      | n + 1, hs =>
        obtain ⟨-, -, -, g4⟩ := hs
        rcases g4 with ⟨-, -, b3, -⟩ | ⟨c1, -⟩
        · rcases b3 with b | b | b | b | b | b | b <;> omega
        · rcases c1 with ⟨-, e2, -⟩ | ⟨-, -, -, -, -, e6⟩ <;> omega
    have pu2 := p_up hS r (k + 1) (by omega) (by omega)
    refine PEL_1 hM.2.1 (by omega) (fun z => hn19 (by rw [hq.r (i := 860 + 6 * p k) (by omega)] at z; exact z.2)) ?_
    refine H hs (by omega) hq ov hM (fun ct2 ov2 hM2 hu2 => ?_) (fun ct2 ov2 hM2 => ?_)
    · exact M_seq H hS hpm hT h60 hi0 r (k + 1) fu _ R ct2 (by omega) (by omega) (by omega) (by omega) (stepF_in n hs hq) ov2 hM2 hR (fun ct3 e3 hM3 hu3 => K1 ct3 e3 hM3 (fun u hu => (hu3 u hu).trans (hu2 u (by omega)))) K2
    · rw [seqF_ov ov2] at hR
      subst hR
      exact K2 ct2 ov2 hM2
theorem M_loop {c0 : Int → Int → Int} {s0 : Int → Int} {Q : aPost} {d : Nat} {sd : Int} {f : lvS → lvS} {i c : Int} (HB : ∀ (q : lvS) (ct : Int → Int → Int), INQ s0 q → q.2.2.2.2.2.1 = 0 → MLV c0 ct q → (∀ ct2 : Int → Int → Int, (f q).2.2.2.2.2.1 = 0 → MLV c0 ct2 (f q) → (∀ u, u < (i + 1) → ct2 11 u = ct 11 u) → PEL Q d sd c ct2) → (∀ ct2 : Int → Int → Int, (f q).2.2.2.2.2.1 ≠ 0 → MLV c0 ct2 (f q) → Q (.inl none) (gM ct2)) → PEL Q d sd (i + 1) ct) (HI : ∀ q, INQ s0 q → INQ s0 (f q)) (hi : 0 ≤ i ∧ i < 60) (hc : i < c ∧ c < 60) (hcT : c < s0 10) (e18 : s0 (860 + 6 * i) = 18) (e19 : s0 (860 + 6 * c) = 19) (eo : s0 (864 + 6 * c) = i) : ∀ (r : Nat) (q R : lvS) (ct : Int → Int → Int), r ≤ 98 → ct 11 i = (r : Int) → INQ s0 q → q.2.2.2.2.2.1 = 0 → MLV c0 ct q → lopF f (r + 1) q = R → (∀ ct2 : Int → Int → Int, (R).2.2.2.2.2.1 = 0 → MLV c0 ct2 (R) → (∀ u, u < i → ct2 11 u = ct 11 u) → PEL Q d sd (c + 1) ct2) → (∀ ct2 : Int → Int → Int, (R).2.2.2.2.2.1 ≠ 0 → MLV c0 ct2 (R) → Q (.inl none) (gM ct2)) → PEL Q d sd (i + 1) ct
  | 0, q, R, ct, h98, hr, hq, ov, hM, hR, K1, K2 => by
    simp only [lopF] at hR
    rw [if_neg (by omega)] at hR
    subst hR
    refine HB q ct hq ov hM (fun ct2 ov2 hM2 hu2 => ?_) K2
    have hq2 := HI q hq
    refine PEL_3 (o := i) hM2.2.1 (by omega) (by rw [hq2.2.1 10 (by omega)]; exact hcT) (by rw [hq2.r (by omega)]; exact e19) (by rw [hq2.r (by omega)]; exact eo) (by omega) (Or.inr (by rw [hu2 i (by omega), hr]; omega)) (fun v => ?_)
    exact K1 _ ov2 hM2.rou (fun u hu => by rw [aup_n (by omega)]; exact hu2 u (by omega))
  | r + 1, q, R, ct, h98, hr, hq, ov, hM, hR, K1, K2 => by
    have e : lopF f (r + 1 + 1) q = lopF f (r + 1) (f q) := by
      rw [lopF, if_neg (by omega)]
    rw [e] at hR
    have hq2 := HI q hq
    refine HB q ct hq ov hM (fun ct2 ov2 hM2 hu2 => ?_) (fun ct2 ov2 hM2 => ?_)
    · refine PEL_2 (o := i) hM2.2.1 (by omega) (by rw [hq2.2.1 10 (by omega)]; exact hcT) (by rw [hq2.r (by omega)]; exact e19) (by rw [hq2.r (by omega)]; exact eo) (by omega) (by rw [hq2.r (by omega)]; exact e18) (by rw [hu2 i (by omega), hr]; omega) ?_
      exact M_loop HB HI hi hc hcT e18 e19 eo r (f q) R _ (by omega) (by rw [aup_s, hu2 i (by omega), hr]; omega) hq2 ov2 hM2.rou hR (fun ct3 e3 hM3 hu3 => K1 ct3 e3 hM3 (fun u hu => by rw [hu3 u hu, aup_n (by omega)]; exact hu2 u (by omega))) K2
    · rw [lopF_ov ov2] at hR
      subst hR
      exact K2 ct2 ov2 hM2
theorem M_go {c0 : Int → Int → Int} {own : Int → Int} {sz : Int} {im : Int → aIm} {cx : Int → Int → Int} {s0 : Int → Int} {Q : aPost} {d : Nat} {sd : Int} (hd : 9 ≤ d) : ∀ (n : Nat), ∀ {o i j : Int} {q : lvS} {ct : Int → Int → Int}, STs own sz im cx s0 n o i j → j ≤ s0 10 → INQ s0 q → q.2.2.2.2.2.1 = 0 → MLV c0 ct q → (∀ ct2 : Int → Int → Int, (stepF s0 n i q).2.2.2.2.2.1 = 0 → MLV c0 ct2 (stepF s0 n i q) → (∀ u, u < i → ct2 11 u = ct 11 u) → PEL Q d sd j ct2) → (∀ ct2 : Int → Int → Int, (stepF s0 n i q).2.2.2.2.2.1 ≠ 0 → MLV c0 ct2 (stepF s0 n i q) → Q (.inl none) (gM ct2)) → HDL Q d sd i ct
  | 0, _, _, _, _, _, hS, _, _, _, _, _, _ => False.elim hS
  | n + 1, o, i, j, q, ct, hS, hT, hq, ov, hM, K1, K2 => by
    rw [stepF_u] at K1 K2
    have hST := hS.nx
    obtain ⟨g1, g2, g3, g4⟩ := hS
    have eT := hq.2.1 10 (by omega)
    by_cases hd9 : q.2.2.1 = 100
    · rw [if_pos hd9] at K1 K2
      refine HDL_done hM (by omega) hd9 (K2 _ (by show (1 : Int) ≠ 0; decide) ?_)
      exact MLV.cg (hM.ran (i := 2) (v := 1)) rfl rfl rfl rfl rfl rfl
    · rw [if_neg hd9] at K1 K2
      have hI : INQ s0 (incQ q) := ⟨hq.1.inc hd9, hq.2⟩
      rcases g4 with ⟨b1, b2, b3, -⟩ | ⟨c1, c2, c3, c4, c5, cap, p, d1, d2, d3, d4, d5, d6, d7⟩
      · have hnk : s0 (860 + 6 * i) ≠ 18 ∧ s0 (860 + 6 * i) < 1700 := by
          rcases b3 with b | b | b | b | b | b | b <;> omega
        rw [if_neg hnk.1, if_neg (by omega)] at K1 K2
        have hrow := b3.row (s' := q.1) (hq.2.1 0 (Or.inl rfl)) (hq.2.1 1 (by omega)) (fun k k0 k1 => hq.2.2 k k0 k1) (fun z z0 z1 => hq.r (by omega))
        by_cases h20 : q.1 (860 + 6 * i) = 20
        · refine HDL_stop hM hq.1 (by omega) (by omega) hd9 h20 (K2 _ ?_ ?_)
          · unfold actQ; rw [if_pos (show (incQ q).1 (860 + 6 * i) = 20 from h20)]; show (1 : Int) ≠ 0; decide
          · unfold actQ
            rw [if_pos (show (incQ q).1 (860 + 6 * i) = 20 from h20)]
            exact MLV.cg (hM.num (i := 30) (v := q.2.2.1 + 1) (Or.inr rfl)) rfl rfl rfl rfl rfl rfl
        · have e0 : (actQ (incQ q) (860 + 6 * i)).2.2.2.2.2.1 = 0 := by
            unfold actQ
            rw [if_neg (show ¬ (incQ q).1 (860 + 6 * i) = 20 from h20)]
            exact ov
          refine HDL_act hM hq.1 (by omega) (by omega) hd9 hrow h20 (by omega) (fun ct2 hM2 hu2 => ?_)
          rw [← b2]
          exact K1 ct2 e0 hM2 (fun u _ => hu2 u)
      · have HB : ∀ (q2 : lvS) (ct : Int → Int → Int), INQ s0 q2 → q2.2.2.2.2.2.1 = 0 → MLV c0 ct q2 → (∀ ct2 : Int → Int → Int, (seqF (stepF s0 n) s0 60 (i + 1) (s0 (864 + 6 * i)) q2).2.2.2.2.2.1 = 0 → MLV c0 ct2 (seqF (stepF s0 n) s0 60 (i + 1) (s0 (864 + 6 * i)) q2) → (∀ u, u < (i + 1) → ct2 11 u = ct 11 u) → PEL Q d sd (j - 1) ct2) → (∀ ct2 : Int → Int → Int, (seqF (stepF s0 n) s0 60 (i + 1) (s0 (864 + 6 * i)) q2).2.2.2.2.2.1 ≠ 0 → MLV c0 ct2 (seqF (stepF s0 n) s0 60 (i + 1) (s0 (864 + 6 * i)) q2) → Q (.inl none) (gM ct2)) → PEL Q d sd (i + 1) ct := fun q2 ct2 hq2 ov2 hM2 L1 L2 => by
          have := M_seq (i0 := i + 1) (fun hs => M_go hd n hs) d7 d6 (by omega) (by omega) (by omega) (cx o 1).toNat 0 60 q2 _ ct2 (by omega) (by omega) (by decide) (by omega) hq2 ov2 hM2 rfl (by rw [d5, ← c5]; exact fun ct3 a b c => c5 ▸ L1 ct3 a b c) (by rw [d5, ← c5]; exact L2)
          rw [d5] at this
          exact this
        have HI : ∀ q2, INQ s0 q2 → INQ s0 (seqF (stepF s0 n) s0 60 (i + 1) (s0 (864 + 6 * i)) q2) := fun q2 h2 => by
          have := seqF_in (fun hs hq => stepF_in n hs hq) d7 d6 (cx o 1).toNat 0 60 q2 (by omega) (by omega) h2
          rw [d5] at this
          rw [c5]
          exact this
        have e1j : j - 1 + 1 = j := by omega
        rcases c1 with ⟨e1, e2, e3, e4, e5⟩ | ⟨e1, e2, e3, e4, e5, e6⟩
        · rw [if_pos e2] at K1 K2
          obtain ⟨t, et⟩ : ∃ t : Nat, (s0 (861 + 6 * i)).toNat = t + 1 := ⟨(s0 (861 + 6 * i)).toNat - 1, by omega⟩
          rw [et] at K1 K2
          refine HDL_loop hM hq.1 (by omega) (by omega) hd9 (by rw [hq.r (by omega)]; exact e2) (by rw [hq.r (by omega)]; omega) (by omega) (fun ct2 hM2 hu2 => ?_)
          rw [hq.r (by omega)] at hu2
          refine M_loop HB HI (by omega) (c := j - 1) (by omega) (by omega) e2 c3 c4 t (incQ q) _ ct2 (by omega) (by rw [hu2, if_pos rfl]; omega) hI ov hM2 rfl (fun ct3 a b c => ?_) K2
          rw [e1j]
          exact K1 ct3 a b (fun u hu => by rw [c u hu, hu2, if_neg (by omega)])
        · rw [if_neg (by omega), if_pos (by omega)] at K1 K2
          refine HDL_when hM hq.1 (by omega) (by omega) hd9 (by rw [hq.r (by omega)]; omega) (by rw [hq.r (by omega), hq.2.1 0 (Or.inl rfl)]; exact e3) (c := j - 1) (by rw [hq.r (by omega)]; exact c5) (by omega) (by omega) (fun hh ct2 hM2 hu2 => ?_) (fun hh ct2 hM2 hu2 => ?_)
          · rw [if_pos hh] at K1 K2
            refine HB (incQ q) ct2 hI ov hM2 (fun ct3 ov3 hM3 hu3 => ?_) K2
            have hq3 := HI (incQ q) hI
            refine PEL_3 (o := i) hM3.2.1 (by omega) (by rw [hq3.2.1 10 (by omega)]; omega) (by rw [hq3.r (by omega)]; exact c3) (by rw [hq3.r (by omega)]; exact c4) (by omega) (Or.inl (by rw [hq3.r (by omega)]; omega)) (fun v => ?_)
            rw [e1j]
            exact K1 _ ov3 hM3.rou (fun u hu => by rw [aup_n (by omega), hu3 u (by omega)]; exact hu2 u)
          · rw [if_neg hh] at K1 K2
            rw [e1j]
            exact K1 ct2 ov hM2 (fun u hu => hu2 u)
