set_option maxRecDepth 100000
/-! BeeYardModel reads: tokens -/
def mkk (k : Int) : Int := if k = 0 then 0 else if k = 1 then 2 else if k = 2 then 3 else if k = 3 then 4 else 1
def RMs (cm : Int → Int → Int) (tp : Int → Int) (n : Int) : Prop := (0 ≤ n ∧ n ≤ 900) ∧ cm 0 11 = n ∧ (∀ j, 0 ≤ j → j < n → cm 7 j = tp j ∧ -128 ≤ tp j ∧ tp j < 128) ∧ cm 0 18 = 0
def RM (cm : Int → Int → Int) (tp : Int → Int) (n p : Int) : Prop := RMs cm tp n ∧ (0 ≤ p ∧ p ≤ n) ∧ cm 0 13 = tF tp n p ∧ cm 0 14 = tE tp n p ∧ cm 0 12 = mkk (tK tp n p) ∧ (tK tp n p = 2 → cm 0 15 = tV tp n p) ∧ (tK tp n p = 3 → cm 0 15 = tp (tF tp n p))
/-- the token alone is another -/
def M0 (cm cm' : Int → Int → Int) : Prop := (∀ i, i < 12 ∨ 15 < i → cm' 0 i = cm 0 i) ∧ ∀ b, b ≠ 0 → cm' b = cm b
theorem M0.rf {cm : Int → Int → Int} : M0 cm cm := ⟨fun _ _ => rfl, fun _ _ => rfl⟩
theorem M0.trans {a b c : Int → Int → Int} (h : M0 a b) (k : M0 b c) : M0 a c := ⟨fun i hi => (k.1 i hi).trans (h.1 i hi), fun i hi => (k.2 i hi).trans (h.2 i hi)⟩
theorem M0.up {a b : Int → Int → Int} {i v : Int} (h : M0 a b) (hi : 12 ≤ i ∧ i ≤ 15) : M0 a (aup b 0 i v) := ⟨fun j hj => by rw [aup_n (by omega)]; exact h.1 j hj, fun x hx => by rw [aup_rn hx]; exact h.2 x hx⟩
theorem RMs.m0 {cm cm' : Int → Int → Int} {tp : Int → Int} {n : Int} (h : RMs cm tp n) (f : M0 cm cm') : RMs cm' tp n := ⟨h.1, by rw [f.1 11 (by decide)]; exact h.2.1, by rw [f.2 7 (by decide)]; exact h.2.2.1, by rw [f.1 18 (by decide)]; exact h.2.2.2⟩
/-- what is kept while a text is read -/
def MF (cm cm' : Int → Int → Int) : Prop := (∀ i, i < 11 ∨ i = 16 ∨ 24 < i ∨ ((i = 17 ∨ i = 18) ∧ cm' 0 18 = 0) → cm' 0 i = cm 0 i) ∧ (∀ b, b = 3 ∨ b = 4 ∨ b = 5 ∨ b = 6 ∨ b = 7 ∨ 10 ≤ b → cm' b = cm b) ∧ (∀ i, i < 4920 → cm' 1 i = cm 1 i) ∧ (∀ i, i < 80 → cm' 2 i = cm 2 i) ∧ (Fok cm → Fok cm')
theorem MF.rf {cm : Int → Int → Int} : MF cm cm := ⟨fun _ _ => rfl, fun _ _ => rfl, fun _ _ => rfl, fun _ _ => rfl, fun h => h⟩
theorem MF.trans {a b c : Int → Int → Int} (h : MF a b) (k : MF b c) : MF a c := ⟨fun i hi => by
  by_cases z : i < 11 ∨ i = 16 ∨ 24 < i
  · exact (k.1 i (by omega)).trans (h.1 i (by omega))
  · have e := k.1 18 (by omega)
    exact (k.1 i hi).trans (h.1 i (by omega)), fun i hi => (k.2.1 i hi).trans (h.2.1 i hi), fun i hi => (k.2.2.1 i hi).trans (h.2.2.1 i hi), fun i hi => (k.2.2.2.1 i hi).trans (h.2.2.2.1 i hi), fun f => k.2.2.2.2 (h.2.2.2.2 f)⟩
theorem M0.mf {a b : Int → Int → Int} (h : M0 a b) : MF a b := ⟨fun i hi => h.1 i (by omega), fun x hx => h.2 x (by omega), fun i _ => by rw [h.2 1 (by decide)], fun i _ => by rw [h.2 2 (by decide)], fun f => f.eq (h.1 24 (by decide)) (h.2 9 (by decide))⟩
theorem MF.up0 {a b : Int → Int → Int} {i v : Int} (h : MF a b) (hi : (11 ≤ i ∧ i ≤ 15) ∨ (19 ≤ i ∧ i ≤ 23)) : MF a (aup b 0 i v) := h.trans ⟨fun j hj => by rw [aup_n (by omega)], fun x hx => by rw [aup_rn (by omega)], fun j _ => by rw [aup_rn (by decide)], fun j _ => by rw [aup_rn (by decide)], fun f => f.eq (aup_n (by omega)) (aup_rn (by decide))⟩
theorem MF.up1 {a b : Int → Int → Int} {i v : Int} (h : MF a b) (hi : 4920 ≤ i) : MF a (aup b 1 i v) := h.trans ⟨fun j hj => by rw [aup_rn (by decide)], fun x hx => by rw [aup_rn (by omega)], fun j hj => by rw [aup_n (by omega)], fun j _ => by rw [aup_rn (by decide)], fun f => f.eq (by rw [aup_rn (by decide)]) (aup_rn (by decide))⟩
theorem MF.up2 {a b : Int → Int → Int} {i v : Int} (h : MF a b) (hi : 80 ≤ i) : MF a (aup b 2 i v) := h.trans ⟨fun j hj => by rw [aup_rn (by decide)], fun x hx => by rw [aup_rn (by omega)], fun j hj => by rw [aup_rn (by decide)], fun j hj => by rw [aup_n (by omega)], fun f => f.eq (by rw [aup_rn (by decide)]) (aup_rn (by decide))⟩
/-- a fault was noted -/
def MB (cm cm' : Int → Int → Int) (k pl : Int) : Prop := MF cm cm' ∧ cm' 0 18 = k ∧ cm' 0 17 = pl ∧ 1 ≤ k
theorem MF.b {a b c : Int → Int → Int} {k pl : Int} (h : MF a b) (g : MB b c k pl) : MB a c k pl := ⟨h.trans g.1, g.2⟩
theorem bt255 : ∀ i : Nat, i < 256 → iand32 ((i : Int) - 128) 255 = if (i : Int) - 128 < 0 then (i : Int) + 128 else (i : Int) - 128 := by decide +kernel
theorem bt_and {v : Int} (h : -128 ≤ v ∧ v < 128) : (0 ≤ v → iand32 v 255 = v) ∧ (v < 0 → iand32 v 255 = v + 256) := by
  obtain ⟨i, hi⟩ := Int.nat_of (show 0 ≤ v + 128 by omega)
  have := bt255 i (by omega)
  rw [show (i : Int) - 128 = v by omega] at this
  rw [this]
  refine ⟨fun z => if_neg (by omega), fun z => ?_⟩
  rw [if_pos z]; omega
def btR (tp : Int → Int) (n k v : Int) : Prop := (k < n ∧ 0 ≤ tp k ∧ v = tp k) ∨ (k < n ∧ (-128 ≤ tp k ∧ tp k < 0) ∧ v = tp k + 256) ∨ (n ≤ k ∧ v = -1)
theorem C_m_bt {cm : Int → Int → Int} {tp : Int → Int} {n : Int} {k : Int} {Q : aPost} (H : RMs cm tp n) (k0 : 0 ≤ k) (hQ : ∀ v, btR tp n k v → Q (.inl (some (vI v))) (gM cm)) : AMet md_X7_byteAt 1 0 0 [vR 0, vI k] (gM cm) Q := by
  refine AMet.go (L := [some (vR 0), some (vI k)]) mok_X7_byteAt (Nat.le_of_ble_eq_true rfl) rfl ?_
  obtain ⟨hn, h11, htp, hf⟩ := id H
  refine aw_iload_n dX7_byteAt_0 rfl ?_
  refine gm_102 rfl dX7_byteAt_1 dX7_byteAt_2 rfl ?_
  rw [h11]
  refine aw_icmpge (tgt := 21) dX7_byteAt_5 (by decide) (fun h5 => ?_) (fun h5 => ?_)
  · refine aw_iconst dX7_byteAt_21 (by decide) ?_
    refine aw_ireturn dX7_byteAt_22 rfl ?_
    first
      | exact hQ _ (Or.inr (Or.inr ⟨by omega, rfl⟩))
      | (have hb := htp k k0 (by omega)
         have ha := bt_and hb.2
         by_cases z : 0 ≤ tp k
         · rw [ha.1 z]; exact hQ _ (Or.inl ⟨by omega, z, rfl⟩)
         · rw [ha.2 (by omega)]; exact hQ _ (Or.inr (Or.inl ⟨by omega, by omega, rfl⟩)))
  · refine gm_34 rfl dX7_byteAt_8 dX7_byteAt_9 rfl ?_
    refine aw_iload_n dX7_byteAt_12 rfl ?_
    refine aw_baload dX7_byteAt_13 m_a7 (by omega) (by omega) ?_
    rw [(htp k k0 (by omega)).1]
    refine aw_sipush dX7_byteAt_14 (by decide) ?_
    refine aw_iand dX7_byteAt_17 ?_
    refine aw_goto (tgt := 22) dX7_byteAt_18 (by decide) ?_
    refine aw_ireturn dX7_byteAt_22 rfl ?_
    first
      | exact hQ _ (Or.inr (Or.inr ⟨by omega, rfl⟩))
      | (have hb := htp k k0 (by omega)
         have ha := bt_and hb.2
         by_cases z : 0 ≤ tp k
         · rw [ha.1 z]; exact hQ _ (Or.inl ⟨by omega, z, rfl⟩)
         · rw [ha.2 (by omega)]; exact hQ _ (Or.inr (Or.inl ⟨by omega, by omega, rfl⟩)))
theorem L_m_ah1 {cm : Int → Int → Int} {tp : Int → Int} {n : Int} {F : Int} {Q : aPost} {d kc ks : Nat} {x1 : Option aV} (hd : 2 ≤ d) (H : RMs cm tp n) (K : ∀ cm1 : Int → Int → Int, cm1 0 14 = F → M0 cm cm1 → (∀ i, i ≠ 14 → cm1 0 i = cm 0 i) → AW (mq Q) md_X7_ahead d kc ks 39 [some (vR 0), x1] [] (gM cm1)) : ∀ (r : Nat) (q : Int) (cm1 : Int → Int → Int), q + r = n → 0 ≤ q → cm1 0 14 = q → M0 cm cm1 → (∀ i, i ≠ 14 → cm1 0 i = cm 0 i) → ska wsp tp r q = F → AW (mq Q) md_X7_ahead d kc ks 0 [some (vR 0), x1] [] (gM cm1) := by
  have hn := H.1
  intro r
  induction r with
  | zero =>
    intro q cm1 h1 h2 e1 f1 e3 hF
    have hF : q = F := hF
    subst hF
    have hS1 := H.m0 f1
    refine aw_aload_n dX7_ahead_0 rfl ?_
    refine gm_105 rfl dX7_ahead_1 dX7_ahead_2 rfl ?_
    rw [e1]
    refine c_X7_108 rfl dX7_ahead_5 m_ob (Nat.le_of_ble_eq_true rfl) (by omega) (C_m_bt hS1 (by omega) (fun v hv => ?_))
    unfold btR at hv
    refine aK_i ?_
    refine aw_bipush dX7_ahead_8 (by decide) ?_
    refine aw_icmpeq (tgt := 26) dX7_ahead_10 (by decide) (fun h10 => ?_) (fun h10 => ?_)
    · exfalso; omega
    · refine aw_aload_n dX7_ahead_13 rfl ?_
      refine gm_105 rfl dX7_ahead_14 dX7_ahead_15 rfl ?_
      rw [e1]
      refine c_X7_108 rfl dX7_ahead_18 m_ob (Nat.le_of_ble_eq_true rfl) (by omega) (C_m_bt hS1 (by omega) (fun v hv => ?_))
      unfold btR at hv
      refine aK_i ?_
      refine aw_bipush dX7_ahead_21 (by decide) ?_
      refine aw_icmpne (tgt := 39) dX7_ahead_23 (by decide) (fun h23 => ?_) (fun h23 => ?_)
      · exact K cm1 e1 f1 e3
      · exfalso; omega
  | succ r ih =>
    intro q cm1 h1 h2 e1 f1 e3 hF
    have hS1 := H.m0 f1
    refine aw_aload_n dX7_ahead_0 rfl ?_
    refine gm_105 rfl dX7_ahead_1 dX7_ahead_2 rfl ?_
    rw [e1]
    refine c_X7_108 rfl dX7_ahead_5 m_ob (Nat.le_of_ble_eq_true rfl) (by omega) (C_m_bt hS1 (by omega) (fun v hv => ?_))
    unfold btR at hv
    refine aK_i ?_
    refine aw_bipush dX7_ahead_8 (by decide) ?_
    refine aw_icmpeq (tgt := 26) dX7_ahead_10 (by decide) (fun h10 => ?_) (fun h10 => ?_)
    · refine aw_aload_n dX7_ahead_26 rfl ?_
      refine aw_dup dX7_ahead_27 rfl ?_
      refine g_X7_105_7 rfl dX7_ahead_28 m_ob ?_
      rw [e1]
      refine aw_iconst dX7_ahead_31 (by decide) ?_
      refine aw_iaddr dX7_ahead_32 (by omega) ?_
      refine p_X7_105_7 rfl dX7_ahead_33 m_ob ?_
      refine aw_goto (tgt := 0) dX7_ahead_36 (by decide) ?_
      refine ih (q + 1) _ (by omega) (by omega) (by rw [aup_s]) (f1.up (by decide)) (fun i hi => by rw [aup_n (by omega)]; exact e3 i hi) ?_
      rw [← hF]
      exact (ska_y (by omega)).symm
    · refine aw_aload_n dX7_ahead_13 rfl ?_
      refine gm_105 rfl dX7_ahead_14 dX7_ahead_15 rfl ?_
      rw [e1]
      refine c_X7_108 rfl dX7_ahead_18 m_ob (Nat.le_of_ble_eq_true rfl) (by omega) (C_m_bt hS1 (by omega) (fun v hv => ?_))
      unfold btR at hv
      refine aK_i ?_
      refine aw_bipush dX7_ahead_21 (by decide) ?_
      refine aw_icmpne (tgt := 39) dX7_ahead_23 (by decide) (fun h23 => ?_) (fun h23 => ?_)
      · exact K cm1 (by rw [← hF, e1]; exact (ska_n (by omega)).symm) f1 e3
      · refine aw_aload_n dX7_ahead_26 rfl ?_
        refine aw_dup dX7_ahead_27 rfl ?_
        refine g_X7_105_7 rfl dX7_ahead_28 m_ob ?_
        rw [e1]
        refine aw_iconst dX7_ahead_31 (by decide) ?_
        refine aw_iaddr dX7_ahead_32 (by omega) ?_
        refine p_X7_105_7 rfl dX7_ahead_33 m_ob ?_
        refine aw_goto (tgt := 0) dX7_ahead_36 (by decide) ?_
        refine ih (q + 1) _ (by omega) (by omega) (by rw [aup_s]) (f1.up (by decide)) (fun i hi => by rw [aup_n (by omega)]; exact e3 i hi) ?_
        rw [← hF]
        exact (ska_y (by omega)).symm
theorem L_m_ah2 {cm : Int → Int → Int} {tp : Int → Int} {n : Int} {F : Int} {Q : aPost} {d kc ks : Nat} {x1 : Option aV} (hd : 2 ≤ d) (H : RMs cm tp n) (K : ∀ cm1 : Int → Int → Int, cm1 0 14 = F → M0 cm cm1 → (∀ i, i ≠ 14 → cm1 0 i = cm 0 i) → AW (mq Q) md_X7_ahead d kc ks 108 [some (vR 0), x1] [] (gM cm1)) : ∀ (r : Nat) (q : Int) (cm1 : Int → Int → Int), q + r = n → 0 ≤ q → cm1 0 14 = q → M0 cm cm1 → (∀ i, i ≠ 14 → cm1 0 i = cm 0 i) → ska ltr tp r q = F → AW (mq Q) md_X7_ahead d kc ks 81 [some (vR 0), x1] [] (gM cm1) := by
  have hn := H.1
  intro r
  induction r with
  | zero =>
    intro q cm1 h1 h2 e1 f1 e3 hF
    have hF : q = F := hF
    subst hF
    have hS1 := H.m0 f1
    refine aw_aload_n dX7_ahead_81 rfl ?_
    refine gm_105 rfl dX7_ahead_82 dX7_ahead_83 rfl ?_
    rw [e1]
    refine c_X7_108 rfl dX7_ahead_86 m_ob (Nat.le_of_ble_eq_true rfl) (by omega) (C_m_bt hS1 (by omega) (fun v hv => ?_))
    unfold btR at hv
    refine aK_i ?_
    refine c_X7_120 rfl dX7_ahead_89  (Nat.le_of_ble_eq_true rfl) (by omega) (C_m_isSmall (fun hl => ?_) (fun hl => ?_))
    · refine aK_i ?_
      refine aw_ifeq (tgt := 108) dX7_ahead_92 (by decide) (fun h => absurd h (by decide)) (fun _ => ?_)
      exfalso; omega
    · refine aK_i ?_
      refine aw_ifeq (tgt := 108) dX7_ahead_92 (by decide) (fun _ => ?_) (fun h => absurd h (by decide))
      exact K cm1 e1 f1 e3
  | succ r ih =>
    intro q cm1 h1 h2 e1 f1 e3 hF
    have hS1 := H.m0 f1
    refine aw_aload_n dX7_ahead_81 rfl ?_
    refine gm_105 rfl dX7_ahead_82 dX7_ahead_83 rfl ?_
    rw [e1]
    refine c_X7_108 rfl dX7_ahead_86 m_ob (Nat.le_of_ble_eq_true rfl) (by omega) (C_m_bt hS1 (by omega) (fun v hv => ?_))
    unfold btR at hv
    refine aK_i ?_
    refine c_X7_120 rfl dX7_ahead_89  (Nat.le_of_ble_eq_true rfl) (by omega) (C_m_isSmall (fun hl => ?_) (fun hl => ?_))
    · refine aK_i ?_
      refine aw_ifeq (tgt := 108) dX7_ahead_92 (by decide) (fun h => absurd h (by decide)) (fun _ => ?_)
      refine aw_aload_n dX7_ahead_95 rfl ?_
      refine aw_dup dX7_ahead_96 rfl ?_
      refine g_X7_105_7 rfl dX7_ahead_97 m_ob ?_
      rw [e1]
      refine aw_iconst dX7_ahead_100 (by decide) ?_
      refine aw_iaddr dX7_ahead_101 (by omega) ?_
      refine p_X7_105_7 rfl dX7_ahead_102 m_ob ?_
      refine aw_goto (tgt := 81) dX7_ahead_105 (by decide) ?_
      refine ih (q + 1) _ (by omega) (by omega) (by rw [aup_s]) (f1.up (by decide)) (fun i hi => by rw [aup_n (by omega)]; exact e3 i hi) ?_
      rw [← hF]
      exact (ska_y (by omega)).symm
    · refine aK_i ?_
      refine aw_ifeq (tgt := 108) dX7_ahead_92 (by decide) (fun _ => ?_) (fun h => absurd h (by decide))
      exact K cm1 (by rw [← hF, e1]; exact (ska_n (by omega)).symm) f1 e3
theorem L_m_ah3 {cm : Int → Int → Int} {tp : Int → Int} {n : Int} {F f : Int} {Q : aPost} {d kc ks : Nat} {x1 : Option aV} (hd : 2 ≤ d) (H : RMs cm tp n) (f0 : 0 ≤ f) (K : ∀ cm1 : Int → Int → Int, cm1 0 14 = F → (F - f ≤ 4 → cm1 0 15 = dV tp f (F - f).toNat) → M0 cm cm1 → (∀ i, i ≠ 14 → i ≠ 15 → cm1 0 i = cm 0 i) → AW (mq Q) md_X7_ahead d kc ks 183 [some (vR 0), x1] [] (gM cm1)) : ∀ (r : Nat) (q : Int) (cm1 : Int → Int → Int), q + r = n → f ≤ q → cm1 0 14 = q → (0 ≤ cm1 0 15 ∧ cm1 0 15 ≤ 100000) → (q - f ≤ 4 → cm1 0 15 = dV tp f (q - f).toNat) → (∀ j, f ≤ j → j < q → dgt (tp j)) → M0 cm cm1 → (∀ i, i ≠ 14 → i ≠ 15 → cm1 0 i = cm 0 i) → ska dgt tp r q = F → AW (mq Q) md_X7_ahead d kc ks 128 [some (vR 0), x1] [] (gM cm1) := by
  have hn := H.1
  intro r
  induction r with
  | zero =>
    intro q cm1 h1 h2 e1 hv0 e4 hg f1 e3 hF
    have hF : q = F := hF
    subst hF
    have hS1 := H.m0 f1
    refine aw_aload_n dX7_ahead_128 rfl ?_
    refine gm_105 rfl dX7_ahead_129 dX7_ahead_130 rfl ?_
    rw [e1]
    refine c_X7_108 rfl dX7_ahead_133 m_ob (Nat.le_of_ble_eq_true rfl) (by omega) (C_m_bt hS1 (by omega) (fun v hv => ?_))
    unfold btR at hv
    refine aK_i ?_
    refine c_X7_123 rfl dX7_ahead_136  (Nat.le_of_ble_eq_true rfl) (by omega) (C_m_isDigit (fun hl => ?_) (fun hl => ?_))
    · exfalso; omega
    · refine aK_i ?_
      refine aw_ifeq (tgt := 183) dX7_ahead_139 (by decide) (fun _ => ?_) (fun h => absurd h (by decide))
      exact K cm1 e1 e4 f1 e3
  | succ r ih =>
    intro q cm1 h1 h2 e1 hv0 e4 hg f1 e3 hF
    have hS1 := H.m0 f1
    refine aw_aload_n dX7_ahead_128 rfl ?_
    refine gm_105 rfl dX7_ahead_129 dX7_ahead_130 rfl ?_
    rw [e1]
    refine c_X7_108 rfl dX7_ahead_133 m_ob (Nat.le_of_ble_eq_true rfl) (by omega) (C_m_bt hS1 (by omega) (fun v hv => ?_))
    unfold btR at hv
    refine aK_i ?_
    refine c_X7_123 rfl dX7_ahead_136  (Nat.le_of_ble_eq_true rfl) (by omega) (C_m_isDigit (fun hl => ?_) (fun hl => ?_))
    · refine aK_i ?_
      refine aw_ifeq (tgt := 183) dX7_ahead_139 (by decide) (fun h => absurd h (by decide)) (fun _ => ?_)
      refine aw_aload_n dX7_ahead_142 rfl ?_
      refine aw_ldc (x := 100000) dX7_ahead_143 q1623 (by decide) ?_
      refine aw_bipush dX7_ahead_145 (by decide) ?_
      refine gm_114 rfl dX7_ahead_147 dX7_ahead_148 rfl ?_
      refine aw_imulr dX7_ahead_151 (by omega) ?_
      refine aw_aload_n dX7_ahead_152 rfl ?_
      refine gm_105 rfl dX7_ahead_153 dX7_ahead_154 rfl ?_
      rw [e1]
      refine c_X7_108 rfl dX7_ahead_157 m_ob (Nat.le_of_ble_eq_true rfl) (by omega) (C_m_bt hS1 (by omega) (fun u hu => ?_))
      unfold btR at hu
      refine aK_i ?_
      refine aw_iaddr dX7_ahead_160 (by omega) ?_
      refine aw_bipush dX7_ahead_161 (by decide) ?_
      refine aw_isubr dX7_ahead_163 (by omega) ?_
      refine aw_mmin dX7_ahead_164 q1624 q816 q137 q817 (Nat.le_of_ble_eq_true rfl) (by omega) ?_
      refine p_X7_114_7 rfl dX7_ahead_167 m_ob ?_
      refine aw_aload_n dX7_ahead_170 rfl ?_
      refine aw_dup dX7_ahead_171 rfl ?_
      refine g_X7_105_7 rfl dX7_ahead_172 m_ob ?_
      first
        | rw [e1]
        | rw [aup_n (by decide), e1]
      refine aw_iconst dX7_ahead_175 (by decide) ?_
      refine aw_iaddr dX7_ahead_176 (by omega) ?_
      refine p_X7_105_7 rfl dX7_ahead_177 m_ob ?_
      refine aw_goto (tgt := 128) dX7_ahead_180 (by decide) ?_
      have hl2 : dgt (tp q) := by omega
      refine ih (q + 1) _ (by omega) (by omega) (by rw [aup_s]) (by rw [aup_n (by decide), aup_s]; omega) (fun z => ?_) (fun j j0 j1 => ?_) ((f1.up (by decide)).up (by decide)) (fun i i4 i5 => by rw [aup_n (by omega), aup_n (by omega)]; exact e3 i i4 i5) ?_
      · have e5 := e4 (by omega)
        rw [aup_n (by decide), aup_s, e5]
        obtain ⟨k, ek⟩ : ∃ k : Nat, q - f = k := ⟨(q - f).toNat, by omega⟩
        have k1 : (q - f).toNat = k := by omega
        have k2 : (q + 1 - f).toNat = k + 1 := by omega
        have hb := dV_bd4 hg k (by omega) (by omega)
        rw [k1, k2]
        show _ = 10 * dV tp f k + tp (f + k) - 48
        rw [show f + (k : Int) = q by omega]
        omega
      · by_cases z : j = q
        · rw [z]; exact hl2
        · exact hg j j0 (by omega)
      · rw [← hF]
        exact (ska_y hl2).symm
    · refine aK_i ?_
      refine aw_ifeq (tgt := 183) dX7_ahead_139 (by decide) (fun _ => ?_) (fun h => absurd h (by decide))
      exact K cm1 (by rw [← hF, e1]; exact (ska_n (by omega)).symm) (fun z => by rw [show F = q by rw [← hF]; exact ska_n (by omega)] at z ⊢; exact e4 z) f1 e3
/-! BeeYardModel reads: the next token; words, names -/
theorem C_m_ahead {cm : Int → Int → Int} {tp : Int → Int} {n p : Int} {Q : aPost} (H : RMs cm tp n) (hp : 0 ≤ p ∧ p ≤ n) (ep : cm 0 14 = p) (hQ : ∀ cm1 : Int → Int → Int, RM cm1 tp n p → M0 cm cm1 → Q (.inl none) (gM cm1)) : AMet md_X7_ahead 2 0 0 [vR 0] (gM cm) Q := by
  refine AMet.go (L := [some (vR 0), none]) mok_X7_ahead (Nat.le_of_ble_eq_true rfl) rfl ?_
  have hn := H.1
  obtain ⟨F, eF⟩ : ∃ z, tF tp n p = z := ⟨_, rfl⟩
  have hF := tF_bd (tp := tp) hp.2
  rw [eF] at hF
  refine L_m_ah1 (F := F) (by omega) H (fun cm1 c14 f1 c0 => ?_) (n - p).toNat p cm (by omega) hp.1 ep M0.rf (fun _ _ => rfl) (by rw [← eF]; rfl)
  refine aw_aload_n dX7_ahead_39 rfl ?_
  refine gm_105 rfl dX7_ahead_40 dX7_ahead_41 rfl ?_
  rw [c14]
  refine p_X7_111_7 rfl dX7_ahead_44 m_ob ?_
  have hS1 := H.m0 f1
  obtain ⟨cm2, ec⟩ : ∃ z, aup cm1 0 13 F = z := ⟨_, rfl⟩
  have b14 : cm2 0 14 = F := by rw [← ec, aup_n (by decide)]; exact c14
  have b13 : cm2 0 13 = F := by rw [← ec, aup_s]
  have f2 : M0 cm cm2 := by rw [← ec]; exact f1.up (by decide)
  have hS2 := H.m0 f2
  rw [ec]
  refine aw_aload_n dX7_ahead_47 rfl ?_
  refine gm_105 rfl dX7_ahead_48 dX7_ahead_49 rfl ?_
  rw [b14]
  refine c_X7_108 rfl dX7_ahead_52 m_ob (Nat.le_of_ble_eq_true rfl) (by omega) (C_m_bt hS2 (by omega) (fun v hv => ?_))
  unfold btR at hv
  refine aK_i ?_
  refine aw_istore1 dX7_ahead_55 (by decide) rfl ?_
  refine aw_aload_n dX7_ahead_56 rfl ?_
  refine aw_iload_n dX7_ahead_57 rfl ?_
  refine p_X7_114_7 rfl dX7_ahead_58 m_ob ?_
  refine aw_iload_n dX7_ahead_61 rfl ?_
  refine aw_iconst dX7_ahead_62 (by decide) ?_
  refine aw_icmpne (tgt := 74) dX7_ahead_63 (by decide) (fun h63 => ?_) (fun h63 => ?_)
  · refine aw_iload_n dX7_ahead_74 rfl ?_
    refine c_X7_120 rfl dX7_ahead_75  (Nat.le_of_ble_eq_true rfl) (by omega) (C_m_isSmall (fun hl => ?_) (fun hl => ?_))
    · refine aK_i ?_
      refine aw_ifeq (tgt := 116) dX7_ahead_78 (by decide) (fun h => absurd h (by decide)) (fun _ => ?_)
      have hn0 : ¬ n ≤ tF tp n p := by rw [eF]; omega
      have hl' : ltr (tp (tF tp n p)) := by rw [eF]; omega
      have hK := tK_1 hn0 hl'
      refine L_m_ah2 (F := ska ltr tp (n - F).toNat F) (by omega) (H.m0 (f2.up (i := 15) (v := v) (by decide))) (fun cm3 c1 f3 c3 => ?_) (n - F).toNat F _ (by omega) (by omega) (by rw [aup_n (by decide)]; exact b14) M0.rf (fun _ _ => rfl) rfl
      refine aw_aload_n dX7_ahead_108 rfl ?_
      refine aw_iconst dX7_ahead_109 (by decide) ?_
      refine p_X7_117_7 rfl dX7_ahead_110 m_ob ?_
      refine aw_goto (tgt := 251) dX7_ahead_113 (by decide) ?_
      refine aw_ret dX7_ahead_251 rfl ?_
      exact hQ _ ⟨H.m0 (((f2.up (i := 15) (v := v) (by decide)).trans f3).up (by decide)), hp, by rw [aup_n (by decide), c3 13 (by decide), aup_n (by decide), b13, eF], by rw [aup_n (by decide), c1, tE_1 hn0 hl', eF], by rw [aup_s, hK]; rfl, fun z => by rw [hK] at z; omega, fun z => by rw [hK] at z; omega⟩ (((f2.up (i := 15) (v := v) (by decide)).trans f3).up (by decide))
    · refine aK_i ?_
      refine aw_ifeq (tgt := 116) dX7_ahead_78 (by decide) (fun _ => ?_) (fun h => absurd h (by decide))
      refine aw_iload_n dX7_ahead_116 rfl ?_
      refine c_X7_123 rfl dX7_ahead_117  (Nat.le_of_ble_eq_true rfl) (by omega) (C_m_isDigit (fun hg => ?_) (fun hg => ?_))
      · refine aK_i ?_
        refine aw_ifeq (tgt := 208) dX7_ahead_120 (by decide) (fun h => absurd h (by decide)) (fun _ => ?_)
        refine aw_aload_n dX7_ahead_123 rfl ?_
        refine aw_iconst dX7_ahead_124 (by decide) ?_
        refine p_X7_114_7 rfl dX7_ahead_125 m_ob ?_
        have hn0 : ¬ n ≤ tF tp n p := by rw [eF]; omega
        have hl' : ¬ ltr (tp (tF tp n p)) := by rw [eF]; omega
        have hd' : dgt (tp (tF tp n p)) := by rw [eF]; omega
        have hK := tK_2 hn0 hl' hd'
        have hE := tE_2 hn0 hl' hd'
        rw [eF] at hK hE
        obtain ⟨E, eE⟩ : ∃ z, ska dgt tp (n - F).toNat F = z := ⟨_, rfl⟩
        have hb9 := ska_bd (g := dgt) (tp := tp) (r := (n - F).toNat) (p := F)
        rw [eE] at hE hb9
        rw [hE] at hK
        have fv : M0 cm (aup (aup cm2 0 15 v) 0 15 0) := (f2.up (by decide)).up (by decide)
        refine L_m_ah3 (F := E) (f := F) (by omega) (H.m0 fv) (by omega) (fun cm3 c1 c4 f3 c3 => ?_) (n - F).toNat F _ (by omega) (by omega) (by rw [aup_n (by decide), aup_n (by decide)]; exact b14) (by rw [aup_s]; omega) (fun _ => by rw [aup_s, show (F - F).toNat = 0 by omega]; rfl) (fun j j0 j1 => by omega) M0.rf (fun _ _ _ => rfl) eE
        have d13 : cm3 0 13 = F := by rw [c3 13 (by decide) (by decide), aup_n (by decide), aup_n (by decide)]; exact b13
        refine aw_aload_n dX7_ahead_183 rfl ?_
        refine gm_105 rfl dX7_ahead_184 dX7_ahead_185 rfl ?_
        rw [c1]
        refine gm_111 rfl dX7_ahead_188 dX7_ahead_189 rfl ?_
        rw [d13]
        refine aw_isubr dX7_ahead_192 (by omega) ?_
        refine aw_iconst dX7_ahead_193 (by decide) ?_
        refine aw_icmple (tgt := 201) dX7_ahead_194 (by decide) (fun h194 => ?_) (fun h194 => ?_)
        · refine aw_iconst dX7_ahead_201 (by decide) ?_
          refine p_X7_117_7 rfl dX7_ahead_202 m_ob ?_
          refine aw_goto (tgt := 251) dX7_ahead_205 (by decide) ?_
          first
            | (rw [if_pos (by omega)] at hK
               refine aw_ret dX7_ahead_251 rfl ?_
               exact hQ _ ⟨H.m0 ((fv.trans f3).up (by decide)), hp, by rw [aup_n (by decide), d13, eF], by rw [aup_n (by decide), c1, hE], by rw [aup_s, hK]; rfl, fun z => by rw [hK] at z; omega, fun z => by rw [hK] at z; omega⟩ ((fv.trans f3).up (by decide)))
            | (rw [if_neg (by omega)] at hK
               refine aw_ret dX7_ahead_251 rfl ?_
               exact hQ _ ⟨H.m0 ((fv.trans f3).up (by decide)), hp, by rw [aup_n (by decide), d13, eF], by rw [aup_n (by decide), c1, hE], by rw [aup_s, hK]; rfl, fun _ => by rw [aup_n (by decide), c4 (by omega)]; unfold tV; rw [hE, eF], fun z => by rw [hK] at z; omega⟩ ((fv.trans f3).up (by decide)))
        · refine aw_iconst dX7_ahead_197 (by decide) ?_
          refine aw_goto (tgt := 202) dX7_ahead_198 (by decide) ?_
          refine p_X7_117_7 rfl dX7_ahead_202 m_ob ?_
          refine aw_goto (tgt := 251) dX7_ahead_205 (by decide) ?_
          first
            | (rw [if_pos (by omega)] at hK
               refine aw_ret dX7_ahead_251 rfl ?_
               exact hQ _ ⟨H.m0 ((fv.trans f3).up (by decide)), hp, by rw [aup_n (by decide), d13, eF], by rw [aup_n (by decide), c1, hE], by rw [aup_s, hK]; rfl, fun z => by rw [hK] at z; omega, fun z => by rw [hK] at z; omega⟩ ((fv.trans f3).up (by decide)))
            | (rw [if_neg (by omega)] at hK
               refine aw_ret dX7_ahead_251 rfl ?_
               exact hQ _ ⟨H.m0 ((fv.trans f3).up (by decide)), hp, by rw [aup_n (by decide), d13, eF], by rw [aup_n (by decide), c1, hE], by rw [aup_s, hK]; rfl, fun _ => by rw [aup_n (by decide), c4 (by omega)]; unfold tV; rw [hE, eF], fun z => by rw [hK] at z; omega⟩ ((fv.trans f3).up (by decide)))
      · refine aK_i ?_
        refine aw_ifeq (tgt := 208) dX7_ahead_120 (by decide) (fun _ => ?_) (fun h => absurd h (by decide))
        refine aw_aload_n dX7_ahead_208 rfl ?_
        refine aw_dup dX7_ahead_209 rfl ?_
        refine g_X7_105_7 rfl dX7_ahead_210 m_ob ?_
        rw [aup_n (by decide), b14]
        refine aw_iconst dX7_ahead_213 (by decide) ?_
        refine aw_iaddr dX7_ahead_214 (by omega) ?_
        refine p_X7_105_7 rfl dX7_ahead_215 m_ob ?_
        refine aw_aload_n dX7_ahead_218 rfl ?_
        refine aw_iload_n dX7_ahead_219 rfl ?_
        refine aw_bipush dX7_ahead_220 (by decide) ?_
        refine aw_icmpeq (tgt := 243) dX7_ahead_222 (by decide) (fun h222 => ?_) (fun h222 => ?_)
        · refine aw_iconst dX7_ahead_243 (by decide) ?_
          refine aw_goto (tgt := 248) dX7_ahead_244 (by decide) ?_
          have hn0 : ¬ n ≤ tF tp n p := by rw [eF]; omega
          have hl' : ¬ ltr (tp (tF tp n p)) := by rw [eF]; omega
          have hd' : ¬ dgt (tp (tF tp n p)) := by rw [eF]; omega
          have fv : M0 cm (aup (aup cm2 0 15 v) 0 14 (F + 1)) := (f2.up (by decide)).up (by decide)
          have hK := tK_3 hn0 hl' hd' (by rw [eF]; omega)
          refine p_X7_117_7 rfl dX7_ahead_248 m_ob ?_
          refine aw_ret dX7_ahead_251 rfl ?_
          exact hQ _ ⟨H.m0 (fv.up (by decide)), hp, by rw [aup_n (by decide), aup_n (by decide), aup_n (by decide), b13, eF], by rw [aup_n (by decide), aup_s, tE_3 hn0 hl' hd', eF], by rw [aup_s, hK]; rfl, fun z => by rw [hK] at z; omega, fun z => by rw [aup_n (by decide), aup_n (by decide), aup_s, eF]; omega⟩ (fv.up (by decide))
        · refine aw_iload_n dX7_ahead_225 rfl ?_
          refine aw_bipush dX7_ahead_226 (by decide) ?_
          refine aw_icmpeq (tgt := 243) dX7_ahead_228 (by decide) (fun h228 => ?_) (fun h228 => ?_)
          · refine aw_iconst dX7_ahead_243 (by decide) ?_
            refine aw_goto (tgt := 248) dX7_ahead_244 (by decide) ?_
            have hn0 : ¬ n ≤ tF tp n p := by rw [eF]; omega
            have hl' : ¬ ltr (tp (tF tp n p)) := by rw [eF]; omega
            have hd' : ¬ dgt (tp (tF tp n p)) := by rw [eF]; omega
            have fv : M0 cm (aup (aup cm2 0 15 v) 0 14 (F + 1)) := (f2.up (by decide)).up (by decide)
            have hK := tK_3 hn0 hl' hd' (by rw [eF]; omega)
            refine p_X7_117_7 rfl dX7_ahead_248 m_ob ?_
            refine aw_ret dX7_ahead_251 rfl ?_
            exact hQ _ ⟨H.m0 (fv.up (by decide)), hp, by rw [aup_n (by decide), aup_n (by decide), aup_n (by decide), b13, eF], by rw [aup_n (by decide), aup_s, tE_3 hn0 hl' hd', eF], by rw [aup_s, hK]; rfl, fun z => by rw [hK] at z; omega, fun z => by rw [aup_n (by decide), aup_n (by decide), aup_s, eF]; omega⟩ (fv.up (by decide))
          · refine aw_iload_n dX7_ahead_231 rfl ?_
            refine aw_bipush dX7_ahead_232 (by decide) ?_
            refine aw_icmpeq (tgt := 243) dX7_ahead_234 (by decide) (fun h234 => ?_) (fun h234 => ?_)
            · refine aw_iconst dX7_ahead_243 (by decide) ?_
              refine aw_goto (tgt := 248) dX7_ahead_244 (by decide) ?_
              have hn0 : ¬ n ≤ tF tp n p := by rw [eF]; omega
              have hl' : ¬ ltr (tp (tF tp n p)) := by rw [eF]; omega
              have hd' : ¬ dgt (tp (tF tp n p)) := by rw [eF]; omega
              have fv : M0 cm (aup (aup cm2 0 15 v) 0 14 (F + 1)) := (f2.up (by decide)).up (by decide)
              have hK := tK_3 hn0 hl' hd' (by rw [eF]; omega)
              refine p_X7_117_7 rfl dX7_ahead_248 m_ob ?_
              refine aw_ret dX7_ahead_251 rfl ?_
              exact hQ _ ⟨H.m0 (fv.up (by decide)), hp, by rw [aup_n (by decide), aup_n (by decide), aup_n (by decide), b13, eF], by rw [aup_n (by decide), aup_s, tE_3 hn0 hl' hd', eF], by rw [aup_s, hK]; rfl, fun z => by rw [hK] at z; omega, fun z => by rw [aup_n (by decide), aup_n (by decide), aup_s, eF]; omega⟩ (fv.up (by decide))
            · refine aw_iload_n dX7_ahead_237 rfl ?_
              refine aw_bipush dX7_ahead_238 (by decide) ?_
              refine aw_icmpne (tgt := 247) dX7_ahead_240 (by decide) (fun h240 => ?_) (fun h240 => ?_)
              · refine aw_iconst dX7_ahead_247 (by decide) ?_
                have hn0 : ¬ n ≤ tF tp n p := by rw [eF]; omega
                have hl' : ¬ ltr (tp (tF tp n p)) := by rw [eF]; omega
                have hd' : ¬ dgt (tp (tF tp n p)) := by rw [eF]; omega
                have fv : M0 cm (aup (aup cm2 0 15 v) 0 14 (F + 1)) := (f2.up (by decide)).up (by decide)
                have hK := tK_4 hn0 hl' hd' (by rw [eF]; omega)
                refine p_X7_117_7 rfl dX7_ahead_248 m_ob ?_
                refine aw_ret dX7_ahead_251 rfl ?_
                exact hQ _ ⟨H.m0 (fv.up (by decide)), hp, by rw [aup_n (by decide), aup_n (by decide), aup_n (by decide), b13, eF], by rw [aup_n (by decide), aup_s, tE_3 hn0 hl' hd', eF], by rw [aup_s, hK]; rfl, fun z => by rw [hK] at z; omega, fun z => by rw [hK] at z; omega⟩ (fv.up (by decide))
              · refine aw_iconst dX7_ahead_243 (by decide) ?_
                refine aw_goto (tgt := 248) dX7_ahead_244 (by decide) ?_
                have hn0 : ¬ n ≤ tF tp n p := by rw [eF]; omega
                have hl' : ¬ ltr (tp (tF tp n p)) := by rw [eF]; omega
                have hd' : ¬ dgt (tp (tF tp n p)) := by rw [eF]; omega
                have fv : M0 cm (aup (aup cm2 0 15 v) 0 14 (F + 1)) := (f2.up (by decide)).up (by decide)
                have hK := tK_3 hn0 hl' hd' (by rw [eF]; omega)
                refine p_X7_117_7 rfl dX7_ahead_248 m_ob ?_
                refine aw_ret dX7_ahead_251 rfl ?_
                exact hQ _ ⟨H.m0 (fv.up (by decide)), hp, by rw [aup_n (by decide), aup_n (by decide), aup_n (by decide), b13, eF], by rw [aup_n (by decide), aup_s, tE_3 hn0 hl' hd', eF], by rw [aup_s, hK]; rfl, fun z => by rw [hK] at z; omega, fun z => by rw [aup_n (by decide), aup_n (by decide), aup_s, eF]; omega⟩ (fv.up (by decide))
  · refine aw_aload_n dX7_ahead_66 rfl ?_
    refine aw_iconst dX7_ahead_67 (by decide) ?_
    refine p_X7_117_7 rfl dX7_ahead_68 m_ob ?_
    refine aw_goto (tgt := 251) dX7_ahead_71 (by decide) ?_
    have hK := tK_0 (tp := tp) (n := n) (p := p) (by omega)
    refine aw_ret dX7_ahead_251 rfl ?_
    exact hQ _ ⟨H.m0 ((f2.up (by decide)).up (by decide)), hp, by rw [aup_n (by decide), aup_n (by decide), b13, eF], by rw [aup_n (by decide), aup_n (by decide), b14, tE_0 (by omega), eF], by rw [aup_s, hK]; rfl, fun z => by rw [hK] at z; omega, fun z => by rw [hK] at z; omega⟩ ((f2.up (by decide)).up (by decide))
