set_option maxRecDepth 100000
/-! BeeYardModel reads: the steps of a season, one behind the other -/
theorem L_m_sl {cm0 : Int → Int → Int} {tp s N : Int → Int} {n k9 : Int} {Q : aPost} {d kc ks : Nat} {x3 : Option aV} (hd : 12 ≤ d) : ∀ (r : Nat) (t : ST) (cm : Int → Int → Int), n - t.1 < r → RM cm tp n t.1 → SN cm s N → SS cm t.2.1 t.2.2.1 t.2.2.2.1 t.2.2.2.2.1 t.2.2.2.2.2 → MF cm0 cm → (∀ (k pl : Int) (cm2 : Int → Int → Int), SEA tp n s N t = .inl (k, pl) → MB cm0 cm2 k pl → AW (mq Q) md_X7_season d kc ks 57 [some (vR 0), some (vI k9), some (vI 0), x3] [] (gM cm2)) → (∀ (t1 : ST) (cm2 : Int → Int → Int), SEA tp n s N t = SEA tp n s N t1 → tK tp n t1.1 = 0 → RM cm2 tp n t1.1 → MF cm0 cm2 → SN cm2 s N → SS cm2 t1.2.1 t1.2.2.1 t1.2.2.2.1 t1.2.2.2.2.1 t1.2.2.2.2.2 → AW (mq Q) md_X7_season d kc ks 57 [some (vR 0), some (vI k9), some (vI 1), x3] [] (gM cm2)) → AW (mq Q) md_X7_season d kc ks 38 [some (vR 0), some (vI k9), some (vI 1), x3] [] (gM cm) := by
  intro r
  induction r with
  | zero =>
    intro t cm h1 H
    have := H.2.1
    omega
  | succ r ih =>
    intro t cm h1 H hSN hSS hM hF K
    obtain ⟨p, R, m, dep, op, cnt⟩ := t
    dsimp only at h1 H hSS hF K
    have hP0 := hSN.2.2.2.1
    have hPq := hSN.2.2.2.2.2.2.1.1
    obtain ⟨hS9, hp, e13, e14, e12, e15, e15s⟩ := id H
    have hn := hS9.1
    have hF9 := tF_bd (tp := tp) hp.2
    have hE := tE_bd (tp := tp) hp.2
    have hK9 := tK_bd (tp := tp) (n := n) (p := p)
    have hk4 : (tK tp n p = 0 ∧ cm 0 12 = 0) ∨ (tK tp n p = 1 ∧ cm 0 12 = 2) ∨ (tK tp n p = 2 ∧ cm 0 12 = 3) ∨ (tK tp n p = 3 ∧ cm 0 12 = 4) ∨ (tK tp n p = 4 ∧ cm 0 12 = 1) := by
      rw [e12]
      rcases (by omega : tK tp n p = 0 ∨ tK tp n p = 1 ∨ tK tp n p = 2 ∨ tK tp n p = 3 ∨ tK tp n p = 4) with z | z | z | z | z <;> (rw [z]; decide)
    refine aw_iload_n dX7_season_38 rfl ?_
    refine aw_ifeq (tgt := 57) dX7_season_39 (by decide) (fun h39 => ?_) (fun h39 => ?_)
    · exfalso; omega
    · refine gm_117 rfl dX7_season_42 dX7_season_43 rfl ?_
      refine aw_ifeq (tgt := 57) dX7_season_46 (by decide) (fun h46 => ?_) (fun h46 => ?_)
      · exact K (p, R, m, dep, op, cnt) cm rfl (by show tK tp n p = 0; omega) H hM hSN hSS
      · have hk0 : ¬ tK tp n p = 0 := by omega
        refine aw_aload_n dX7_season_49 rfl ?_
        refine c_X7_238 rfl dX7_season_50 m_ob (Nat.le_of_ble_eq_true rfl) (by omega) (C_m_step (s := s) (N := N) H hSN hSS (fun k pl cm2 e9 hb => ?_) (fun t1 cm2 e9 H2 f2 S2 => ?_))
        · have eY : SEA tp n s N (p, R, m, dep, op, cnt) = .inl (k, pl) := SEA_l hk0 e9
          refine aK_i ?_
          refine aw_istore2 dX7_season_53 (by decide) rfl ?_
          refine aw_goto (tgt := 38) dX7_season_54 (by decide) ?_
          refine aw_iload_n dX7_season_38 rfl ?_
          refine aw_ifeq (tgt := 57) dX7_season_39 (by decide) (fun h39 => ?_) (fun h39 => ?_)
          · exact hF _ _ _ eY (hM.b hb)
          · exfalso; omega
        · have eY : SEA tp n s N (p, R, m, dep, op, cnt) = SEA tp n s N t1 := SEA_r hP0.1 hPq.1.1 hp.2 hk0 e9
          rw [eY] at hF K
          have hlt := (stepP_p (t := (p, R, m, dep, op, cnt)) hp.2 hP0.1 hPq.1.1 e9).1
          dsimp only at hlt
          refine aK_i ?_
          refine aw_istore2 dX7_season_53 (by decide) rfl ?_
          refine aw_goto (tgt := 38) dX7_season_54 (by decide) ?_
          exact ih t1 _ (by omega) H2 (hSN.mf f2) S2 (hM.trans f2) hF K
