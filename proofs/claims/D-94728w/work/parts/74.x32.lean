set_option maxRecDepth 100000
/-! join: the rows -/
def clK (s : Int → Int) (k : Int) : Int → Int := fun i => if 64 + 198 * k + 6 ≤ i ∧ i < 64 + 198 * k + 6 + 16 * s (64 + 198 * k) then 0 else s i
def jn1 (s : Int → Int) (a b : Int) : Int → Int := upA (upA s (64 + 198 * b + 1) (s (64 + 198 * b + 1) + s (64 + 198 * a + 1))) (64 + 198 * b + 2) (s (64 + 198 * b + 2) + s (64 + 198 * a + 2))
def jn2 (s : Int → Int) (a b t : Int) : Int → Int := upA (stK (jn1 s a b) (64 + 198 * b) t) 7 (w32 (s 7 + stL (jn1 s a b) (64 + 198 * b) t))
def jnQ (s : Int → Int) (a b : Int) : Int := if s (64 + 198 * b + 3) = -1 then s (64 + 198 * a + 3) else s (64 + 198 * b + 3)
def jnM (s : Int → Int) (a b t : Int) : Int → Int := upA (upA (upA (upA (clK (jn2 s a b t) a) (64 + 198 * b + 3) (jnQ s a b)) (64 + 198 * a + 3) (-1)) (64 + 198 * a + 1) 0) (64 + 198 * a + 2) 0
theorem PI.join {s : Int → Int} {a b t : Int} (h : PI s) (a0 : 0 ≤ a) (a1 : a < s 0) (b0 : 0 ≤ b) (b1 : b < s 0) (ne : a ≠ b) (ht : 0 ≤ t) : PI (jnM s a b t) := by
  have pa := h.2.2.1 a a0 a1
  have pb := h.2.2.1 b b0 b1
  have c0 := h.1
  have hq : -1 ≤ jnQ s a b ∧ jnQ s a b < s 1 := by
    obtain ⟨q1, q2, q3, q4, q5, q6, q7⟩ := pa
    obtain ⟨r1, r2, r3, r4, r5, r6, r7⟩ := pb
    unfold jnQ
    split <;> omega
  have h1 : PI (upA (upA (upA (upA (jn1 s a b) (64 + 198 * b + 3) (jnQ s a b)) (64 + 198 * a + 3) (-1)) (64 + 198 * a + 1) 0) (64 + 198 * a + 2) 0) := by
    unfold jn1
    refine h.two (k := a) (g := b) a0 a1 b0 b1 ne (fun i i1 i2 => ?_) ?_ ?_ ?_ ?_ ?_ ?_ ?_ ?_
    · repeat rw [upA_n (by omega)]
    all_goals (repeat (first | rw [upA_s] | rw [upA_n (by omega)]))
    all_goals (obtain ⟨q1, q2, q3, q4, q5, q6, q7⟩ := pa)
    all_goals (obtain ⟨r1, r2, r3, r4, r5, r6, r7⟩ := pb)
    all_goals omega
  have nb : jn1 s a b (64 + 198 * b) = s (64 + 198 * b) := by
    unfold jn1
    rw [upA_n (by omega), upA_n (by omega)]
  have na : jn2 s a b t (64 + 198 * a) = s (64 + 198 * a) := by
    unfold jn2
    rw [upA_n (by omega), stK_o (by rw [nb]; have := pb.1; omega) (by rw [nb]; have := pb.1; rcases (by omega : a < b ∨ b < a) with z | z <;> omega)]
    unfold jn1
    rw [upA_n (by omega), upA_n (by omega)]
  have pa1 := pa.1
  have pb1 := pb.1
  have lo : ∀ i, 0 ≤ i → i < 64 → (i < 4 ∨ 9 < i) → clK (jn2 s a b t) a i = jn1 s a b i := fun i i0 i1 i2 => by
    unfold clK
    rw [na, if_neg (by omega)]
    unfold jn2
    rw [upA_n (by omega), stK_o (by omega) (by omega)]
  have hd : ∀ k i, 0 ≤ k → 0 ≤ i → i < 6 → clK (jn2 s a b t) a (64 + 198 * k + i) = jn1 s a b (64 + 198 * k + i) := fun k i k0 i0 i1 => by
    unfold clK
    rw [na, if_neg (by rcases (by omega : k < a ∨ k = a ∨ a < k) with z | z | z <;> omega)]
    unfold jn2
    rw [upA_n (by omega), stK_o (by omega) (by rw [nb]; rcases (by omega : k < b ∨ k = b ∨ b < k) with z | z | z <;> omega)]
  have e0 : ∀ k, 0 ≤ k → upA (upA (upA (upA (jn1 s a b) (64 + 198 * b + 3) (jnQ s a b)) (64 + 198 * a + 3) (-1)) (64 + 198 * a + 1) 0) (64 + 198 * a + 2) 0 (64 + 198 * k) = s (64 + 198 * k) := fun k k0 => by
    unfold jn1
    repeat rw [upA_n (by omega)]
  have e00 : upA (upA (upA (upA (jn1 s a b) (64 + 198 * b + 3) (jnQ s a b)) (64 + 198 * a + 3) (-1)) (64 + 198 * a + 1) 0) (64 + 198 * a + 2) 0 0 = s 0 := by
    unfold jn1
    repeat rw [upA_n (by omega)]
  refine h1.flds (fun i i0 i1 i2 => ?_) (fun k i k0 k1 i0 i1 => ?_) (fun k k0 k1 i i0 i1 => ?_)
  · unfold jnM upA
    rw [lo i i0 i1 i2]
  · unfold jnM upA
    rw [hd k i k0 i0 i1]
  · rw [e0 k k0] at i1
    rw [e00] at k1
    have pk := h.2.2.1 k k0 k1
    have pk1 := pk.1
    show 0 ≤ jnM s a b t (64 + 198 * k + 6 + i) ∧ jnM s a b t (64 + 198 * k + 6 + i) ≤ 121
    have e : jnM s a b t (64 + 198 * k + 6 + i) = clK (jn2 s a b t) a (64 + 198 * k + 6 + i) := by
      unfold jnM
      rw [upA_n (by rcases (by omega : k < a ∨ k = a ∨ a < k) with z | z | z <;> omega), upA_n (by rcases (by omega : k < a ∨ k = a ∨ a < k) with z | z | z <;> omega), upA_n (by rcases (by omega : k < a ∨ k = a ∨ a < k) with z | z | z <;> omega), upA_n (by rcases (by omega : k < b ∨ k = b ∨ b < k) with z | z | z <;> omega)]
    rw [e]
    unfold clK
    split
    · omega
    · unfold jn2
      rw [upA_n (by omega)]
      have cs : ∀ j, 0 ≤ j → sh (64 + 198 * k) (jn1 s a b) j = sh (64 + 198 * k) s j ∨ 192 ≤ j := fun j j0 => by
        by_cases z : 192 ≤ j
        · exact Or.inr z
        · refine Or.inl ?_
          unfold sh jn1
          rw [upA_n (by rcases (by omega : k < b ∨ k = b ∨ b < k) with z | z | z <;> omega), upA_n (by rcases (by omega : k < b ∨ k = b ∨ b < k) with z | z | z <;> omega)]
      have rgk : rgF (s (64 + 198 * k)) (sh (64 + 198 * k) (jn1 s a b)) := fun j j0 j1 => by
        rcases cs j j0 with z | z
        · rw [z]; exact pk.2.1 j j0 j1
        · omega
      by_cases z : k = b
      · subst z
        have q := (stor_rg (n := jn1 s a k (64 + 198 * k)) (k := nF (jn1 s a k (64 + 198 * k))) (c := sh (64 + 198 * k) (jn1 s a k)) (l := t) (by unfold nF; omega) (by rw [nb]; exact rgk) ht).1 i i0 (by omega)
        have f := congrFun (stK_f (s := jn1 s a k) (h := 64 + 198 * k) (t := t)) i
        rw [← f] at q
        exact q
      · rw [stK_o (by omega) (by rw [nb]; rcases (by omega : k < b ∨ b < k) with y | y <;> omega)]
        exact rgk i i0 i1
