set_option maxRecDepth 100000
/-! join: the numbers of the yard, and the order of the writes -/
theorem YR.spilt {own : Int → Int} {sz : Int} {im : Int → aIm} {ct : Int → Int → Int} {s N : Int → Int} {dd v : Int} (H : YR own 0 sz im ct 10 s dd N) : YR own 0 sz im (aup ct 10 6 v) 10 (upA s 7 v) dd N := by
  obtain ⟨-, -, -, -, -, ⟨b1, b2, b3, b4, b5, b6, b7, b8⟩, ⟨b9, b10⟩, -⟩ := id H
  refine H.scal (fun x j hx => by rw [aup_rn hx]) (fun i hi => by rw [upA_n (by omega)]) (by rw [upA_n (by omega)]) ⟨?_, ?_, ?_, ?_, ?_, ?_, ?_, ?_⟩ ⟨?_, fun z => ?_⟩
  · rw [aup_n (by omega), upA_n (by omega)]; exact b1
  · rw [aup_n (by omega)]; exact b2
  · rw [aup_n (by omega), upA_n (by omega)]; exact b3
  · rw [aup_n (by omega), upA_n (by omega)]; exact b4
  · rw [aup_s, upA_s]
  · rw [aup_n (by omega), upA_n (by omega)]; exact b6
  · rw [aup_n (by omega), upA_n (by omega)]; exact b7
  · rw [aup_n (by omega), upA_n (by omega)]; exact b8
  · rw [aup_n (by omega), upA_n (by omega)]; exact b9
  · rw [upA_n (by omega)] at z
    rw [aup_n (by omega), upA_n (by omega)]; exact b10 z
theorem upA_self {s : Int → Int} {i v : Int} (h : s i = v) : upA s i v = s := by
  funext j
  unfold upA
  split
  · rename_i z; rw [z]; exact h.symm
  · rfl
theorem jnX {r : Int → Int} {a b q : Int} (h12 : 1 ≤ r (64 + 198 * a) ∧ r (64 + 198 * a) ≤ 12) (ne : a ≠ b) : clK (upA (upA (upA (upA r (64 + 198 * b + 3) q) (64 + 198 * a + 3) (-1)) (64 + 198 * a + 1) 0) (64 + 198 * a + 2) 0) a = upA (upA (upA (upA (clK r a) (64 + 198 * b + 3) q) (64 + 198 * a + 3) (-1)) (64 + 198 * a + 1) 0) (64 + 198 * a + 2) 0 := by
  have e : upA (upA (upA (upA r (64 + 198 * b + 3) q) (64 + 198 * a + 3) (-1)) (64 + 198 * a + 1) 0) (64 + 198 * a + 2) 0 (64 + 198 * a) = r (64 + 198 * a) := by
    rw [upA_n (by omega), upA_n (by omega), upA_n (by omega), upA_n (by omega)]
  funext i
  unfold clK
  rw [e]
  by_cases z : 64 + 198 * a + 6 ≤ i ∧ i < 64 + 198 * a + 6 + 16 * r (64 + 198 * a)
  · rw [if_pos z, upA_n (by omega), upA_n (by omega), upA_n (by omega), upA_n (by rcases (by omega : a < b ∨ b < a) with y | y <;> omega), if_pos z]
  · rw [if_neg z]
    unfold upA
    dsimp only
    rw [if_neg z]
