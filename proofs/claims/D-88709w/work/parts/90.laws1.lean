/-! plain laws: rounding is the same in both classes. Own work. -/
set_option maxRecDepth 100000
theorem pl_td {A B : Int} (hB : 0 < B) : (0 ≤ A → 0 ≤ A.tdiv B * B ∧ A.tdiv B * B ≤ A ∧ 0 ≤ A.tdiv B ∧ A.tdiv B ≤ A) ∧ (A ≤ 0 → A ≤ A.tdiv B * B ∧ A.tdiv B * B ≤ 0 ∧ A ≤ A.tdiv B ∧ A.tdiv B ≤ 0) := by
  have h1 : ∀ A : Int, 0 ≤ A → 0 ≤ A.tdiv B * B ∧ A.tdiv B * B ≤ A ∧ 0 ≤ A.tdiv B ∧ A.tdiv B ≤ A := by
    intro A hA
    rw [Int.tdiv_eq_ediv_of_nonneg hA]
    have h2 : 0 ≤ A / B := Int.ediv_nonneg hA (by omega)
    have h3 : A / B * B ≤ A := Int.ediv_mul_le A (by omega)
    have h4 : A / B * 1 ≤ A / B * B := Int.mul_le_mul_of_nonneg_left (by omega) h2
    have h5 : 0 * B ≤ A / B * B := Int.mul_le_mul_of_nonneg_right h2 (by omega)
    omega
  refine ⟨h1 A, fun hA => ?_⟩
  have h2 := h1 (-A) (by omega)
  rw [Int.neg_tdiv] at h2
  have e : -(A.tdiv B) * B = -(A.tdiv B * B) := Int.neg_mul _ _
  rw [e] at h2
  omega
theorem pl_div {a b : Int64} (hb : 0 < b) : (a / b).toInt = a.toInt.tdiv b.toInt ∧ (a / b * b).toInt = a.toInt.tdiv b.toInt * b.toInt ∧ (a - a / b * b).toInt = a.toInt - a.toInt.tdiv b.toInt * b.toInt := by
  have hB : 0 < b.toInt := by
    rw [Int64.lt_iff_toInt_lt] at hb
    exact hb
  have ha1 := Int64.toInt_lt a
  have ha2 := Int64.le_toInt a
  have hb1 := Int64.toInt_lt b
  obtain ⟨p, n⟩ := pl_td (A := a.toInt) hB
  have e1 : (a / b).toInt = a.toInt.tdiv b.toInt := by
    rw [Int64.toInt_div]
    refine Int.bmod_eq_of_le ?_ ?_ <;> (rcases Int.le_total 0 a.toInt with h | h <;> first | (have := p h; omega) | (have := n h; omega))
  have e2 : (a / b * b).toInt = a.toInt.tdiv b.toInt * b.toInt := by
    rw [Int64.toInt_mul, e1]
    refine Int.bmod_eq_of_le ?_ ?_ <;> (rcases Int.le_total 0 a.toInt with h | h <;> first | (have := p h; omega) | (have := n h; omega))
  refine ⟨e1, e2, ?_⟩
  rw [Int64.toInt_sub, e2]
  refine Int.bmod_eq_of_le ?_ ?_ <;> (rcases Int.le_total 0 a.toInt with h | h <;> first | (have := p h; omega) | (have := n h; omega))
theorem law_floor {a b : Int64} (hb : 0 < b) : fc_floor a b = fm_floor a b := by
  obtain ⟨e1, e2, e3⟩ := pl_div (a := a) hb
  have h : (0 : Int64) ≤ a - a / b * b ↔ a / b * b ≤ a := by
    rw [Int64.le_iff_toInt_le, Int64.le_iff_toInt_le, e3, e2]
    have : (0 : Int64).toInt = 0 := rfl
    omega
  unfold fc_floor fm_floor
  by_cases hc : (0 : Int64) ≤ a - a / b * b
  · rw [if_pos hc, if_pos (h.mp hc)]
  · rw [if_neg hc, if_neg (fun q => hc (h.mpr q))]
theorem law_within (v lo hi : Int32) : fc_within v lo hi = fm_in v lo hi := by
  unfold fc_within fm_in pj_b
  by_cases h1 : v < lo
  · rw [if_pos h1, if_neg (fun q => absurd (Int32.lt_of_lt_of_le h1 q.1) (by simp))]
  · rw [if_neg h1]
    by_cases h2 : hi < v
    · rw [if_pos h2, if_neg (fun q => absurd (Int32.lt_of_lt_of_le h2 q.2) (by simp))]
    · rw [if_neg h2, if_pos ⟨Int32.not_lt.mp h1, Int32.not_lt.mp h2⟩]
