/-! plain laws: programs, spans. Own work. -/
set_option maxRecDepth 100000
theorem law_isProgram {u m : sx_M} (h : sx_i u 7 = sx_i m 7) (hp : vp_in (sx_i m 7) 5) (p : Int32) : fc_isProgram u p = fm_isProgram m p := by
  unfold fc_isProgram fm_isProgram fm_in pj_b
  rw [h]
  obtain ⟨n, hn, e⟩ := vp_in_of hp (by decide)
  rw [e]
  have e0 : (0 : Int32).toInt = 0 := rfl
  have e1 : (1 : Int32).toInt = 1 := rfl
  have es : (nI n - 1).toInt = (n : Int) - 1 := by
    rw [Int32.toInt_sub, nI_toInt (by omega), e1]
    exact Int.bmod_eq_of_le (by omega) (by omega)
  by_cases h1 : p < 0
  · rw [if_pos h1, if_neg (fun q => by
      have := q.1
      rw [Int32.le_iff_toInt_le] at this
      rw [Int32.lt_iff_toInt_lt] at h1
      omega)]
  · rw [if_neg h1]
    rw [Int32.lt_iff_toInt_lt] at h1
    by_cases h2 : nI n ≤ p
    · rw [if_pos h2, if_neg (fun q => by
        have := q.2
        rw [Int32.le_iff_toInt_le, es] at this
        rw [Int32.le_iff_toInt_le, nI_toInt (by omega)] at h2
        omega)]
    · rw [if_neg h2]
      rw [Int32.le_iff_toInt_le, nI_toInt (by omega)] at h2
      rw [if_pos]
      constructor
      · rw [Int32.le_iff_toInt_le]; omega
      · rw [Int32.le_iff_toInt_le, es]; omega
theorem law_span (x y n : Int32) : fc_span x y n = fm_isSpan x y n := by
  unfold fc_span fm_isSpan
  simp only [law_within]
