/-! plain laws: rounding, fits. Own work. -/
set_option maxRecDepth 100000
theorem pl_par (f : Int64) : f &&& 1 = 0 ↔ f - f / 2 * 2 = 0 := by
  have e3 := (pl_div (a := f) (b := 2) (by decide)).2.2
  have e2 : (2 : Int64).toInt = 2 := rfl
  have e0 : (0 : Int64).toInt = 0 := rfl
  rw [e2] at e3
  have hr : f - f / 2 * 2 = 0 ↔ f.toInt % 2 = 0 := by
    constructor
    · intro h
      have := congrArg Int64.toInt h
      rw [e3, e0] at this
      omega
    · intro h
      apply Int64.toInt_inj.mp
      rw [e3, e0]
      have := Int.tdiv_mul_cancel (a := f.toInt) (b := 2) (Int.dvd_of_emod_eq_zero h)
      omega
  rw [hr]
  have hn : f.toInt % 2 = ((f.toBitVec.toNat % 2 : Nat) : Int) := by
    show f.toBitVec.toInt % 2 = _
    rw [BitVec.toInt_eq_toNat_cond]
    split <;> omega
  rw [hn]
  constructor
  · intro h
    have h2 := congrArg (fun x : Int64 => x.toBitVec.toNat) h
    simp only [Int64.toBitVec_and, BitVec.toNat_and] at h2
    have h3 : (1 : Int64).toBitVec.toNat = 1 := rfl
    have h4 : (0 : Int64).toBitVec.toNat = 0 := rfl
    rw [h3, h4, Nat.and_one_is_mod] at h2
    omega
  · intro h
    apply Int64.toBitVec_inj.mp
    apply BitVec.eq_of_toNat_eq
    simp only [Int64.toBitVec_and, BitVec.toNat_and]
    have h3 : (1 : Int64).toBitVec.toNat = 1 := rfl
    have h4 : (0 : Int64).toBitVec.toNat = 0 := rfl
    rw [h3, h4, Nat.and_one_is_mod]
    omega
theorem law_whole {n b : Int64} (hb : 0 < b) (md : Int32) : fc_whole n b md = fm_times n b md := by
  unfold fc_whole fm_times fm_rnd
  rw [law_floor hb]
  generalize fm_floor n b = f
  generalize n - f * b = r
  have hn : ∀ x y : Int64, y ≤ x ↔ ¬ x < y := fun x y => (Int64.not_lt).symm
  by_cases hr : r = 0
  · rw [if_pos hr, if_pos hr]
  · rw [if_neg hr, if_neg hr]
    have lt_irr : ∀ x : Int64, ¬ x < x := fun x => Int64.lt_irrefl
    by_cases h0 : md = 0
    · rw [if_pos h0, if_pos h0]
      by_cases e : 2 * r = b
      · rw [if_pos e, if_neg (show ¬ b < 2 * r by rw [e]; exact lt_irr b), if_pos e]
        by_cases hp : 0 < n
        · rw [if_neg (fun q => absurd (Int64.lt_of_lt_of_le hp q) (lt_irr 0)), if_pos hp]
        · rw [if_pos (Int64.not_lt.mp hp), if_neg hp]
      · rw [if_neg e]
        by_cases hl : b < 2 * r
        · rw [if_neg (fun q => absurd (Int64.lt_of_lt_of_le hl q) (lt_irr b)), if_pos hl]
        · rw [if_pos (Int64.not_lt.mp hl), if_neg hl, if_neg e]
    · rw [if_neg h0, if_neg h0]
      by_cases h1 : md = 1
      · rw [if_pos h1, if_pos h1]
        by_cases e : 2 * r = b
        · rw [if_pos e, if_neg (show ¬ b < 2 * r by rw [e]; exact lt_irr b), if_pos e]
          by_cases hp : f &&& 1 = 0
          · rw [if_pos hp, if_pos ((pl_par f).mp hp)]
          · rw [if_neg hp, if_neg (fun q => hp ((pl_par f).mpr q))]
        · rw [if_neg e]
          by_cases hl : b < 2 * r
          · rw [if_neg (fun q => absurd (Int64.lt_of_lt_of_le hl q) (lt_irr b)), if_pos hl]
          · rw [if_pos (Int64.not_lt.mp hl), if_neg hl, if_neg e]
      · rw [if_neg h1, if_neg h1]
        by_cases hp : 0 < n
        · simp only [if_neg (show ¬ n ≤ 0 from fun q => absurd (Int64.lt_of_lt_of_le hp q) (lt_irr 0)), if_pos hp]
        · simp only [if_pos (Int64.not_lt.mp hp), if_neg hp]
