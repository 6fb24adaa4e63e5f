/-! drift: rounding in whole numbers from 0 on. Own work. -/
set_option maxRecDepth 100000
/-- whether r over q, on an odd or even floor, is rounded up -/
def Ub (q : Nat) (md : Int32) (r o : Nat) : Nat := if r = 0 then 0 else if md = 0 then (if q ≤ 2 * r then 1 else 0) else if md = 1 then (if q < 2 * r then 1 else if 2 * r = q then (if o = 0 then 0 else 1) else 0) else if md = 2 then 0 else if md = 3 then 1 else if md = 4 then 0 else 1
theorem Ub_le (q : Nat) (md : Int32) (r o : Nat) : Ub q md r o ≤ 1 := by
  unfold Ub
  repeat' split
  all_goals omega
theorem lN_I {n : Nat} (h : n < 2 ^ 62) : (lN n).toInt = (n : Int) := pn_lN (by omega)
theorem dr_times {q d : Nat} {md : Int32} (hq : 1 ≤ q) (hq2 : q ≤ 1000) (hd : d < 2 ^ 40) : fm_times (lN d) (lN q) md = lN (d / q + Ub q md (d % q) ((d / q) % 2)) := by
  have q0 : 0 < lN q := by rw [pn_lt, lN_I (by omega), pn_l0]; omega
  have eq : (lN q).toInt = (q : Int) := lN_I (by omega)
  have ed : (lN d).toInt = (d : Int) := lN_I (by omega)
  have ef : fm_floor (lN d) (lN q) = lN (d / q) := by
    rw [pn_eq, pn_floor q0, ed, eq, lN_I (by have := Nat.div_le_self d q; omega)]
    rfl
  have bd : bq (lN d) (2 ^ 40) := by unfold bq; rw [ed]; omega
  have er : (lN d - lN (d / q) * lN q).toInt = ((d % q : Nat) : Int) := by
    have := (pn_rest q0 bd (by decide) (by rw [eq]; omega)).1
    rw [ef, ed, eq] at this
    rw [this]; rfl
  have er2 : lN d - lN (d / q) * lN q = lN (d % q) := by
    rw [pn_eq, er, lN_I (by have := Nat.mod_lt d hq; omega)]
  have hm := Nat.mod_lt d hq
  have hdv := Nat.div_le_self d q
  have plus : lN (d / q) + 1 = lN (d / q + 1) := by
    rw [pn_eq, lN_I (by omega), pn_addI (A := 2 ^ 40) (B := 1) (by unfold bq; rw [lN_I (by omega), Int.natAbs_natCast]; omega) (show bq 1 1 from Nat.le_refl 1) (by decide), lN_I (by omega), pn_l1]
    omega
  have two : (2 * lN (d % q)).toInt = 2 * ((d % q : Nat) : Int) := by
    rw [pn_mulI (A := 2) (B := 1000) (show bq 2 2 from Nat.le_refl 2) (by unfold bq; rw [lN_I (by omega)]; omega) (by decide), lN_I (by omega)]
    rfl
  have z0 : lN (d % q) = 0 ↔ d % q = 0 := by rw [pn_eq, lN_I (by omega), pn_l0]; omega
  have c1 : lN q < 2 * lN (d % q) ↔ q < 2 * (d % q) := by rw [pn_lt, two, eq]; omega
  have c2 : 2 * lN (d % q) = lN q ↔ 2 * (d % q) = q := by rw [pn_eq, two, eq]; omega
  have c3 : 0 < lN d ↔ 0 < d := by rw [pn_lt, ed, pn_l0]; omega
  have c4 : lN (d / q) - lN (d / q) / 2 * 2 = 0 ↔ (d / q) % 2 = 0 := by
    have := (pl_div (a := lN (d / q)) (b := 2) (by decide)).2.2
    rw [pn_eq, this, lN_I (by omega), pn_l0, show (2 : Int64).toInt = 2 from rfl]
    have e : ((d / q : Nat) : Int).tdiv 2 = ((d / q / 2 : Nat) : Int) := by rw [Int.tdiv_eq_ediv_of_nonneg (Int.natCast_nonneg _)]; rfl
    rw [e]; omega
  unfold fm_times fm_rnd Ub
  rw [ef, er2]
  by_cases hz : d % q = 0
  · rw [if_pos (z0.mpr hz), if_pos hz]; rfl
  · have dp : 0 < d := by
      rcases Nat.eq_zero_or_pos d with h | h
      · rw [h, Nat.zero_mod] at hz; exact absurd rfl hz
      · exact h
    rw [if_neg (fun z => hz (z0.mp z)), if_neg hz]
    by_cases m0 : md = 0
    · rw [if_pos m0, if_pos m0]
      by_cases a : q < 2 * (d % q)
      · rw [if_pos (c1.mpr a), if_pos (by omega)]; exact plus
      · rw [if_neg (fun z => a (c1.mp z))]
        by_cases b : 2 * (d % q) = q
        · rw [if_pos (c2.mpr b), if_pos (c3.mpr dp), if_pos (by omega)]; exact plus
        · rw [if_neg (fun z => b (c2.mp z)), if_neg (by omega)]; rfl
    rw [if_neg m0, if_neg m0]
    by_cases m1 : md = 1
    · rw [if_pos m1, if_pos m1]
      by_cases a : q < 2 * (d % q)
      · rw [if_pos (c1.mpr a), if_pos a]; exact plus
      · rw [if_neg (fun z => a (c1.mp z)), if_neg a]
        by_cases b : 2 * (d % q) = q
        · rw [if_pos (c2.mpr b), if_pos b]
          by_cases e : (d / q) % 2 = 0
          · rw [if_pos (c4.mpr e), if_pos e]; rfl
          · rw [if_neg (fun z => e (c4.mp z)), if_neg e]; exact plus
        · rw [if_neg (fun z => b (c2.mp z)), if_neg b]; rfl
    rw [if_neg m1, if_neg m1]
    by_cases m2 : md = 2
    · rw [if_pos m2, if_pos m2, if_pos (c3.mpr dp)]; rfl
    rw [if_neg m2, if_neg m2]
    by_cases m3 : md = 3
    · rw [if_pos m3, if_pos m3, if_pos (c3.mpr dp)]; exact plus
    rw [if_neg m3, if_neg m3]
    by_cases m4 : md = 4
    · rw [if_pos m4, if_pos m4]; rfl
    · rw [if_neg m4, if_neg m4]; exact plus
theorem nI_64 {n : Nat} (h : n < 2 ^ 31) : (nI n).toInt64 = lN n := nI_l h
theorem dr_up {q r o : Nat} {md : Int32} (hq : 1 ≤ q) (hq2 : q ≤ 1000) (hr : r < q) (ho : o < 2) : fc_up (nI r) (nI q) (nI o) md = nI (Ub q md r o) := by
  have q0 : 0 < lN q := by rw [pn_lt, lN_I (by omega), pn_l0]; omega
  have oq : o * q ≤ 1 * q := Nat.mul_le_mul_right q (by omega)
  have e1 : lN o * lN q + lN r = lN (o * q + r) := by
    unfold lN
    rw [← Int64.ofNat_mul, ← Int64.ofNat_add]
  have dv : (o * q + r) / q = o := by
    rw [Nat.mul_comm, Nat.mul_add_div hq, Nat.div_eq_of_lt hr, Nat.add_zero]
  have md2 : (o * q + r) % q = r := by
    rw [Nat.mul_comm, Nat.mul_add_mod, Nat.mod_eq_of_lt hr]
  unfold fc_up
  rw [nI_64 (by omega), nI_64 (by omega), nI_64 (by omega), e1, law_whole q0, dr_times hq hq2 (by omega), dv, md2, Nat.mod_eq_of_lt ho]
  have ub := Ub_le q md r o
  have e2 : lN (o + Ub q md r o) - lN o = lN (Ub q md r o) := by
    rw [pn_eq, pn_subI (A := 2) (B := 1) (by unfold bq; rw [lN_I (by omega)]; omega) (by unfold bq; rw [lN_I (by omega)]; omega) (by decide), lN_I (by omega), lN_I (by omega), lN_I (by omega)]
    omega
  rw [e2]
  rcases (by omega : Ub q md r o = 0 ∨ Ub q md r o = 1) with h | h <;> rw [h] <;> rfl
