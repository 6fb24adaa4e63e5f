/-! numbers: bounds of longs, floors, common divisors. Own work. -/
set_option maxRecDepth 100000
/-- a long within -N .. N -/
def bq (x : Int64) (N : Nat) : Prop := x.toInt.natAbs ≤ N
theorem bq_mono {x : Int64} {A B : Nat} (h : bq x A) (h2 : A ≤ B) : bq x B := Nat.le_trans h h2
theorem pn_bmod {z : Int} (h : z.natAbs < 2 ^ 63) : z.bmod (2 ^ 64) = z := Int.bmod_eq_of_le (by omega) (by omega)
theorem pn_mulI {a b : Int64} {A B : Nat} (ha : bq a A) (hb : bq b B) (h : A * B < 2 ^ 63) : (a * b).toInt = a.toInt * b.toInt := by
  rw [Int64.toInt_mul]
  refine pn_bmod ?_
  rw [Int.natAbs_mul]
  exact Nat.lt_of_le_of_lt (Nat.mul_le_mul ha hb) h
theorem pn_mul {a b : Int64} {A B : Nat} (ha : bq a A) (hb : bq b B) (h : A * B < 2 ^ 63) : bq (a * b) (A * B) := by
  unfold bq
  rw [pn_mulI ha hb h, Int.natAbs_mul]
  exact Nat.mul_le_mul ha hb
theorem pn_addI {a b : Int64} {A B : Nat} (ha : bq a A) (hb : bq b B) (h : A + B < 2 ^ 63) : (a + b).toInt = a.toInt + b.toInt := by
  rw [Int64.toInt_add]
  refine pn_bmod ?_
  unfold bq at ha hb; omega
theorem pn_add {a b : Int64} {A B : Nat} (ha : bq a A) (hb : bq b B) (h : A + B < 2 ^ 63) : bq (a + b) (A + B) := by
  unfold bq
  rw [pn_addI ha hb h]
  unfold bq at ha hb; omega
theorem pn_subI {a b : Int64} {A B : Nat} (ha : bq a A) (hb : bq b B) (h : A + B < 2 ^ 63) : (a - b).toInt = a.toInt - b.toInt := by
  rw [Int64.toInt_sub]
  refine pn_bmod ?_
  unfold bq at ha hb; omega
theorem pn_sub {a b : Int64} {A B : Nat} (ha : bq a A) (hb : bq b B) (h : A + B < 2 ^ 63) : bq (a - b) (A + B) := by
  unfold bq
  rw [pn_subI ha hb h]
  unfold bq at ha hb; omega
theorem pn_negI {a : Int64} {A : Nat} (ha : bq a A) (h : A < 2 ^ 63) : (-a).toInt = -a.toInt := by
  rw [Int64.toInt_neg]
  refine pn_bmod ?_
  unfold bq at ha; omega
theorem pn_neg {a : Int64} {A : Nat} (ha : bq a A) (h : A < 2 ^ 63) : bq (-a) A := by
  unfold bq
  rw [pn_negI ha h]
  unfold bq at ha; omega
theorem pn_i {x : Int32} {A : Nat} (h : x.toInt.natAbs ≤ A) : bq x.toInt64 A := by
  unfold bq
  rw [Int32.toInt_toInt64]; exact h
theorem pn_le {a b : Int64} : a ≤ b ↔ a.toInt ≤ b.toInt := Int64.le_iff_toInt_le
theorem pn_lt {a b : Int64} : a < b ↔ a.toInt < b.toInt := Int64.lt_iff_toInt_lt
theorem pn_eq {a b : Int64} : a = b ↔ a.toInt = b.toInt := Int64.toInt_inj.symm
theorem pn_lo {x : Int64} {A : Nat} (h : bq x A) (hA : A < 2 ^ 63) : (-9223372036854775807 : Int64) ≤ x := by
  rw [pn_le, show (-9223372036854775807 : Int64).toInt = -9223372036854775807 from rfl]
  unfold bq at h; omega
theorem pn_l0 : (0 : Int64).toInt = 0 := rfl
theorem pn_l1 : (1 : Int64).toInt = 1 := rfl
/-- floors -/
theorem pn_floor {a b : Int64} (hb : 0 < b) : (fm_floor a b).toInt = a.toInt / b.toInt := by
  have hB : 0 < b.toInt := pn_lt.mp hb
  obtain ⟨e1, e2, e3⟩ := pl_div (a := a) hb
  have ha1 := Int64.toInt_lt a
  have ha2 := Int64.le_toInt a
  have hd := Int.tdiv_eq_ediv (a := a.toInt) (b := b.toInt)
  obtain ⟨p, n⟩ := pl_td (A := a.toInt) hB
  unfold fm_floor
  by_cases h : a / b * b ≤ a
  · rw [if_pos h, e1]
    rw [pn_le, e2] at h
    rcases Int.le_total 0 a.toInt with h0 | h0
    · exact Int.tdiv_eq_ediv_of_nonneg h0
    · have n2 := n h0
      have h3 : a.toInt.tdiv b.toInt * b.toInt = a.toInt := by omega
      exact (Int.ediv_eq_of_eq_mul_left (by omega) h3.symm).symm
  · rw [if_neg h]
    rw [pn_le, e2] at h
    have h0 : a.toInt < 0 := by
      apply Int.not_le.mp
      intro h1
      have := p h1
      omega
    have n2 := n (by omega)
    have h8 := Int.mul_le_mul_of_nonpos_left (a := a.toInt.tdiv b.toInt) (b := b.toInt) (c := 1) n2.2.2.2 (by omega)
    rw [Int64.toInt_sub, e1, pn_l1, Int.bmod_eq_of_le (by omega) (by omega)]
    have h5 := Int.tmod_add_mul_tdiv a.toInt b.toInt
    have h7 := Int.lt_tmod_of_pos a.toInt hB
    rw [Int.mul_comm b.toInt] at h5
    refine ((Int.ediv_emod_unique (r := a.toInt - (a.toInt.tdiv b.toInt - 1) * b.toInt) hB).mpr ⟨?_, ?_, ?_⟩).1.symm
    · rw [Int.mul_comm b.toInt]; omega
    · rw [Int.sub_mul]; omega
    · rw [Int.sub_mul]; omega
theorem pn_floorB {a b : Int64} {A : Nat} (hb : 0 < b) (ha : bq a A) : bq (fm_floor a b) A := by
  have hB : 0 < b.toInt := pn_lt.mp hb
  unfold bq at *
  rw [pn_floor hb]
  rcases Int.le_total 0 a.toInt with h | h
  · have h1 := Int.ediv_nonneg h (Int.le_of_lt hB)
    have h2 := Int.ediv_le_self b.toInt h
    omega
  · have h1 : a.toInt / b.toInt ≤ 0 := Int.ediv_nonpos_of_nonpos_of_neg h hB
    have h2 : a.toInt ≤ a.toInt / b.toInt := by
      rw [Int.le_ediv_iff_mul_le hB]
      have := Int.mul_le_mul_of_nonpos_left (a := a.toInt) (b := b.toInt) (c := 1) h (by omega)
      omega
    omega
/-- what is left of a number over its floor -/
theorem pn_rest {a b : Int64} {A : Nat} (hb : 0 < b) (ha : bq a A) (hA : 2 * A + 2 ^ 62 < 2 ^ 63) (hbb : b.toInt ≤ 2 ^ 62) : (a - fm_floor a b * b).toInt = a.toInt % b.toInt ∧ (fm_floor a b * b).toInt = a.toInt / b.toInt * b.toInt := by
  have hB : 0 < b.toInt := pn_lt.mp hb
  have h1 := Int.emod_nonneg a.toInt (Int.ne_of_gt hB)
  have h2 := Int.emod_lt_of_pos a.toInt hB
  have h3 := Int.mul_ediv_add_emod a.toInt b.toInt
  rw [Int.mul_comm] at h3
  unfold bq at ha
  have e : (fm_floor a b * b).toInt = a.toInt / b.toInt * b.toInt := by
    rw [Int64.toInt_mul, pn_floor hb, pn_bmod (by omega)]
  refine ⟨?_, e⟩
  rw [Int64.toInt_sub, e, pn_bmod (by omega)]
  omega
theorem pn_times {n d : Int64} {md : Int32} : fm_times n d md = fm_floor n d ∨ fm_times n d md = fm_floor n d + 1 := by
  unfold fm_times fm_rnd
  repeat' split
  all_goals first | exact Or.inl rfl | exact Or.inr rfl
theorem pn_timesB {a b : Int64} {md : Int32} {A : Nat} (hb : 0 < b) (ha : bq a A) (hA : A < 2 ^ 62) : bq (fm_times a b md) (A + 1) := by
  rcases pn_times (n := a) (d := b) (md := md) with h | h
  · rw [h]; exact bq_mono (pn_floorB hb ha) (by omega)
  · rw [h]; exact pn_add (pn_floorB hb ha) (show bq 1 1 from Nat.le_refl 1) (by omega)
/-- common divisors -/
theorem pn_g1 (n : Int64) : fm_g n 1 = 1 := by
  unfold fm_g
  rw [show fm_abs 1 = 1 from rfl, Nat.gcd_one_right]; rfl
theorem pn_div1 (n : Int64) : n / 1 = n := by
  rw [pn_eq, (pl_div (a := n) (b := 1) (by decide)).1, pn_l1, Int.tdiv_one]
theorem pn_lN {n : Nat} (h : n < 2 ^ 63) : (lN n).toInt = (n : Int) := by
  unfold lN
  rw [Int64.toInt_ofNat', pn_bmod (by omega)]
theorem pn_g {n d : Int64} (hd : 0 < d) : 0 < fm_g n d ∧ (fm_g n d).toInt = (Nat.gcd (fm_abs n) (fm_abs d) : Nat) ∧ (n / fm_g n d).toInt = n.toInt / (Nat.gcd (fm_abs n) (fm_abs d) : Nat) ∧ (d / fm_g n d).toInt = d.toInt / (Nat.gcd (fm_abs n) (fm_abs d) : Nat) ∧ 0 < d / fm_g n d ∧ Nat.gcd (fm_abs (n / fm_g n d)) (fm_abs (d / fm_g n d)) = 1 := by
  have hD : 0 < d.toInt := pn_lt.mp hd
  have hDl := Int64.toInt_lt d
  have g0 : 0 < Nat.gcd (fm_abs n) (fm_abs d) := Nat.gcd_pos_of_pos_right _ (by unfold fm_abs; omega)
  have gd := Nat.gcd_dvd_right (fm_abs n) (fm_abs d)
  have gn := Nat.gcd_dvd_left (fm_abs n) (fm_abs d)
  have gle : Nat.gcd (fm_abs n) (fm_abs d) ≤ fm_abs d := Nat.le_of_dvd (by unfold fm_abs; omega) gd
  have hco := Nat.gcd_div_gcd_div_gcd_of_pos_right (n := fm_abs n) (m := fm_abs d) (by unfold fm_abs; omega)
  have eg : (fm_g n d).toInt = (Nat.gcd (fm_abs n) (fm_abs d) : Nat) := pn_lN (by unfold fm_abs at gle; unfold fm_abs; omega)
  revert hco eg gn gd g0 gle
  generalize Nat.gcd (fm_abs n) (fm_abs d) = g
  intro g0 gd gn gle hco eg
  have hg : 0 < fm_g n d := pn_lt.mpr (by rw [eg, pn_l0]; omega)
  have e1 : (n / fm_g n d).toInt = n.toInt / (g : Int) := by
    rw [(pl_div (a := n) hg).1, eg]
    exact Int.tdiv_eq_ediv_of_dvd (Int.ofNat_dvd_left.mpr gn)
  have e2 : (d / fm_g n d).toInt = d.toInt / (g : Int) := by
    rw [(pl_div (a := d) hg).1, eg]
    exact Int.tdiv_eq_ediv_of_dvd (Int.ofNat_dvd_left.mpr gd)
  have hpos : 0 < d.toInt / (g : Int) := Int.ediv_pos_of_pos_of_dvd hD (by omega) (Int.ofNat_dvd_left.mpr gd)
  refine ⟨hg, eg, e1, e2, pn_lt.mpr (by rw [e2, pn_l0]; exact hpos), ?_⟩
  unfold fm_abs at *
  rw [e1, e2, Int.natAbs_ediv_of_dvd (Int.ofNat_dvd_left.mpr gn), Int.natAbs_ediv_of_dvd (Int.ofNat_dvd_left.mpr gd), Int.natAbs_natCast]
  exact hco
