/-! PennyJudgeModel: its plain functions (by tools/gen_m1.py) -/
set_option maxRecDepth 100000
def fm_in (v lo hi : Int32) : Int32 := pj_b (lo ≤ v ∧ v ≤ hi)
theorem c_X4_in {G : pj_G} {d : Nat} {h : pj_H} (v lo hi : Int32)  : pj_Rt G mX4_in (d) [.int v, .int lo, .int hi] h 0 0 (some (.int (fm_in v lo hi))) h := by
  refine pj_Cn.start ?_
  refine pj_J.go (oX4_in G) 3 rfl trivial ?_
  refine pj_J.ite (fun hc2 => ?_) (fun hc2 => ?_)
  · skip
    refine pj_J.go (oX4_in G) 1 rfl trivial ?_
    refine pj_zret dX4_in_15 rfl (by first | exact Or.inl rfl | exact Or.inr rfl | exact pj_b01 _) ⟨congrArg (fun x => Sum.inl (some (Value.int x))) (Eq.symm ?_), rfl⟩
    first
      | exact pj_b_f (by simp only [Int32.lt_iff_toInt_lt, Int32.le_iff_toInt_le, Int64.lt_iff_toInt_lt, Int64.le_iff_toInt_le] at *; omega)
      | exact pj_b_t (by simp only [Int32.lt_iff_toInt_lt, Int32.le_iff_toInt_le, Int64.lt_iff_toInt_lt, Int64.le_iff_toInt_le] at *; omega)
  · skip
    refine pj_J.go (oX4_in G) 3 rfl trivial ?_
    refine pj_J.ite (fun hc7 => ?_) (fun hc7 => ?_)
    · skip
      refine pj_J.go (oX4_in G) 1 rfl trivial ?_
      refine pj_zret dX4_in_15 rfl (by first | exact Or.inl rfl | exact Or.inr rfl | exact pj_b01 _) ⟨congrArg (fun x => Sum.inl (some (Value.int x))) (Eq.symm ?_), rfl⟩
      first
        | exact pj_b_f (by simp only [Int32.lt_iff_toInt_lt, Int32.le_iff_toInt_le, Int64.lt_iff_toInt_lt, Int64.le_iff_toInt_le] at *; omega)
        | exact pj_b_t (by simp only [Int32.lt_iff_toInt_lt, Int32.le_iff_toInt_le, Int64.lt_iff_toInt_lt, Int64.le_iff_toInt_le] at *; omega)
    · skip
      refine pj_J.go (oX4_in G) 2 rfl trivial ?_
      refine pj_zret dX4_in_15 rfl (by first | exact Or.inl rfl | exact Or.inr rfl | exact pj_b01 _) ⟨congrArg (fun x => Sum.inl (some (Value.int x))) (Eq.symm ?_), rfl⟩
      first
        | exact pj_b_f (by simp only [Int32.lt_iff_toInt_lt, Int32.le_iff_toInt_le, Int64.lt_iff_toInt_lt, Int64.le_iff_toInt_le] at *; omega)
        | exact pj_b_t (by simp only [Int32.lt_iff_toInt_lt, Int32.le_iff_toInt_le, Int64.lt_iff_toInt_lt, Int64.le_iff_toInt_le] at *; omega)
def fm_isLine (v : Int64) : Int32 := pj_b (-1000000 ≤ v ∧ v ≤ 1000000)
theorem c_X4_isLine {G : pj_G} {d : Nat} {h : pj_H} (v : Int64)  : pj_Rt G mX4_isLine (d) [.long v] h 0 0 (some (.int (fm_isLine v))) h := by
  refine pj_Cn.start ?_
  refine pj_J.go (oX4_isLine G) 4 rfl trivial ?_
  refine pj_J.ite (fun hc5 => ?_) (fun hc5 => ?_)
  · simp only [pj_lc_lt] at hc5
    refine pj_J.go (oX4_isLine G) 1 rfl trivial ?_
    refine pj_zret dX4_isLine_21 rfl (by first | exact Or.inl rfl | exact Or.inr rfl | exact pj_b01 _) ⟨congrArg (fun x => Sum.inl (some (Value.int x))) (Eq.symm ?_), rfl⟩
    first
      | exact pj_b_f (by simp only [Int32.lt_iff_toInt_lt, Int32.le_iff_toInt_le, Int64.lt_iff_toInt_lt, Int64.le_iff_toInt_le] at *; omega)
      | exact pj_b_t (by simp only [Int32.lt_iff_toInt_lt, Int32.le_iff_toInt_le, Int64.lt_iff_toInt_lt, Int64.le_iff_toInt_le] at *; omega)
  · simp only [pj_lc_lt] at hc5
    refine pj_J.go (oX4_isLine G) 4 rfl trivial ?_
    refine pj_J.ite (fun hc13 => ?_) (fun hc13 => ?_)
    · simp only [pj_lc_gt] at hc13
      refine pj_J.go (oX4_isLine G) 1 rfl trivial ?_
      refine pj_zret dX4_isLine_21 rfl (by first | exact Or.inl rfl | exact Or.inr rfl | exact pj_b01 _) ⟨congrArg (fun x => Sum.inl (some (Value.int x))) (Eq.symm ?_), rfl⟩
      first
        | exact pj_b_f (by simp only [Int32.lt_iff_toInt_lt, Int32.le_iff_toInt_le, Int64.lt_iff_toInt_lt, Int64.le_iff_toInt_le] at *; omega)
        | exact pj_b_t (by simp only [Int32.lt_iff_toInt_lt, Int32.le_iff_toInt_le, Int64.lt_iff_toInt_lt, Int64.le_iff_toInt_le] at *; omega)
    · simp only [pj_lc_gt] at hc13
      refine pj_J.go (oX4_isLine G) 2 rfl trivial ?_
      refine pj_zret dX4_isLine_21 rfl (by first | exact Or.inl rfl | exact Or.inr rfl | exact pj_b01 _) ⟨congrArg (fun x => Sum.inl (some (Value.int x))) (Eq.symm ?_), rfl⟩
      first
        | exact pj_b_f (by simp only [Int32.lt_iff_toInt_lt, Int32.le_iff_toInt_le, Int64.lt_iff_toInt_lt, Int64.le_iff_toInt_le] at *; omega)
        | exact pj_b_t (by simp only [Int32.lt_iff_toInt_lt, Int32.le_iff_toInt_le, Int64.lt_iff_toInt_lt, Int64.le_iff_toInt_le] at *; omega)
def fm_floor (a b : Int64) : Int64 := if a / b * b ≤ a then a / b else a / b - 1
theorem c_X4_floor {G : pj_G} {d : Nat} {h : pj_H} (a b : Int64) (hb : ¬ b = 0) : pj_Rt G mX4_floor (d) [.long a, .long b] h 0 0 (some (.long (fm_floor a b))) h := by
  refine pj_Cn.start ?_
  refine pj_J.go (oX4_floor G) 10 rfl ⟨by exact hb, trivial⟩ ?_
  refine pj_J.ite (fun hc11 => ?_) (fun hc11 => ?_)
  · simp only [pj_lc_le] at hc11
    refine pj_J.go (oX4_floor G) 1 rfl trivial ?_
    refine pj_lret dX4_floor_23 rfl ⟨?_, rfl⟩
    simp [fm_floor, *]
  · simp only [pj_lc_le] at hc11
    refine pj_J.go (oX4_floor G) 4 rfl trivial ?_
    refine pj_lret dX4_floor_23 rfl ⟨?_, rfl⟩
    simp [fm_floor, *]
/-- the place of a rest: f is the floor, r the rest, by the mode -/
def fm_rnd (n d f r : Int64) (mode : Int32) : Int64 :=
  if r = 0 then f else if mode = 0 then (if d < 2 * r then f + 1 else if 2 * r = d then (if 0 < n then f + 1 else f) else f)
  else if mode = 1 then (if d < 2 * r then f + 1 else if 2 * r = d then (if f - f / 2 * 2 = 0 then f else f + 1) else f)
  else if mode = 2 then (if 0 < n then f else f + 1) else if mode = 3 then (if 0 < n then f + 1 else f) else if mode = 4 then f else f + 1
def fm_times (n d : Int64) (mode : Int32) : Int64 := fm_rnd n d (fm_floor n d) (n - fm_floor n d * d) mode
theorem c_X4_times {G : pj_G} {d : Nat} {h : pj_H} (n b : Int64) (mode : Int32) (hb : ¬ b = 0) : pj_Rt G mX4_times (d + 1) [.long n, .long b, .int mode] h 0 0 (some (.long (fm_times n b mode))) h := by
  refine pj_Cn.start ?_
  refine pj_J.go (oX4_times G) 2 rfl trivial ?_
  refine pj_J.cal0 kX4_times_2 (c_X4_floor n b hb) trivial pj_le0 pj_le0 pj_le0 ?_
  refine pj_J.go (oX4_times G) 11 rfl trivial ?_
  refine pj_J.ite (fun hc19 => ?_) (fun hc19 => ?_)
  · simp only [pj_lc_eq] at hc19
    refine pj_J.go (oX4_times G) 1 rfl trivial ?_
    refine pj_lret dX4_times_24 rfl ⟨?_, rfl⟩
    simp_all [fm_times, fm_rnd]
  · simp only [pj_lc_eq] at hc19
    refine pj_J.go (oX4_times G) 2 rfl trivial ?_
    refine pj_J.swc (fun hs0 => ?_) (fun hs0 => ?_)
    · skip
      refine pj_J.go (oX4_times G) 6 rfl trivial ?_
      refine pj_J.ite (fun hc68 => ?_) (fun hc68 => ?_)
      · simp only [pj_lc_gt] at hc68
        refine pj_J.go (oX4_times G) 4 rfl trivial ?_
        refine pj_lret dX4_times_97 rfl ⟨?_, rfl⟩
        simp_all [fm_times, fm_rnd]
      · simp only [pj_lc_gt] at hc68
        refine pj_J.go (oX4_times G) 6 rfl trivial ?_
        refine pj_J.ite (fun hc79 => ?_) (fun hc79 => ?_)
        · simp only [pj_lc_eq] at hc79
          refine pj_J.go (oX4_times G) 4 rfl trivial ?_
          refine pj_J.ite (fun hc85 => ?_) (fun hc85 => ?_)
          · simp only [pj_lc_le] at hc85
            refine pj_J.go (oX4_times G) 1 rfl trivial ?_
            refine pj_lret dX4_times_97 rfl ⟨?_, rfl⟩
            simp_all [fm_times, fm_rnd]
          · simp only [pj_lc_le] at hc85
            refine pj_J.go (oX4_times G) 4 rfl trivial ?_
            refine pj_lret dX4_times_97 rfl ⟨?_, rfl⟩
            simp_all [fm_times, fm_rnd]
        · simp only [pj_lc_eq] at hc79
          refine pj_J.go (oX4_times G) 1 rfl trivial ?_
          refine pj_lret dX4_times_97 rfl ⟨?_, rfl⟩
          simp_all [fm_times, fm_rnd]
    refine pj_J.swc (fun hs1 => ?_) (fun hs1 => ?_)
    · skip
      refine pj_J.go (oX4_times G) 6 rfl trivial ?_
      refine pj_J.ite (fun hc106 => ?_) (fun hc106 => ?_)
      · simp only [pj_lc_gt] at hc106
        refine pj_J.go (oX4_times G) 4 rfl trivial ?_
        refine pj_lret dX4_times_140 rfl ⟨?_, rfl⟩
        simp_all [fm_times, fm_rnd]
      · simp only [pj_lc_gt] at hc106
        refine pj_J.go (oX4_times G) 6 rfl trivial ?_
        refine pj_J.ite (fun hc117 => ?_) (fun hc117 => ?_)
        · simp only [pj_lc_eq] at hc117
          refine pj_J.go (oX4_times G) 6 rfl ⟨by first | exact hb | decide, trivial⟩ ?_
          refine pj_J.ite (fun hc128 => ?_) (fun hc128 => ?_)
          · simp only [pj_lc_eq] at hc128
            refine pj_J.go (oX4_times G) 1 rfl trivial ?_
            refine pj_lret dX4_times_140 rfl ⟨?_, rfl⟩
            simp_all [fm_times, fm_rnd]
          · simp only [pj_lc_eq] at hc128
            refine pj_J.go (oX4_times G) 4 rfl trivial ?_
            refine pj_lret dX4_times_140 rfl ⟨?_, rfl⟩
            simp_all [fm_times, fm_rnd]
        · simp only [pj_lc_eq] at hc117
          refine pj_J.go (oX4_times G) 1 rfl trivial ?_
          refine pj_lret dX4_times_140 rfl ⟨?_, rfl⟩
          simp_all [fm_times, fm_rnd]
    refine pj_J.swc (fun hs2 => ?_) (fun hs2 => ?_)
    · skip
      refine pj_J.go (oX4_times G) 4 rfl trivial ?_
      refine pj_J.ite (fun hc144 => ?_) (fun hc144 => ?_)
      · simp only [pj_lc_le] at hc144
        refine pj_J.go (oX4_times G) 3 rfl trivial ?_
        refine pj_lret dX4_times_156 rfl ⟨?_, rfl⟩
        simp_all [fm_times, fm_rnd]
      · simp only [pj_lc_le] at hc144
        refine pj_J.go (oX4_times G) 2 rfl trivial ?_
        refine pj_lret dX4_times_156 rfl ⟨?_, rfl⟩
        simp_all [fm_times, fm_rnd]
    refine pj_J.swc (fun hs3 => ?_) (fun hs3 => ?_)
    · skip
      refine pj_J.go (oX4_times G) 4 rfl trivial ?_
      refine pj_J.ite (fun hc160 => ?_) (fun hc160 => ?_)
      · simp only [pj_lc_le] at hc160
        refine pj_J.go (oX4_times G) 1 rfl trivial ?_
        refine pj_lret dX4_times_172 rfl ⟨?_, rfl⟩
        simp_all [fm_times, fm_rnd]
      · simp only [pj_lc_le] at hc160
        refine pj_J.go (oX4_times G) 4 rfl trivial ?_
        refine pj_lret dX4_times_172 rfl ⟨?_, rfl⟩
        simp_all [fm_times, fm_rnd]
    refine pj_J.swc (fun hs4 => ?_) (fun hs4 => ?_)
    · skip
      refine pj_J.go (oX4_times G) 1 rfl trivial ?_
      refine pj_lret dX4_times_175 rfl ⟨?_, rfl⟩
      simp_all [fm_times, fm_rnd]
    refine pj_J.swn ?_
    refine pj_J.go (oX4_times G) 3 rfl trivial ?_
    refine pj_lret dX4_times_180 rfl ⟨?_, rfl⟩
    simp_all [fm_times, fm_rnd]
def fm_abs (a : Int64) : Nat := a.toInt.natAbs
theorem fm_abs_lt {a : Int64} (h : a < 0) (hm : -9223372036854775807 ≤ a) : -a = lN (fm_abs a) := by
  rw [Int64.lt_iff_toInt_lt] at h
  rw [Int64.le_iff_toInt_le] at hm
  have h0 : (0 : Int64).toInt = 0 := rfl
  have hm0 : (-9223372036854775807 : Int64).toInt = -9223372036854775807 := by decide
  refine Int64.toInt_inj.mp ?_
  unfold fm_abs
  rw [pk_lT (by omega), Int64.toInt_neg]
  rw [Int.bmod_eq_of_le (by omega) (by omega)]
  omega
theorem fm_abs_ge {a : Int64} (h : ¬ a < 0) : a = lN (fm_abs a) := by
  rw [Int64.lt_iff_toInt_lt] at h
  have h0 : (0 : Int64).toInt = 0 := rfl
  have h1 := Int64.toInt_lt a
  refine Int64.toInt_inj.mp ?_
  unfold fm_abs
  rw [pk_lT (by omega)]
  omega
theorem lp_X4_common {G : pj_G} {d : Nat} {h : pj_H} {Q : pj_O → pj_H → Prop} (v0 v2 : Option Value) : ∀ (Y X : Nat) (v8 : Option Value), X < 2 ^ 63 → Y < 2 ^ 63 → (∀ v8, pj_J G mX4_common d 42 [v0, none, v2, none, some (.long (lN (Nat.gcd X Y))), none, some (.long 0), none, v8, none] [] h 0 0 Q) → pj_J G mX4_common d 17 [v0, none, v2, none, some (.long (lN X)), none, some (.long (lN Y)), none, none, none] [] h 0 0 Q := by
  intro Y
  induction Y using Nat.strongRecOn with
  | ind Y ih =>
    intro X v8 hX hY k
    refine pj_J.go (oX4_common G) 4 rfl trivial ?_
    by_cases hy : Y = 0
    · subst hy
      refine pj_J.pos (show lg_cmp (lN 0) 0 = 0 from rfl) ?_
      have k := k none
      rw [Nat.gcd_zero_right] at k
      exact k
    · refine pj_J.neg (fun q => hy ?_) ?_
      · rw [pj_lc_eq] at q
        exact (pk_lEQ hY (by decide)).mp q
      · refine pj_J.go (oX4_common G) 9 rfl ⟨fun q => hy ((pk_lEQ hY (by decide)).mp q), trivial⟩ ?_
        rw [pk_lRem hX (Nat.pos_of_ne_zero hy) hY]
        refine pj_J.drop (L' := [v0, none, v2, none, some (.long (lN Y)), none, some (.long (lN (X % Y))), none, none, none]) ?_ (ih (X % Y) (Nat.mod_lt _ (Nat.pos_of_ne_zero hy)) Y none hY (Nat.lt_of_le_of_lt (Nat.mod_le _ _) hX) ?_)
        · cases v0 <;> cases v2 <;> simp [pj_le]
        · intro w
          rw [Nat.gcd_comm Y, ← Nat.gcd_rec, Nat.gcd_comm]
          exact k w
theorem c_X4_common {G : pj_G} {d : Nat} {h : pj_H} (a b : Int64) (ha : -9223372036854775807 ≤ a) (hb : 0 < b) : pj_Rt G mX4_common d [.long a, .long b] h 0 0 (some (.long (lN (Nat.gcd (fm_abs a) (fm_abs b))))) h := by
  refine pj_Cn.start ?_
  have hb' : b = lN (fm_abs b) := fm_abs_ge (by simp only [Int64.lt_iff_toInt_lt] at *; omega)
  have la : fm_abs a < 2 ^ 63 := by
    have h1 := Int64.toInt_lt a
    rw [Int64.le_iff_toInt_le] at ha
    have hm0 : (-9223372036854775807 : Int64).toInt = -9223372036854775807 := by decide
    unfold fm_abs; omega
  have lb : fm_abs b < 2 ^ 63 := by
    have h1 := Int64.toInt_lt b
    have h2 := Int64.le_toInt b
    rw [Int64.lt_iff_toInt_lt] at hb
    have h0 : (0 : Int64).toInt = 0 := rfl
    unfold fm_abs; omega
  have fin : ∀ v8, pj_J G mX4_common d 42 [some (.long a), none, some (.long b), none, some (.long (lN (Nat.gcd (fm_abs a) (fm_abs b)))), none, some (.long 0), none, v8, none] [] h 0 0 (fun o x => o = .inl (some (.long (lN (Nat.gcd (fm_abs a) (fm_abs b))))) ∧ x = h) := by
    intro v8
    refine pj_J.go (oX4_common G) 1 rfl trivial ?_
    exact pj_lret dX4_common_44 rfl ⟨rfl, rfl⟩
  refine pj_J.go (oX4_common G) 4 rfl trivial ?_
  refine pj_J.ite (fun hc => ?_) (fun hc => ?_)
  · rw [pj_lc_ge] at hc
    refine pj_J.go (oX4_common G) 4 rfl trivial ?_
    have e := fm_abs_ge (a := a) (by simp only [Int64.lt_iff_toInt_lt, Int64.le_iff_toInt_le] at *; omega)
    have q := lp_X4_common (G := G) (d := d) (h := h) (some (.long a)) (some (.long b)) (fm_abs b) (fm_abs a) none la lb fin
    rw [← e, ← hb'] at q
    exact q
  · rw [pj_lc_ge] at hc
    refine pj_J.go (oX4_common G) 6 rfl trivial ?_
    have e := fm_abs_lt (a := a) (by simp only [Int64.lt_iff_toInt_lt, Int64.le_iff_toInt_le] at *; omega) ha
    have q := lp_X4_common (G := G) (d := d) (h := h) (some (.long a)) (some (.long b)) (fm_abs b) (fm_abs a) none la lb fin
    rw [← e, ← hb'] at q
    exact q
