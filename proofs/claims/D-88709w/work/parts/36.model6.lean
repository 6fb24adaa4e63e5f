/-! PennyJudgeModel: acts (by tools/gen_m6.py) -/
set_option maxRecDepth 100000
def fm_g (n d : Int64) : Int64 := lN (Nat.gcd (fm_abs n) (fm_abs d))
theorem fm_g_ne {n d : Int64} (hd : 0 < d) (hn : -9223372036854775807 ≤ n) : ¬ fm_g n d = 0 := by
  intro h
  have h1 := Int64.toInt_lt d
  have h2 : (0 : Int64).toInt = 0 := rfl
  rw [Int64.lt_iff_toInt_lt] at hd
  have hp : 0 < fm_abs d := by unfold fm_abs; omega
  have hl : Nat.gcd (fm_abs n) (fm_abs d) ≤ fm_abs d := Nat.gcd_le_right _ hp
  have hb : fm_abs d < 2 ^ 63 := by unfold fm_abs; omega
  have h3 := (pk_lEQ (a := Nat.gcd (fm_abs n) (fm_abs d)) (b := 0) (by omega) (by decide)).mp h
  have := Nat.gcd_pos_of_pos_right (fm_abs n) hp
  omega
theorem c_X4_commonG {G : pj_G} {d : Nat} {h : pj_H} (a b : Int64) (ha : -9223372036854775807 ≤ a) (hb : 0 < b) : pj_Rt G mX4_common d [.long a, .long b] h 0 0 (some (.long (fm_g a b))) h := c_X4_common a b ha hb
def fm_bad (m : sx_M) (e : Int32) : sx_M := sx_si m 32 e
def fm_becomes (m : sx_M) (s : Int32) (n d : Int64) : Int32 × sx_M := if 1099511627776 < n / fm_g n d then (0, fm_bad m (-6)) else if n / fm_g n d < -1099511627776 then (0, fm_bad m (-6)) else if d / fm_g n d ≤ 1048576 then
  (1, sx_sL (sx_sL m 19 (vp_updL (sx_L m 19) (8 * sx_i m 16 + s).toNatClampNeg (n / fm_g n d))) 20 (vp_updL (sx_L m 20) (8 * sx_i m 16 + s).toNatClampNeg (d / fm_g n d))) else (0, fm_bad m (-6))
theorem fm_becomes_i {m : sx_M} {s : Int32} {n d : Int64} {k : Nat} (hk : k ≠ 32) : sx_i (fm_becomes m s n d).2 k = sx_i m k := by
  unfold fm_becomes fm_bad
  split
  · exact va_up_ne _ _ hk
  · split
    · exact va_up_ne _ _ hk
    · split
      · rfl
      · exact va_up_ne _ _ hk
theorem fm_becomes_I {m : sx_M} {s : Int32} {n d : Int64} : sx_I (fm_becomes m s n d).2 = sx_I m := by
  unfold fm_becomes fm_bad
  split
  · rfl
  · split
    · rfl
    · split <;> rfl
theorem fm_becomes_01 {m : sx_M} {s : Int32} {n d : Int64} : (fm_becomes m s n d).1 = 0 ∨ (fm_becomes m s n d).1 = 1 := by
  unfold fm_becomes
  split
  · exact Or.inl rfl
  · split
    · exact Or.inl rfl
    · split
      · exact Or.inr rfl
      · exact Or.inl rfl
theorem c_X4_becomes {G : pj_G} {d : Nat} {c : sx_C} {m : sx_M} {o : Nat → Int64} {D : pj_H} (s : Int32) (n e : Int64) (hs : vp_in (8 * sx_i m 16 + s) 16) (hn : -9223372036854775807 ≤ n) (he : 0 < e) : pj_Rt G mX4_becomes (d + 1) [.ref 59, .int s, .long n, .long e] (sx_mk c m o D) 0 0 (some (.int (fm_becomes m s n e).1)) (sx_mk c (fm_becomes m s n e).2 o D) := by
  refine pj_Cn.start ?_
  refine pj_J.go (oX4_becomes G) 2 rfl trivial ?_
  refine pj_J.cal0 kX4_becomes_3 (c_X4_commonG _ _ hn he) trivial pj_le0 pj_le0 pj_le0 ?_
  refine pj_J.go (oX4_becomes G) 13 rfl ⟨by exact fm_g_ne he hn, by exact fm_g_ne he hn, trivial⟩ ?_
  refine pj_J.ite (fun hc27 => ?_) (fun hc27 => ?_)
  · simp only [pj_lc_gt] at hc27
    refine pj_J.go (oX4_becomes G) 4 rfl trivial ?_
    refine pj_zret dX4_becomes_55 rfl (by first | exact Or.inl rfl | exact Or.inr rfl | exact pj_b01 _) ?_
    show _ = _ ∧ _ = _
    unfold fm_becomes
    rw [if_pos hc27]
    exact ⟨rfl, rfl⟩
  · simp only [pj_lc_gt] at hc27
    refine pj_J.go (oX4_becomes G) 4 rfl trivial ?_
    refine pj_J.ite (fun hc36 => ?_) (fun hc36 => ?_)
    · simp only [pj_lc_lt] at hc36
      refine pj_J.go (oX4_becomes G) 4 rfl trivial ?_
      refine pj_zret dX4_becomes_55 rfl (by first | exact Or.inl rfl | exact Or.inr rfl | exact pj_b01 _) ?_
      show _ = _ ∧ _ = _
      unfold fm_becomes
      rw [if_neg hc27, if_pos hc36]
      exact ⟨rfl, rfl⟩
    · simp only [pj_lc_lt] at hc36
      refine pj_J.go (oX4_becomes G) 4 rfl trivial ?_
      refine pj_J.ite (fun hc45 => ?_) (fun hc45 => ?_)
      · simp only [pj_lc_le] at hc45
        refine pj_J.go (oX4_becomes G) 21 rfl ⟨by exact hs, by exact hs, trivial⟩ ?_
        refine pj_zret dX4_becomes_89 rfl (by first | exact Or.inl rfl | exact Or.inr rfl | exact pj_b01 _) ?_
        show _ = _ ∧ _ = _
        unfold fm_becomes
        rw [if_neg hc27, if_neg hc36, if_pos hc45]
        exact ⟨rfl, rfl⟩
      · simp only [pj_lc_le] at hc45
        refine pj_J.go (oX4_becomes G) 4 rfl trivial ?_
        refine pj_zret dX4_becomes_55 rfl (by first | exact Or.inl rfl | exact Or.inr rfl | exact pj_b01 _) ?_
        show _ = _ ∧ _ = _
        unfold fm_becomes
        rw [if_neg hc27, if_neg hc36, if_neg hc45]
        exact ⟨rfl, rfl⟩
theorem c_X4_becomesWhole {G : pj_G} {d : Nat} {c : sx_C} {m : sx_M} {o : Nat → Int64} {D : pj_H} (s : Int32) (n : Int64) (hs : vp_in (8 * sx_i m 16 + s) 16) (hn : -9223372036854775807 ≤ n) : pj_Rt G mX4_becomesWhole (d + 2) [.ref 59, .int s, .long n] (sx_mk c m o D) 0 0 (some (.int (fm_becomes m s n 1).1)) (sx_mk c (fm_becomes m s n 1).2 o D) := by
  refine pj_Cn.start ?_
  refine pj_J.go (oX4_becomesWhole G) 4 rfl trivial ?_
  refine pj_J.cal0 kX4_becomesWhole_4 (c_X4_becomes _ _ _ hs hn (by decide)) ⟨_, _, _, rfl, rfl⟩ pj_le0 pj_le0 pj_le0 ?_
  exact pj_zret dX4_becomesWhole_7 rfl (by first | exact fm_becomes_01) ⟨rfl, rfl⟩
def fm_show (m : sx_M) (s : Int32) (v : Int32) : sx_M := sx_sI m 26 (upd (sx_I m 26) (8 * sx_i m 16 + s).toNatClampNeg (vp_nar .boolean v))
def fm_plain (m : sx_M) (s : Int32) (n : Int64) : sx_M := if (fm_becomes m s n 1).1 = 0 then (fm_becomes m s n 1).2 else fm_show (fm_becomes m s n 1).2 s 0
theorem c_X4_plain {G : pj_G} {d : Nat} {c : sx_C} {m : sx_M} {o : Nat → Int64} {D : pj_H} (s : Int32) (n : Int64) (hs : vp_in (8 * sx_i m 16 + s) 16) (hn : -9223372036854775807 ≤ n) : pj_Rt G mX4_plain (d + 3) [.ref 59, .int s, .long n] (sx_mk c m o D) 0 0 none (sx_mk c (fm_plain m s n) o D) := by
  refine pj_Cn.start ?_
  refine pj_J.go (oX4_plain G) 3 rfl trivial ?_
  refine pj_J.cal0 kX4_plain_3 (c_X4_becomesWhole _ _ hs hn) ⟨_, _, _, rfl, rfl⟩ pj_le0 pj_le0 pj_le0 ?_
  refine pj_J.go (oX4_plain G) 1 rfl trivial ?_
  refine pj_J.ite (fun hc6 => ?_) (fun hc6 => ?_)
  · skip
    refine pj_vret dX4_plain_24 rfl ?_
    show _ = _ ∧ _ = _
    unfold fm_plain
    rw [if_pos hc6]
    exact ⟨rfl, rfl⟩
  · skip
    refine pj_J.go (oX4_plain G) 10 rfl ⟨by exact (by rw [fm_becomes_i (by decide)]; exact hs), trivial⟩ ?_
    refine pj_vret dX4_plain_24 rfl ?_
    show _ = _ ∧ _ = _
    unfold fm_plain
    rw [if_neg hc6]
    exact ⟨rfl, rfl⟩
def fm_ratesF (m : sx_M) (s t r : Int32) : Int32 × sx_M := fm_becomes m s (sx_L m 19 (8 * sx_i m 16 + t).toNatClampNeg * (sx_I m 1 r.toNatClampNeg).toInt64) (sx_L m 20 (8 * sx_i m 16 + t).toNatClampNeg * (sx_I m 2 r.toNatClampNeg).toInt64)
def fm_rates (m : sx_M) (s t r : Int32) : sx_M := if (fm_ratesF m s t r).1 = 0 then (fm_ratesF m s t r).2 else fm_show (fm_ratesF m s t r).2 s (sx_I m 26 (8 * sx_i m 16 + t).toNatClampNeg)
theorem c_X4_rates {G : pj_G} {d : Nat} {c : sx_C} {m : sx_M} {o : Nat → Int64} {D : pj_H} (s t r : Int32) (hs : vp_in (8 * sx_i m 16 + s) 16) (ht : vp_in (8 * sx_i m 16 + t) 16) (hr : vp_in r 8) (hn : -9223372036854775807 ≤ sx_L m 19 (8 * sx_i m 16 + t).toNatClampNeg * (sx_I m 1 r.toNatClampNeg).toInt64) (he : 0 < sx_L m 20 (8 * sx_i m 16 + t).toNatClampNeg * (sx_I m 2 r.toNatClampNeg).toInt64) : pj_Rt G mX4_rates (d + 2) [.ref 59, .int s, .int t, .int r] (sx_mk c m o D) 0 0 none (sx_mk c (fm_rates m s t r) o D) := by
  refine pj_Cn.start ?_
  refine pj_J.go (oX4_rates G) 34 rfl ⟨by exact ht, by exact ht, by exact hr, by exact ht, by exact hr, trivial⟩ ?_
  refine pj_J.cal0 kX4_rates_52 (c_X4_becomes _ _ _ hs hn he) ⟨_, _, _, rfl, rfl⟩ pj_le0 pj_le0 pj_le0 ?_
  refine pj_J.go (oX4_rates G) 1 rfl trivial ?_
  refine pj_J.ite (fun hc55 => ?_) (fun hc55 => ?_)
  · skip
    refine pj_vret dX4_rates_74 rfl ?_
    show _ = _ ∧ _ = _
    unfold fm_rates fm_ratesF
    rw [if_pos hc55]
    exact ⟨rfl, rfl⟩
  · skip
    refine pj_J.go (oX4_rates G) 10 rfl ⟨by exact (by rw [fm_becomes_i (by decide)]; exact hs), trivial⟩ ?_
    refine pj_vret dX4_rates_74 rfl ?_
    show _ = _ ∧ _ = _
    unfold fm_rates fm_ratesF
    rw [if_neg hc55]
    exact ⟨rfl, rfl⟩
def fm_bk (m : sx_M) (s t v : Int32) : sx_M := sx_sL m 23 (vp_updL (sx_L m 23) (8 * sx_i m 16 + t).toNatClampNeg (sx_L m 23 (8 * sx_i m 16 + t).toNatClampNeg + (if v = 0 then sx_L m 19 (8 * sx_i m 16 + s).toNatClampNeg else -sx_L m 19 (8 * sx_i m 16 + s).toNatClampNeg)))
def fm_books (m : sx_M) (s t v : Int32) : sx_M := if sx_L m 20 (8 * sx_i m 16 + s).toNatClampNeg = 1 then sx_si (fm_bk m s t v) 31 (sx_i m 31 + (if sx_I m 26 (8 * sx_i m 16 + s).toNatClampNeg = 0 then 0 else 1)) else fm_bad m (-5)
theorem c_X4_books {G : pj_G} {d : Nat} {c : sx_C} {m : sx_M} {o : Nat → Int64} {D : pj_H} (s t v : Int32) (hs : vp_in (8 * sx_i m 16 + s) 16) (ht : vp_in (8 * sx_i m 16 + t) 16) : pj_Rt G mX4_books (d) [.ref 59, .int s, .int t, .int v] (sx_mk c m o D) 0 0 none (sx_mk c (fm_books m s t v) o D) := by
  refine pj_Cn.start ?_
  refine pj_J.go (oX4_books G) 14 rfl ⟨by exact hs, trivial⟩ ?_
  refine pj_J.ite (fun hc20 => ?_) (fun hc20 => ?_)
  · simp only [pj_lc_eq] at hc20
    refine pj_J.go (oX4_books G) 12 rfl ⟨by exact ht, trivial⟩ ?_
    refine pj_J.ite (fun hc46 => ?_) (fun hc46 => ?_)
    · skip
      refine pj_J.go (oX4_books G) 15 rfl ⟨by exact hs, by exact ht, by exact hs, trivial⟩ ?_
      refine pj_J.ite (fun hc81 => ?_) (fun hc81 => ?_)
      · skip
        refine pj_J.go (oX4_books G) 3 rfl trivial ?_
        refine pj_vret dX4_books_93 rfl ?_
        show _ = _ ∧ _ = _
        unfold fm_books fm_bk
        rw [if_pos hc20, if_pos hc46, if_pos hc81]
        exact ⟨rfl, rfl⟩
      · skip
        refine pj_J.go (oX4_books G) 4 rfl trivial ?_
        refine pj_vret dX4_books_93 rfl ?_
        show _ = _ ∧ _ = _
        unfold fm_books fm_bk
        rw [if_pos hc20, if_pos hc46, if_neg hc81]
        exact ⟨rfl, rfl⟩
    · skip
      refine pj_J.go (oX4_books G) 15 rfl ⟨by exact hs, by exact ht, by exact hs, trivial⟩ ?_
      refine pj_J.ite (fun hc81 => ?_) (fun hc81 => ?_)
      · skip
        refine pj_J.go (oX4_books G) 3 rfl trivial ?_
        refine pj_vret dX4_books_93 rfl ?_
        show _ = _ ∧ _ = _
        unfold fm_books fm_bk
        rw [if_pos hc20, if_neg hc46, if_pos hc81]
        exact ⟨rfl, rfl⟩
      · skip
        refine pj_J.go (oX4_books G) 4 rfl trivial ?_
        refine pj_vret dX4_books_93 rfl ?_
        show _ = _ ∧ _ = _
        unfold fm_books fm_bk
        rw [if_pos hc20, if_neg hc46, if_neg hc81]
        exact ⟨rfl, rfl⟩
  · simp only [pj_lc_eq] at hc20
    refine pj_J.go (oX4_books G) 3 rfl trivial ?_
    refine pj_vret dX4_books_29 rfl ?_
    show _ = _ ∧ _ = _
    unfold fm_books fm_bk
    rw [if_neg hc20]
    exact ⟨rfl, rfl⟩
def fm_capG (m : sx_M) (s t : Int32) (v : Int64) : Prop := if t = 0 then v * sx_L m 20 (8 * sx_i m 16 + s).toNatClampNeg < sx_L m 19 (8 * sx_i m 16 + s).toNatClampNeg else sx_L m 19 (8 * sx_i m 16 + s).toNatClampNeg < v * sx_L m 20 (8 * sx_i m 16 + s).toNatClampNeg
def fm_capY (m : sx_M) (s : Int32) (v : Int64) : sx_M := sx_sL (sx_sL m 19 (vp_updL (sx_L m 19) (8 * sx_i m 16 + s).toNatClampNeg v)) 20 (vp_updL (sx_L m 20) (8 * sx_i m 16 + s).toNatClampNeg 1)
def fm_caps (m : sx_M) (s t : Int32) (v : Int64) : sx_M := if t = 0 then (if sx_L m 19 (8 * sx_i m 16 + s).toNatClampNeg ≤ v * sx_L m 20 (8 * sx_i m 16 + s).toNatClampNeg then m else fm_capY m s v) else (if v * sx_L m 20 (8 * sx_i m 16 + s).toNatClampNeg ≤ sx_L m 19 (8 * sx_i m 16 + s).toNatClampNeg then m else fm_capY m s v)
theorem c_X4_caps {G : pj_G} {d : Nat} {c : sx_C} {m : sx_M} {o : Nat → Int64} {D : pj_H} (s t : Int32) (v : Int64) (hs : vp_in (8 * sx_i m 16 + s) 16) : pj_Rt G mX4_caps (d) [.ref 59, .int s, .int t, .long v] (sx_mk c m o D) 0 0 none (sx_mk c (fm_caps m s t v) o D) := by
  refine pj_Cn.start ?_
  refine pj_J.go (oX4_caps G) 9 rfl trivial ?_
  refine pj_J.ite (fun hc12 => ?_) (fun hc12 => ?_)
  · skip
    refine pj_J.go (oX4_caps G) 12 rfl ⟨by exact hs, by exact hs, trivial⟩ ?_
    refine pj_J.ite (fun hc32 => ?_) (fun hc32 => ?_)
    · simp only [pj_lc_le] at hc32
      refine pj_J.go (oX4_caps G) 5 rfl trivial ?_
      refine pj_J.ite (fun hc72 => ?_) (fun hc72 => ?_)
      · skip
        refine pj_vret dX4_caps_91 rfl ?_
        show _ = _ ∧ _ = _
        unfold fm_caps fm_capY
        first
          | (exfalso; exact absurd hc72 (show ¬ (1 : Int32) = 0 by decide))
          | (exfalso; exact hc72 rfl)
          | (rw [if_pos hc12, if_pos hc32]; exact ⟨rfl, rfl⟩)
      · skip
        refine pj_J.go (oX4_caps G) 10 rfl ⟨by exact hs, by exact hs, trivial⟩ ?_
        refine pj_vret dX4_caps_91 rfl ?_
        show _ = _ ∧ _ = _
        unfold fm_caps fm_capY
        first
          | (exfalso; exact absurd hc72 (show ¬ (1 : Int32) = 0 by decide))
          | (exfalso; exact hc72 rfl)
          | (rw [if_pos hc12, if_pos hc32]; exact ⟨rfl, rfl⟩)
    · simp only [pj_lc_le] at hc32
      refine pj_J.go (oX4_caps G) 5 rfl trivial ?_
      refine pj_J.ite (fun hc72 => ?_) (fun hc72 => ?_)
      · skip
        refine pj_vret dX4_caps_91 rfl ?_
        show _ = _ ∧ _ = _
        unfold fm_caps fm_capY
        first
          | (exfalso; exact absurd hc72 (show ¬ (1 : Int32) = 0 by decide))
          | (exfalso; exact hc72 rfl)
          | (rw [if_pos hc12, if_neg hc32]; exact ⟨rfl, rfl⟩)
      · skip
        refine pj_J.go (oX4_caps G) 10 rfl ⟨by exact hs, by exact hs, trivial⟩ ?_
        refine pj_vret dX4_caps_91 rfl ?_
        show _ = _ ∧ _ = _
        unfold fm_caps fm_capY
        first
          | (exfalso; exact absurd hc72 (show ¬ (1 : Int32) = 0 by decide))
          | (exfalso; exact hc72 rfl)
          | (rw [if_pos hc12, if_neg hc32]; exact ⟨rfl, rfl⟩)
  · skip
    refine pj_J.go (oX4_caps G) 12 rfl ⟨by exact hs, by exact hs, trivial⟩ ?_
    refine pj_J.ite (fun hc60 => ?_) (fun hc60 => ?_)
    · simp only [pj_lc_ge] at hc60
      refine pj_J.go (oX4_caps G) 4 rfl trivial ?_
      refine pj_J.ite (fun hc72 => ?_) (fun hc72 => ?_)
      · skip
        refine pj_vret dX4_caps_91 rfl ?_
        show _ = _ ∧ _ = _
        unfold fm_caps fm_capY
        first
          | (exfalso; exact absurd hc72 (show ¬ (1 : Int32) = 0 by decide))
          | (exfalso; exact hc72 rfl)
          | (rw [if_neg hc12, if_pos hc60]; exact ⟨rfl, rfl⟩)
      · skip
        refine pj_J.go (oX4_caps G) 10 rfl ⟨by exact hs, by exact hs, trivial⟩ ?_
        refine pj_vret dX4_caps_91 rfl ?_
        show _ = _ ∧ _ = _
        unfold fm_caps fm_capY
        first
          | (exfalso; exact absurd hc72 (show ¬ (1 : Int32) = 0 by decide))
          | (exfalso; exact hc72 rfl)
          | (rw [if_neg hc12, if_pos hc60]; exact ⟨rfl, rfl⟩)
    · simp only [pj_lc_ge] at hc60
      refine pj_J.go (oX4_caps G) 5 rfl trivial ?_
      refine pj_J.ite (fun hc72 => ?_) (fun hc72 => ?_)
      · skip
        refine pj_vret dX4_caps_91 rfl ?_
        show _ = _ ∧ _ = _
        unfold fm_caps fm_capY
        first
          | (exfalso; exact absurd hc72 (show ¬ (1 : Int32) = 0 by decide))
          | (exfalso; exact hc72 rfl)
          | (rw [if_neg hc12, if_neg hc60]; exact ⟨rfl, rfl⟩)
      · skip
        refine pj_J.go (oX4_caps G) 10 rfl ⟨by exact hs, by exact hs, trivial⟩ ?_
        refine pj_vret dX4_caps_91 rfl ?_
        show _ = _ ∧ _ = _
        unfold fm_caps fm_capY
        first
          | (exfalso; exact absurd hc72 (show ¬ (1 : Int32) = 0 by decide))
          | (exfalso; exact hc72 rfl)
          | (rw [if_neg hc12, if_neg hc60]; exact ⟨rfl, rfl⟩)
