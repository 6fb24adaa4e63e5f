/-! PennyJudge: common, Run put begin bare bill, wholeWeight alike farShare turn begin (by tools/gen_p2.py) -/
set_option maxRecDepth 100000
theorem lp_X1_common {G : pj_G} {d : Nat} {h : pj_H} {Q : pj_O → pj_H → Prop} (v0 v2 : Option Value) : ∀ (Y X : Nat) (v8 : Option Value), X < 2 ^ 63 → Y < 2 ^ 63 → (∀ v8, pj_J G mX1_common d 42 [v0, none, v2, none, some (.long (lN (Nat.gcd X Y))), none, some (.long 0), none, v8, none] [] h 0 0 Q) → pj_J G mX1_common d 17 [v0, none, v2, none, some (.long (lN X)), none, some (.long (lN Y)), none, none, none] [] h 0 0 Q := by
  intro Y
  induction Y using Nat.strongRecOn with
  | ind Y ih =>
    intro X v8 hX hY k
    refine pj_J.go (oX1_common G) 4 rfl trivial ?_
    by_cases hy : Y = 0
    · subst hy
      refine pj_J.pos (show lg_cmp (lN 0) 0 = 0 from rfl) ?_
      have k := k none
      rw [Nat.gcd_zero_right] at k
      exact k
    · refine pj_J.neg (fun q => hy ?_) ?_
      · rw [pj_lc_eq] at q
        exact (pk_lEQ hY (by decide)).mp q
      · refine pj_J.go (oX1_common G) 9 rfl ⟨fun q => hy ((pk_lEQ hY (by decide)).mp q), trivial⟩ ?_
        rw [pk_lRem hX (Nat.pos_of_ne_zero hy) hY]
        refine pj_J.drop (L' := [v0, none, v2, none, some (.long (lN Y)), none, some (.long (lN (X % Y))), none, none, none]) ?_ (ih (X % Y) (Nat.mod_lt _ (Nat.pos_of_ne_zero hy)) Y none hY (Nat.lt_of_le_of_lt (Nat.mod_le _ _) hX) ?_)
        · cases v0 <;> cases v2 <;> simp [pj_le]
        · intro w
          rw [Nat.gcd_comm Y, ← Nat.gcd_rec, Nat.gcd_comm]
          exact k w
theorem c_X1_common {G : pj_G} {d : Nat} {h : pj_H} (a b : Int64) (ha : -9223372036854775807 ≤ a) (hb : 0 < b) : pj_Rt G mX1_common d [.long a, .long b] h 0 0 (some (.long (lN (Nat.gcd (fm_abs a) (fm_abs b))))) h := by
  refine pj_Cn.start ?_
  have hb' : b = lN (fm_abs b) := fm_abs_ge (by simp only [Int64.lt_iff_toInt_lt] at *; omega)
  have la : fm_abs a < 2 ^ 63 := by
    have h1 := Int64.toInt_lt a
    rw [Int64.le_iff_toInt_le] at ha
    have hm0 : (-9223372036854775807 : Int64).toInt = -9223372036854775807 := by decide
    unfold fm_abs; omega
  have lb : fm_abs b < 2 ^ 63 := by
    have h1 := Int64.toInt_lt b
    have h2 := Int64.le_toInt b
    rw [Int64.lt_iff_toInt_lt] at hb
    have h0 : (0 : Int64).toInt = 0 := rfl
    unfold fm_abs; omega
  have fin : ∀ v8, pj_J G mX1_common d 42 [some (.long a), none, some (.long b), none, some (.long (lN (Nat.gcd (fm_abs a) (fm_abs b)))), none, some (.long 0), none, v8, none] [] h 0 0 (fun o x => o = .inl (some (.long (lN (Nat.gcd (fm_abs a) (fm_abs b))))) ∧ x = h) := by
    intro v8
    refine pj_J.go (oX1_common G) 1 rfl trivial ?_
    exact pj_lret dX1_common_44 rfl ⟨rfl, rfl⟩
  refine pj_J.go (oX1_common G) 4 rfl trivial ?_
  refine pj_J.ite (fun hc => ?_) (fun hc => ?_)
  · rw [pj_lc_ge] at hc
    refine pj_J.go (oX1_common G) 4 rfl trivial ?_
    have e := fm_abs_ge (a := a) (by simp only [Int64.lt_iff_toInt_lt, Int64.le_iff_toInt_le] at *; omega)
    have q := lp_X1_common (G := G) (d := d) (h := h) (some (.long a)) (some (.long b)) (fm_abs b) (fm_abs a) none la lb fin
    rw [← e, ← hb'] at q
    exact q
  · rw [pj_lc_ge] at hc
    refine pj_J.go (oX1_common G) 6 rfl trivial ?_
    have e := fm_abs_lt (a := a) (by simp only [Int64.lt_iff_toInt_lt, Int64.le_iff_toInt_le] at *; omega) ha
    have q := lp_X1_common (G := G) (d := d) (h := h) (some (.long a)) (some (.long b)) (fm_abs b) (fm_abs a) none la lb fin
    rw [← e, ← hb'] at q
    exact q
theorem c_X1_commonG {G : pj_G} {d : Nat} {h : pj_H} (a b : Int64) (ha : -9223372036854775807 ≤ a) (hb : 0 < b) : pj_Rt G mX1_common d [.long a, .long b] h 0 0 (some (.long (fm_g a b))) h := c_X1_common a b ha hb
def fr_put (u : sx_M) (s : Int32) (n : Int64) (e : Int64) : Int32 × sx_M := if (1099511627776 : Int64) < (n / (fm_g n e)) then ((-6 : Int32), u) else (if (n / (fm_g n e)) < (-1099511627776 : Int64) then ((-6 : Int32), u) else (if (e / (fm_g n e)) ≤ (1048576 : Int64) then ((0 : Int32), sx_sL (sx_sL u 0 (vp_updL (sx_L u 0) s.toNatClampNeg (n / (fm_g n e)))) 1 (vp_updL (sx_L u 1) s.toNatClampNeg (e / (fm_g n e)))) else ((-6 : Int32), u)))
theorem c_X2_put_0 {G : pj_G} {d : Nat} {c : sx_C} {m : sx_M} {o : Nat → Int64} {D : pj_H} (s : Int32) (n : Int64) (e : Int64) (hs : vp_in s 8) (hn : -9223372036854775807 ≤ n) (he : 0 < e) : pj_Rt G mX2_put (d + 1) [.ref 10, .int s, .long n, .long e] (sx_mk c m o D) 0 0 (some (.int ((fr_put (sx_R c 0) s n e).1))) (sx_mk (sx_sR c 0 ((fr_put (sx_R c 0) s n e).2)) m o D) := by
  refine pj_Cn.start ?_
  refine pj_J.go (oX2_put G) 2 rfl trivial ?_
  refine pj_J.cal0 kX2_put_3 (c_X1_commonG n e hn he) trivial pj_le0 pj_le0 pj_le0 ?_
  refine pj_J.go (oX2_put G) 13 rfl ⟨by exact fm_g_ne he hn, by exact fm_g_ne he hn, trivial⟩ ?_
  refine pj_J.ite (fun hc27 => ?_) (fun hc27 => ?_)
  · simp only [pj_lc_gt] at hc27
    refine pj_J.go (oX2_put G) 1 rfl trivial ?_
    refine pj_iret dX2_put_50 rfl ?_
    show _ = _ ∧ _ = _
    have e : fr_put (sx_R c 0) s n e = ((-6 : Int32), (sx_R c 0)) := by unfold fr_put; rw [if_pos (show (1099511627776 : Int64) < (n / (fm_g n e)) from hc27)]
    rw [e]
    try dsimp only
    exact ⟨rfl, rfl⟩
  · simp only [pj_lc_gt] at hc27
    refine pj_J.go (oX2_put G) 4 rfl trivial ?_
    refine pj_J.ite (fun hc36 => ?_) (fun hc36 => ?_)
    · simp only [pj_lc_lt] at hc36
      refine pj_J.go (oX2_put G) 1 rfl trivial ?_
      refine pj_iret dX2_put_50 rfl ?_
      show _ = _ ∧ _ = _
      have e : fr_put (sx_R c 0) s n e = ((-6 : Int32), (sx_R c 0)) := by unfold fr_put; rw [if_neg (show ¬ ((1099511627776 : Int64) < (n / (fm_g n e))) from hc27), if_pos (show (n / (fm_g n e)) < (-1099511627776 : Int64) from hc36)]
      rw [e]
      try dsimp only
      exact ⟨rfl, rfl⟩
    · simp only [pj_lc_lt] at hc36
      refine pj_J.go (oX2_put G) 4 rfl trivial ?_
      refine pj_J.ite (fun hc45 => ?_) (fun hc45 => ?_)
      · simp only [pj_lc_le] at hc45
        refine pj_J.go (oX2_put G) 11 rfl ⟨by exact hs, by exact hs, trivial⟩ ?_
        refine pj_iret dX2_put_68 rfl ?_
        show _ = _ ∧ _ = _
        have e : fr_put (sx_R c 0) s n e = ((0 : Int32), sx_sL (sx_sL (sx_R c 0) 0 (vp_updL (sx_L (sx_R c 0) 0) s.toNatClampNeg (n / (fm_g n e)))) 1 (vp_updL (sx_L (sx_R c 0) 1) s.toNatClampNeg (e / (fm_g n e)))) := by unfold fr_put; rw [if_neg (show ¬ ((1099511627776 : Int64) < (n / (fm_g n e))) from hc27), if_neg (show ¬ ((n / (fm_g n e)) < (-1099511627776 : Int64)) from hc36), if_pos (show (e / (fm_g n e)) ≤ (1048576 : Int64) from hc45)]
        rw [e]
        try dsimp only
        exact ⟨rfl, rfl⟩
      · simp only [pj_lc_le] at hc45
        refine pj_J.go (oX2_put G) 1 rfl trivial ?_
        refine pj_iret dX2_put_50 rfl ?_
        show _ = _ ∧ _ = _
        have e : fr_put (sx_R c 0) s n e = ((-6 : Int32), (sx_R c 0)) := by unfold fr_put; rw [if_neg (show ¬ ((1099511627776 : Int64) < (n / (fm_g n e))) from hc27), if_neg (show ¬ ((n / (fm_g n e)) < (-1099511627776 : Int64)) from hc36), if_neg (show ¬ ((e / (fm_g n e)) ≤ (1048576 : Int64)) from hc45)]
        rw [e]
        try dsimp only
        exact ⟨rfl, rfl⟩
theorem c_X2_put_1 {G : pj_G} {d : Nat} {c : sx_C} {m : sx_M} {o : Nat → Int64} {D : pj_H} (s : Int32) (n : Int64) (e : Int64) (hs : vp_in s 8) (hn : -9223372036854775807 ≤ n) (he : 0 < e) : pj_Rt G mX2_put (d + 1) [.ref 21, .int s, .long n, .long e] (sx_mk c m o D) 0 0 (some (.int ((fr_put (sx_R c 1) s n e).1))) (sx_mk (sx_sR c 1 ((fr_put (sx_R c 1) s n e).2)) m o D) := by
  refine pj_Cn.start ?_
  refine pj_J.go (oX2_put G) 2 rfl trivial ?_
  refine pj_J.cal0 kX2_put_3 (c_X1_commonG n e hn he) trivial pj_le0 pj_le0 pj_le0 ?_
  refine pj_J.go (oX2_put G) 13 rfl ⟨by exact fm_g_ne he hn, by exact fm_g_ne he hn, trivial⟩ ?_
  refine pj_J.ite (fun hc27 => ?_) (fun hc27 => ?_)
  · simp only [pj_lc_gt] at hc27
    refine pj_J.go (oX2_put G) 1 rfl trivial ?_
    refine pj_iret dX2_put_50 rfl ?_
    show _ = _ ∧ _ = _
    have e : fr_put (sx_R c 1) s n e = ((-6 : Int32), (sx_R c 1)) := by unfold fr_put; rw [if_pos (show (1099511627776 : Int64) < (n / (fm_g n e)) from hc27)]
    rw [e]
    try dsimp only
    exact ⟨rfl, rfl⟩
  · simp only [pj_lc_gt] at hc27
    refine pj_J.go (oX2_put G) 4 rfl trivial ?_
    refine pj_J.ite (fun hc36 => ?_) (fun hc36 => ?_)
    · simp only [pj_lc_lt] at hc36
      refine pj_J.go (oX2_put G) 1 rfl trivial ?_
      refine pj_iret dX2_put_50 rfl ?_
      show _ = _ ∧ _ = _
      have e : fr_put (sx_R c 1) s n e = ((-6 : Int32), (sx_R c 1)) := by unfold fr_put; rw [if_neg (show ¬ ((1099511627776 : Int64) < (n / (fm_g n e))) from hc27), if_pos (show (n / (fm_g n e)) < (-1099511627776 : Int64) from hc36)]
      rw [e]
      try dsimp only
      exact ⟨rfl, rfl⟩
    · simp only [pj_lc_lt] at hc36
      refine pj_J.go (oX2_put G) 4 rfl trivial ?_
      refine pj_J.ite (fun hc45 => ?_) (fun hc45 => ?_)
      · simp only [pj_lc_le] at hc45
        refine pj_J.go (oX2_put G) 11 rfl ⟨by exact hs, by exact hs, trivial⟩ ?_
        refine pj_iret dX2_put_68 rfl ?_
        show _ = _ ∧ _ = _
        have e : fr_put (sx_R c 1) s n e = ((0 : Int32), sx_sL (sx_sL (sx_R c 1) 0 (vp_updL (sx_L (sx_R c 1) 0) s.toNatClampNeg (n / (fm_g n e)))) 1 (vp_updL (sx_L (sx_R c 1) 1) s.toNatClampNeg (e / (fm_g n e)))) := by unfold fr_put; rw [if_neg (show ¬ ((1099511627776 : Int64) < (n / (fm_g n e))) from hc27), if_neg (show ¬ ((n / (fm_g n e)) < (-1099511627776 : Int64)) from hc36), if_pos (show (e / (fm_g n e)) ≤ (1048576 : Int64) from hc45)]
        rw [e]
        try dsimp only
        exact ⟨rfl, rfl⟩
      · simp only [pj_lc_le] at hc45
        refine pj_J.go (oX2_put G) 1 rfl trivial ?_
        refine pj_iret dX2_put_50 rfl ?_
        show _ = _ ∧ _ = _
        have e : fr_put (sx_R c 1) s n e = ((-6 : Int32), (sx_R c 1)) := by unfold fr_put; rw [if_neg (show ¬ ((1099511627776 : Int64) < (n / (fm_g n e))) from hc27), if_neg (show ¬ ((n / (fm_g n e)) < (-1099511627776 : Int64)) from hc36), if_neg (show ¬ ((e / (fm_g n e)) ≤ (1048576 : Int64)) from hc45)]
        rw [e]
        try dsimp only
        exact ⟨rfl, rfl⟩
theorem c_X2_put_2 {G : pj_G} {d : Nat} {c : sx_C} {m : sx_M} {o : Nat → Int64} {D : pj_H} (s : Int32) (n : Int64) (e : Int64) (hs : vp_in s 8) (hn : -9223372036854775807 ≤ n) (he : 0 < e) : pj_Rt G mX2_put (d + 1) [.ref 32, .int s, .long n, .long e] (sx_mk c m o D) 0 0 (some (.int ((fr_put (sx_R c 2) s n e).1))) (sx_mk (sx_sR c 2 ((fr_put (sx_R c 2) s n e).2)) m o D) := by
  refine pj_Cn.start ?_
  refine pj_J.go (oX2_put G) 2 rfl trivial ?_
  refine pj_J.cal0 kX2_put_3 (c_X1_commonG n e hn he) trivial pj_le0 pj_le0 pj_le0 ?_
  refine pj_J.go (oX2_put G) 13 rfl ⟨by exact fm_g_ne he hn, by exact fm_g_ne he hn, trivial⟩ ?_
  refine pj_J.ite (fun hc27 => ?_) (fun hc27 => ?_)
  · simp only [pj_lc_gt] at hc27
    refine pj_J.go (oX2_put G) 1 rfl trivial ?_
    refine pj_iret dX2_put_50 rfl ?_
    show _ = _ ∧ _ = _
    have e : fr_put (sx_R c 2) s n e = ((-6 : Int32), (sx_R c 2)) := by unfold fr_put; rw [if_pos (show (1099511627776 : Int64) < (n / (fm_g n e)) from hc27)]
    rw [e]
    try dsimp only
    exact ⟨rfl, rfl⟩
  · simp only [pj_lc_gt] at hc27
    refine pj_J.go (oX2_put G) 4 rfl trivial ?_
    refine pj_J.ite (fun hc36 => ?_) (fun hc36 => ?_)
    · simp only [pj_lc_lt] at hc36
      refine pj_J.go (oX2_put G) 1 rfl trivial ?_
      refine pj_iret dX2_put_50 rfl ?_
      show _ = _ ∧ _ = _
      have e : fr_put (sx_R c 2) s n e = ((-6 : Int32), (sx_R c 2)) := by unfold fr_put; rw [if_neg (show ¬ ((1099511627776 : Int64) < (n / (fm_g n e))) from hc27), if_pos (show (n / (fm_g n e)) < (-1099511627776 : Int64) from hc36)]
      rw [e]
      try dsimp only
      exact ⟨rfl, rfl⟩
    · simp only [pj_lc_lt] at hc36
      refine pj_J.go (oX2_put G) 4 rfl trivial ?_
      refine pj_J.ite (fun hc45 => ?_) (fun hc45 => ?_)
      · simp only [pj_lc_le] at hc45
        refine pj_J.go (oX2_put G) 11 rfl ⟨by exact hs, by exact hs, trivial⟩ ?_
        refine pj_iret dX2_put_68 rfl ?_
        show _ = _ ∧ _ = _
        have e : fr_put (sx_R c 2) s n e = ((0 : Int32), sx_sL (sx_sL (sx_R c 2) 0 (vp_updL (sx_L (sx_R c 2) 0) s.toNatClampNeg (n / (fm_g n e)))) 1 (vp_updL (sx_L (sx_R c 2) 1) s.toNatClampNeg (e / (fm_g n e)))) := by unfold fr_put; rw [if_neg (show ¬ ((1099511627776 : Int64) < (n / (fm_g n e))) from hc27), if_neg (show ¬ ((n / (fm_g n e)) < (-1099511627776 : Int64)) from hc36), if_pos (show (e / (fm_g n e)) ≤ (1048576 : Int64) from hc45)]
        rw [e]
        try dsimp only
        exact ⟨rfl, rfl⟩
      · simp only [pj_lc_le] at hc45
        refine pj_J.go (oX2_put G) 1 rfl trivial ?_
        refine pj_iret dX2_put_50 rfl ?_
        show _ = _ ∧ _ = _
        have e : fr_put (sx_R c 2) s n e = ((-6 : Int32), (sx_R c 2)) := by unfold fr_put; rw [if_neg (show ¬ ((1099511627776 : Int64) < (n / (fm_g n e))) from hc27), if_neg (show ¬ ((n / (fm_g n e)) < (-1099511627776 : Int64)) from hc36), if_neg (show ¬ ((e / (fm_g n e)) ≤ (1048576 : Int64)) from hc45)]
        rw [e]
        try dsimp only
        exact ⟨rfl, rfl⟩
def fr_bgA (k : Nat) (u : sx_M) : sx_M := sx_sD (sx_sD (sx_sL (sx_sI (sx_sL (sx_sL u 0 (vp_updL (sx_L u 0) (nI k).toNatClampNeg (0 : Int64))) 1 (vp_updL (sx_L u 1) (nI k).toNatClampNeg (1 : Int64))) 2 (upd (sx_I u 2) (nI k).toNatClampNeg (vp_nar .boolean (0 : Int32)))) 3 (vp_updL (sx_L u 3) (nI k).toNatClampNeg (0 : Int64))) 14 (vf_upd (sx_D u 14) (nI k).toNatClampNeg FP.dconst0)) 16 (vf_upd (sx_D u 16) (nI k).toNatClampNeg FP.dconst0)
theorem ly_fr_bgA_0 {G : pj_G} {d : Nat} {c : sx_C} {m : sx_M} {o : Nat → Int64} {D : pj_H} {Q : pj_O → pj_H → Prop} (k : Nat) (hk : k < 8) (kk : pj_J G mX2_begin (d) 2 [some (.ref 10), some (.int (nI k + 1))] [] (sx_mk (sx_sR c 0 (fr_bgA k (sx_R c 0))) m o D) 0 0 Q) : pj_J G mX2_begin (d) 2 [some (.ref 10), some (.int (nI k))] [] (sx_mk c m o D) 0 0 Q := by
  unfold fr_bgA at kk
  refine pj_J.go (oX2_begin G) 3 rfl trivial ?_
  refine pj_J.neg (nI_lt_lit hk (by decide)) ?_
  refine pj_J.go (oX2_begin G) 32 rfl ⟨by exact vp_in_lit hk, by exact vp_in_lit hk, by exact vp_in_lit hk, by exact vp_in_lit hk, by exact vp_in_lit hk, by exact vp_in_lit hk, trivial⟩ ?_
  exact pj_J.drp kk ⟨rfl, rfl, trivial⟩
theorem ly_fr_bgA_1 {G : pj_G} {d : Nat} {c : sx_C} {m : sx_M} {o : Nat → Int64} {D : pj_H} {Q : pj_O → pj_H → Prop} (k : Nat) (hk : k < 8) (kk : pj_J G mX2_begin (d) 2 [some (.ref 21), some (.int (nI k + 1))] [] (sx_mk (sx_sR c 1 (fr_bgA k (sx_R c 1))) m o D) 0 0 Q) : pj_J G mX2_begin (d) 2 [some (.ref 21), some (.int (nI k))] [] (sx_mk c m o D) 0 0 Q := by
  unfold fr_bgA at kk
  refine pj_J.go (oX2_begin G) 3 rfl trivial ?_
  refine pj_J.neg (nI_lt_lit hk (by decide)) ?_
  refine pj_J.go (oX2_begin G) 32 rfl ⟨by exact vp_in_lit hk, by exact vp_in_lit hk, by exact vp_in_lit hk, by exact vp_in_lit hk, by exact vp_in_lit hk, by exact vp_in_lit hk, trivial⟩ ?_
  exact pj_J.drp kk ⟨rfl, rfl, trivial⟩
theorem ly_fr_bgA_2 {G : pj_G} {d : Nat} {c : sx_C} {m : sx_M} {o : Nat → Int64} {D : pj_H} {Q : pj_O → pj_H → Prop} (k : Nat) (hk : k < 8) (kk : pj_J G mX2_begin (d) 2 [some (.ref 32), some (.int (nI k + 1))] [] (sx_mk (sx_sR c 2 (fr_bgA k (sx_R c 2))) m o D) 0 0 Q) : pj_J G mX2_begin (d) 2 [some (.ref 32), some (.int (nI k))] [] (sx_mk c m o D) 0 0 Q := by
  unfold fr_bgA at kk
  refine pj_J.go (oX2_begin G) 3 rfl trivial ?_
  refine pj_J.neg (nI_lt_lit hk (by decide)) ?_
  refine pj_J.go (oX2_begin G) 32 rfl ⟨by exact vp_in_lit hk, by exact vp_in_lit hk, by exact vp_in_lit hk, by exact vp_in_lit hk, by exact vp_in_lit hk, by exact vp_in_lit hk, trivial⟩ ?_
  exact pj_J.drp kk ⟨rfl, rfl, trivial⟩
def fr_bgB (k : Nat) (u : sx_M) : sx_M := sx_sD (sx_sL u 7 (vp_updL (sx_L u 7) (nI k).toNatClampNeg (0 : Int64))) 15 (vf_upd (sx_D u 15) (nI k).toNatClampNeg FP.dconst0)
theorem ly_fr_bgB_0 {G : pj_G} {d : Nat} {c : sx_C} {m : sx_M} {o : Nat → Int64} {D : pj_H} {Q : pj_O → pj_H → Prop} (k : Nat) (hk : k < 12) (kk : pj_J G mX2_begin (d) 58 [some (.ref 10), some (.int (nI k + 1))] [] (sx_mk (sx_sR c 0 (fr_bgB k (sx_R c 0))) m o D) 0 0 Q) : pj_J G mX2_begin (d) 58 [some (.ref 10), some (.int (nI k))] [] (sx_mk c m o D) 0 0 Q := by
  unfold fr_bgB at kk
  refine pj_J.go (oX2_begin G) 3 rfl trivial ?_
  refine pj_J.neg (nI_lt_lit hk (by decide)) ?_
  refine pj_J.go (oX2_begin G) 12 rfl ⟨by exact vp_in_lit hk, by exact vp_in_lit hk, trivial⟩ ?_
  exact pj_J.drp kk ⟨rfl, rfl, trivial⟩
theorem ly_fr_bgB_1 {G : pj_G} {d : Nat} {c : sx_C} {m : sx_M} {o : Nat → Int64} {D : pj_H} {Q : pj_O → pj_H → Prop} (k : Nat) (hk : k < 12) (kk : pj_J G mX2_begin (d) 58 [some (.ref 21), some (.int (nI k + 1))] [] (sx_mk (sx_sR c 1 (fr_bgB k (sx_R c 1))) m o D) 0 0 Q) : pj_J G mX2_begin (d) 58 [some (.ref 21), some (.int (nI k))] [] (sx_mk c m o D) 0 0 Q := by
  unfold fr_bgB at kk
  refine pj_J.go (oX2_begin G) 3 rfl trivial ?_
  refine pj_J.neg (nI_lt_lit hk (by decide)) ?_
  refine pj_J.go (oX2_begin G) 12 rfl ⟨by exact vp_in_lit hk, by exact vp_in_lit hk, trivial⟩ ?_
  exact pj_J.drp kk ⟨rfl, rfl, trivial⟩
theorem ly_fr_bgB_2 {G : pj_G} {d : Nat} {c : sx_C} {m : sx_M} {o : Nat → Int64} {D : pj_H} {Q : pj_O → pj_H → Prop} (k : Nat) (hk : k < 12) (kk : pj_J G mX2_begin (d) 58 [some (.ref 32), some (.int (nI k + 1))] [] (sx_mk (sx_sR c 2 (fr_bgB k (sx_R c 2))) m o D) 0 0 Q) : pj_J G mX2_begin (d) 58 [some (.ref 32), some (.int (nI k))] [] (sx_mk c m o D) 0 0 Q := by
  unfold fr_bgB at kk
  refine pj_J.go (oX2_begin G) 3 rfl trivial ?_
  refine pj_J.neg (nI_lt_lit hk (by decide)) ?_
  refine pj_J.go (oX2_begin G) 12 rfl ⟨by exact vp_in_lit hk, by exact vp_in_lit hk, trivial⟩ ?_
  exact pj_J.drp kk ⟨rfl, rfl, trivial⟩
def fr_brA (k : Nat) (u : sx_M) : sx_M := sx_sL u 12 (vp_updL (sx_L u 12) (nI k).toNatClampNeg (0 : Int64))
theorem ly_fr_brA_0 {G : pj_G} {d : Nat} {c : sx_C} {m : sx_M} {o : Nat → Int64} {D : pj_H} {Q : pj_O → pj_H → Prop} (k : Nat) (hk : k < 8) (kk : pj_J G mX2_bare (d) 2 [some (.ref 10), some (.int (nI k + 1))] [] (sx_mk (sx_sR c 0 (fr_brA k (sx_R c 0))) m o D) 0 0 Q) : pj_J G mX2_bare (d) 2 [some (.ref 10), some (.int (nI k))] [] (sx_mk c m o D) 0 0 Q := by
  unfold fr_brA at kk
  refine pj_J.go (oX2_bare G) 3 rfl trivial ?_
  refine pj_J.neg (nI_lt_lit hk (by decide)) ?_
  refine pj_J.go (oX2_bare G) 7 rfl ⟨by exact vp_in_lit hk, trivial⟩ ?_
  exact pj_J.drp kk ⟨rfl, rfl, trivial⟩
theorem ly_fr_brA_1 {G : pj_G} {d : Nat} {c : sx_C} {m : sx_M} {o : Nat → Int64} {D : pj_H} {Q : pj_O → pj_H → Prop} (k : Nat) (hk : k < 8) (kk : pj_J G mX2_bare (d) 2 [some (.ref 21), some (.int (nI k + 1))] [] (sx_mk (sx_sR c 1 (fr_brA k (sx_R c 1))) m o D) 0 0 Q) : pj_J G mX2_bare (d) 2 [some (.ref 21), some (.int (nI k))] [] (sx_mk c m o D) 0 0 Q := by
  unfold fr_brA at kk
  refine pj_J.go (oX2_bare G) 3 rfl trivial ?_
  refine pj_J.neg (nI_lt_lit hk (by decide)) ?_
  refine pj_J.go (oX2_bare G) 7 rfl ⟨by exact vp_in_lit hk, trivial⟩ ?_
  exact pj_J.drp kk ⟨rfl, rfl, trivial⟩
theorem ly_fr_brA_2 {G : pj_G} {d : Nat} {c : sx_C} {m : sx_M} {o : Nat → Int64} {D : pj_H} {Q : pj_O → pj_H → Prop} (k : Nat) (hk : k < 8) (kk : pj_J G mX2_bare (d) 2 [some (.ref 32), some (.int (nI k + 1))] [] (sx_mk (sx_sR c 2 (fr_brA k (sx_R c 2))) m o D) 0 0 Q) : pj_J G mX2_bare (d) 2 [some (.ref 32), some (.int (nI k))] [] (sx_mk c m o D) 0 0 Q := by
  unfold fr_brA at kk
  refine pj_J.go (oX2_bare G) 3 rfl trivial ?_
  refine pj_J.neg (nI_lt_lit hk (by decide)) ?_
  refine pj_J.go (oX2_bare G) 7 rfl ⟨by exact vp_in_lit hk, trivial⟩ ?_
  exact pj_J.drp kk ⟨rfl, rfl, trivial⟩
def fr_begin (u : sx_M) : sx_M := sx_si (sx_si (it_up fr_bgB 12 0 (it_up fr_bgA 8 0 u)) 4 0) 5 (-1)
def fr_bareS (u : sx_M) : sx_M := sx_sd (sx_sl (sx_sl (sx_si u 13 0) 10 0) 11 1) 17 FP.dconst0
def fr_bare (u : sx_M) : sx_M := fr_bareS (it_up fr_brA 8 0 u)
theorem lz_fr_bgA_0 {G : pj_G} {d : Nat} {c : sx_C} {m : sx_M} {o : Nat → Int64} {D : pj_H} {Q : pj_O → pj_H → Prop}  (kk : pj_J G mX2_begin (d) 58 [some (.ref 10), some (.int (nI 0))] [] (sx_mk c m o D) 0 0 Q) : pj_J G mX2_begin (d) 2 [some (.ref 10), some (.int (nI 8))] [] (sx_mk c m o D) 0 0 Q := by
  refine pj_J.go (oX2_begin G) 3 rfl trivial ?_
  refine pj_J.pos (nI_ge_lit (Nat.le_refl _) (by decide)) ?_
  refine pj_J.go (oX2_begin G) 2 rfl trivial ?_
  exact pj_J.drp kk ⟨rfl, rfl, trivial⟩
theorem lz_fr_bgB_0 {G : pj_G} {d : Nat} {c : sx_C} {m : sx_M} {o : Nat → Int64} {D : pj_H} {Q : pj_O → pj_H → Prop} (q : Q (.inl none) (sx_mk (sx_sR c 0 (sx_si (sx_si (sx_R c 0) 4 0) 5 (-1))) m o D)) : pj_J G mX2_begin (d) 58 [some (.ref 10), some (.int (nI 12))] [] (sx_mk c m o D) 0 0 Q := by
  refine pj_J.go (oX2_begin G) 3 rfl trivial ?_
  refine pj_J.pos (nI_ge_lit (Nat.le_refl _) (by decide)) ?_
  refine pj_J.go (oX2_begin G) 6 rfl ⟨by first | exact Or.inl rfl | exact Or.inr rfl, trivial⟩ ?_
  exact pj_vret dX2_begin_94 rfl q
theorem lz_fr_brA_0 {G : pj_G} {d : Nat} {c : sx_C} {m : sx_M} {o : Nat → Int64} {D : pj_H} {Q : pj_O → pj_H → Prop} (q : Q (.inl none) (sx_mk (sx_sR c 0 (fr_bareS (sx_R c 0))) m o D)) : pj_J G mX2_bare (d) 2 [some (.ref 10), some (.int (nI 8))] [] (sx_mk c m o D) 0 0 Q := by
  refine pj_J.go (oX2_bare G) 3 rfl trivial ?_
  refine pj_J.pos (nI_ge_lit (Nat.le_refl _) (by decide)) ?_
  refine pj_J.go (oX2_bare G) 12 rfl trivial ?_
  exact pj_vret dX2_bare_41 rfl q
theorem c_X2_begin_0 {G : pj_G} {d : Nat} {c : sx_C} {m : sx_M} {o : Nat → Int64} {D : pj_H} : pj_Rt G mX2_begin d [.ref 10] (sx_mk c m o D) 0 0 none (sx_mk (sx_sR c 0 (fr_begin (sx_R c 0))) m o D) := by
  refine pj_Cn.start ?_
  refine pj_J.go (oX2_begin G) 2 rfl trivial ?_
  refine pj_for (fun k s => pj_J G mX2_begin d 2 [some (.ref 10), some (.int (nI k))] [] (sx_mk (sx_sR c 0 s) m o D) 0 0 _) fr_bgA (fun _ _ => True) 8 (fun k s hk hi => ⟨hi, fun kk => ly_fr_bgA_0 (c := (sx_sR c 0 s)) k hk (by rw [nI_add1]; exact kk)⟩) 8 0 (sx_R c 0) (by simp) trivial (fun hi => lz_fr_bgA_0 (c := (sx_sR c 0 (it_up fr_bgA 8 0 (sx_R c 0)))) ?_)
  exact pj_for (fun k s => pj_J G mX2_begin d 58 [some (.ref 10), some (.int (nI k))] [] (sx_mk (sx_sR c 0 s) m o D) 0 0 _) fr_bgB (fun _ _ => True) 12 (fun k s hk hi => ⟨hi, fun kk => ly_fr_bgB_0 (c := (sx_sR c 0 s)) k hk (by rw [nI_add1]; exact kk)⟩) 12 0 (it_up fr_bgA 8 0 (sx_R c 0)) (by simp) trivial (fun hi => lz_fr_bgB_0 (c := (sx_sR c 0 (it_up fr_bgB 12 0 (it_up fr_bgA 8 0 (sx_R c 0))))) ⟨rfl, rfl⟩)
theorem c_X2_bare_0 {G : pj_G} {d : Nat} {c : sx_C} {m : sx_M} {o : Nat → Int64} {D : pj_H} : pj_Rt G mX2_bare d [.ref 10] (sx_mk c m o D) 0 0 none (sx_mk (sx_sR c 0 (fr_bare (sx_R c 0))) m o D) := by
  refine pj_Cn.start ?_
  refine pj_J.go (oX2_bare G) 2 rfl trivial ?_
  exact pj_for (fun k s => pj_J G mX2_bare d 2 [some (.ref 10), some (.int (nI k))] [] (sx_mk (sx_sR c 0 s) m o D) 0 0 _) fr_brA (fun _ _ => True) 8 (fun k s hk hi => ⟨hi, fun kk => ly_fr_brA_0 (c := (sx_sR c 0 s)) k hk (by rw [nI_add1]; exact kk)⟩) 8 0 (sx_R c 0) (by simp) trivial (fun hi => lz_fr_brA_0 (c := (sx_sR c 0 (it_up fr_brA 8 0 (sx_R c 0)))) ⟨rfl, rfl⟩)
theorem lz_fr_bgA_1 {G : pj_G} {d : Nat} {c : sx_C} {m : sx_M} {o : Nat → Int64} {D : pj_H} {Q : pj_O → pj_H → Prop}  (kk : pj_J G mX2_begin (d) 58 [some (.ref 21), some (.int (nI 0))] [] (sx_mk c m o D) 0 0 Q) : pj_J G mX2_begin (d) 2 [some (.ref 21), some (.int (nI 8))] [] (sx_mk c m o D) 0 0 Q := by
  refine pj_J.go (oX2_begin G) 3 rfl trivial ?_
  refine pj_J.pos (nI_ge_lit (Nat.le_refl _) (by decide)) ?_
  refine pj_J.go (oX2_begin G) 2 rfl trivial ?_
  exact pj_J.drp kk ⟨rfl, rfl, trivial⟩
theorem lz_fr_bgB_1 {G : pj_G} {d : Nat} {c : sx_C} {m : sx_M} {o : Nat → Int64} {D : pj_H} {Q : pj_O → pj_H → Prop} (q : Q (.inl none) (sx_mk (sx_sR c 1 (sx_si (sx_si (sx_R c 1) 4 0) 5 (-1))) m o D)) : pj_J G mX2_begin (d) 58 [some (.ref 21), some (.int (nI 12))] [] (sx_mk c m o D) 0 0 Q := by
  refine pj_J.go (oX2_begin G) 3 rfl trivial ?_
  refine pj_J.pos (nI_ge_lit (Nat.le_refl _) (by decide)) ?_
  refine pj_J.go (oX2_begin G) 6 rfl ⟨by first | exact Or.inl rfl | exact Or.inr rfl, trivial⟩ ?_
  exact pj_vret dX2_begin_94 rfl q
theorem lz_fr_brA_1 {G : pj_G} {d : Nat} {c : sx_C} {m : sx_M} {o : Nat → Int64} {D : pj_H} {Q : pj_O → pj_H → Prop} (q : Q (.inl none) (sx_mk (sx_sR c 1 (fr_bareS (sx_R c 1))) m o D)) : pj_J G mX2_bare (d) 2 [some (.ref 21), some (.int (nI 8))] [] (sx_mk c m o D) 0 0 Q := by
  refine pj_J.go (oX2_bare G) 3 rfl trivial ?_
  refine pj_J.pos (nI_ge_lit (Nat.le_refl _) (by decide)) ?_
  refine pj_J.go (oX2_bare G) 12 rfl trivial ?_
  exact pj_vret dX2_bare_41 rfl q
theorem c_X2_begin_1 {G : pj_G} {d : Nat} {c : sx_C} {m : sx_M} {o : Nat → Int64} {D : pj_H} : pj_Rt G mX2_begin d [.ref 21] (sx_mk c m o D) 0 0 none (sx_mk (sx_sR c 1 (fr_begin (sx_R c 1))) m o D) := by
  refine pj_Cn.start ?_
  refine pj_J.go (oX2_begin G) 2 rfl trivial ?_
  refine pj_for (fun k s => pj_J G mX2_begin d 2 [some (.ref 21), some (.int (nI k))] [] (sx_mk (sx_sR c 1 s) m o D) 0 0 _) fr_bgA (fun _ _ => True) 8 (fun k s hk hi => ⟨hi, fun kk => ly_fr_bgA_1 (c := (sx_sR c 1 s)) k hk (by rw [nI_add1]; exact kk)⟩) 8 0 (sx_R c 1) (by simp) trivial (fun hi => lz_fr_bgA_1 (c := (sx_sR c 1 (it_up fr_bgA 8 0 (sx_R c 1)))) ?_)
  exact pj_for (fun k s => pj_J G mX2_begin d 58 [some (.ref 21), some (.int (nI k))] [] (sx_mk (sx_sR c 1 s) m o D) 0 0 _) fr_bgB (fun _ _ => True) 12 (fun k s hk hi => ⟨hi, fun kk => ly_fr_bgB_1 (c := (sx_sR c 1 s)) k hk (by rw [nI_add1]; exact kk)⟩) 12 0 (it_up fr_bgA 8 0 (sx_R c 1)) (by simp) trivial (fun hi => lz_fr_bgB_1 (c := (sx_sR c 1 (it_up fr_bgB 12 0 (it_up fr_bgA 8 0 (sx_R c 1))))) ⟨rfl, rfl⟩)
theorem c_X2_bare_1 {G : pj_G} {d : Nat} {c : sx_C} {m : sx_M} {o : Nat → Int64} {D : pj_H} : pj_Rt G mX2_bare d [.ref 21] (sx_mk c m o D) 0 0 none (sx_mk (sx_sR c 1 (fr_bare (sx_R c 1))) m o D) := by
  refine pj_Cn.start ?_
  refine pj_J.go (oX2_bare G) 2 rfl trivial ?_
  exact pj_for (fun k s => pj_J G mX2_bare d 2 [some (.ref 21), some (.int (nI k))] [] (sx_mk (sx_sR c 1 s) m o D) 0 0 _) fr_brA (fun _ _ => True) 8 (fun k s hk hi => ⟨hi, fun kk => ly_fr_brA_1 (c := (sx_sR c 1 s)) k hk (by rw [nI_add1]; exact kk)⟩) 8 0 (sx_R c 1) (by simp) trivial (fun hi => lz_fr_brA_1 (c := (sx_sR c 1 (it_up fr_brA 8 0 (sx_R c 1)))) ⟨rfl, rfl⟩)
theorem lz_fr_bgA_2 {G : pj_G} {d : Nat} {c : sx_C} {m : sx_M} {o : Nat → Int64} {D : pj_H} {Q : pj_O → pj_H → Prop}  (kk : pj_J G mX2_begin (d) 58 [some (.ref 32), some (.int (nI 0))] [] (sx_mk c m o D) 0 0 Q) : pj_J G mX2_begin (d) 2 [some (.ref 32), some (.int (nI 8))] [] (sx_mk c m o D) 0 0 Q := by
  refine pj_J.go (oX2_begin G) 3 rfl trivial ?_
  refine pj_J.pos (nI_ge_lit (Nat.le_refl _) (by decide)) ?_
  refine pj_J.go (oX2_begin G) 2 rfl trivial ?_
  exact pj_J.drp kk ⟨rfl, rfl, trivial⟩
theorem lz_fr_bgB_2 {G : pj_G} {d : Nat} {c : sx_C} {m : sx_M} {o : Nat → Int64} {D : pj_H} {Q : pj_O → pj_H → Prop} (q : Q (.inl none) (sx_mk (sx_sR c 2 (sx_si (sx_si (sx_R c 2) 4 0) 5 (-1))) m o D)) : pj_J G mX2_begin (d) 58 [some (.ref 32), some (.int (nI 12))] [] (sx_mk c m o D) 0 0 Q := by
  refine pj_J.go (oX2_begin G) 3 rfl trivial ?_
  refine pj_J.pos (nI_ge_lit (Nat.le_refl _) (by decide)) ?_
  refine pj_J.go (oX2_begin G) 6 rfl ⟨by first | exact Or.inl rfl | exact Or.inr rfl, trivial⟩ ?_
  exact pj_vret dX2_begin_94 rfl q
theorem lz_fr_brA_2 {G : pj_G} {d : Nat} {c : sx_C} {m : sx_M} {o : Nat → Int64} {D : pj_H} {Q : pj_O → pj_H → Prop} (q : Q (.inl none) (sx_mk (sx_sR c 2 (fr_bareS (sx_R c 2))) m o D)) : pj_J G mX2_bare (d) 2 [some (.ref 32), some (.int (nI 8))] [] (sx_mk c m o D) 0 0 Q := by
  refine pj_J.go (oX2_bare G) 3 rfl trivial ?_
  refine pj_J.pos (nI_ge_lit (Nat.le_refl _) (by decide)) ?_
  refine pj_J.go (oX2_bare G) 12 rfl trivial ?_
  exact pj_vret dX2_bare_41 rfl q
theorem c_X2_begin_2 {G : pj_G} {d : Nat} {c : sx_C} {m : sx_M} {o : Nat → Int64} {D : pj_H} : pj_Rt G mX2_begin d [.ref 32] (sx_mk c m o D) 0 0 none (sx_mk (sx_sR c 2 (fr_begin (sx_R c 2))) m o D) := by
  refine pj_Cn.start ?_
  refine pj_J.go (oX2_begin G) 2 rfl trivial ?_
  refine pj_for (fun k s => pj_J G mX2_begin d 2 [some (.ref 32), some (.int (nI k))] [] (sx_mk (sx_sR c 2 s) m o D) 0 0 _) fr_bgA (fun _ _ => True) 8 (fun k s hk hi => ⟨hi, fun kk => ly_fr_bgA_2 (c := (sx_sR c 2 s)) k hk (by rw [nI_add1]; exact kk)⟩) 8 0 (sx_R c 2) (by simp) trivial (fun hi => lz_fr_bgA_2 (c := (sx_sR c 2 (it_up fr_bgA 8 0 (sx_R c 2)))) ?_)
  exact pj_for (fun k s => pj_J G mX2_begin d 58 [some (.ref 32), some (.int (nI k))] [] (sx_mk (sx_sR c 2 s) m o D) 0 0 _) fr_bgB (fun _ _ => True) 12 (fun k s hk hi => ⟨hi, fun kk => ly_fr_bgB_2 (c := (sx_sR c 2 s)) k hk (by rw [nI_add1]; exact kk)⟩) 12 0 (it_up fr_bgA 8 0 (sx_R c 2)) (by simp) trivial (fun hi => lz_fr_bgB_2 (c := (sx_sR c 2 (it_up fr_bgB 12 0 (it_up fr_bgA 8 0 (sx_R c 2))))) ⟨rfl, rfl⟩)
theorem c_X2_bare_2 {G : pj_G} {d : Nat} {c : sx_C} {m : sx_M} {o : Nat → Int64} {D : pj_H} : pj_Rt G mX2_bare d [.ref 32] (sx_mk c m o D) 0 0 none (sx_mk (sx_sR c 2 (fr_bare (sx_R c 2))) m o D) := by
  refine pj_Cn.start ?_
  refine pj_J.go (oX2_bare G) 2 rfl trivial ?_
  exact pj_for (fun k s => pj_J G mX2_bare d 2 [some (.ref 32), some (.int (nI k))] [] (sx_mk (sx_sR c 2 s) m o D) 0 0 _) fr_brA (fun _ _ => True) 8 (fun k s hk hi => ⟨hi, fun kk => ly_fr_brA_2 (c := (sx_sR c 2 s)) k hk (by rw [nI_add1]; exact kk)⟩) 8 0 (sx_R c 2) (by simp) trivial (fun hi => lz_fr_brA_2 (c := (sx_sR c 2 (it_up fr_brA 8 0 (sx_R c 2)))) ⟨rfl, rfl⟩)
def fr_blA (f : Nat → Int32) (k : Nat) (u : sx_M) : sx_M := sx_sI u 8 (upd (sx_I u 8) (nI k).toNatClampNeg (f (nI k).toNatClampNeg))
def fr_bill (u : sx_M) (f : Nat → Int32) (n : Nat) : sx_M := sx_si (it_up (fr_blA f) n 0 u) 9 (nI n)
theorem ly_fr_bl_5_0 {G : pj_G} {d : Nat} {c : sx_C} {m : sx_M} {o : Nat → Int64} {D : pj_H} {Q : pj_O → pj_H → Prop} (n : Nat) (hn : n ≤ 12) (k : Nat) (hk : k < n) (kk : pj_J G mX2_bill d 2 [some (.ref 10), some (.ref 5), some (.int (nI n)), some (.int (nI k + 1))] [] (sx_mk (sx_sR c 0 (fr_blA (sx_I c.1 2) k (sx_R c 0))) m o D) 0 0 Q) : pj_J G mX2_bill d 2 [some (.ref 10), some (.ref 5), some (.int (nI n)), some (.int (nI k))] [] (sx_mk c m o D) 0 0 Q := by
  refine pj_J.go (oX2_bill G) 3 rfl trivial ?_
  refine pj_J.neg (nI_lt_lit hk (by omega)) ?_
  refine pj_J.go (oX2_bill G) 9 rfl ⟨by exact vp_in_lit (by omega) (by decide), by exact vp_in_lit (by omega) (by decide), trivial⟩ ?_
  exact kk
theorem lz_fr_bl_5_0 {G : pj_G} {d : Nat} {c : sx_C} {m : sx_M} {o : Nat → Int64} {D : pj_H} {Q : pj_O → pj_H → Prop} (n : Nat) (hn : n ≤ 12) (q : Q (.inl none) (sx_mk (sx_sR c 0 (sx_si (sx_R c 0) 9 (nI n))) m o D)) : pj_J G mX2_bill (d) 2 [some (.ref 10), some (.ref 5), some (.int (nI n)), some (.int (nI n))] [] (sx_mk c m o D) 0 0 Q := by
  refine pj_J.go (oX2_bill G) 3 rfl trivial ?_
  refine pj_J.pos (nI_ge_lit (Nat.le_refl _) (by omega)) ?_
  refine pj_J.go (oX2_bill G) 3 rfl trivial ?_
  exact pj_vret dX2_bill_27 rfl q
theorem c_X2_bill_5_0 {G : pj_G} {d : Nat} {c : sx_C} {m : sx_M} {o : Nat → Int64} {D : pj_H} (n : Nat) (hn : n ≤ 12) : pj_Rt G mX2_bill d [.ref 10, .ref 5, .int (nI n)] (sx_mk c m o D) 0 0 none (sx_mk (sx_sR c 0 (fr_bill (sx_R c 0) (sx_I c.1 2) n)) m o D) := by
  refine pj_Cn.start ?_
  refine pj_J.go (oX2_bill G) 2 rfl trivial ?_
  exact pj_for (fun k s => pj_J G mX2_bill d 2 [some (.ref 10), some (.ref 5), some (.int (nI n)), some (.int (nI k))] [] (sx_mk (sx_sR c 0 s) m o D) 0 0 _) (fr_blA (sx_I c.1 2)) (fun _ _ => True) n (fun k s hk hi => ⟨hi, fun kk => ly_fr_bl_5_0 (c := (sx_sR c 0 s)) n hn k hk (by rw [nI_add1]; exact kk)⟩) n 0 (sx_R c 0) (by simp) trivial (fun hi => lz_fr_bl_5_0 (c := (sx_sR c 0 (it_up (fr_blA (sx_I c.1 2)) n 0 (sx_R c 0)))) n hn ⟨rfl, rfl⟩)
theorem ly_fr_bl_5_1 {G : pj_G} {d : Nat} {c : sx_C} {m : sx_M} {o : Nat → Int64} {D : pj_H} {Q : pj_O → pj_H → Prop} (n : Nat) (hn : n ≤ 12) (k : Nat) (hk : k < n) (kk : pj_J G mX2_bill d 2 [some (.ref 21), some (.ref 5), some (.int (nI n)), some (.int (nI k + 1))] [] (sx_mk (sx_sR c 1 (fr_blA (sx_I c.1 2) k (sx_R c 1))) m o D) 0 0 Q) : pj_J G mX2_bill d 2 [some (.ref 21), some (.ref 5), some (.int (nI n)), some (.int (nI k))] [] (sx_mk c m o D) 0 0 Q := by
  refine pj_J.go (oX2_bill G) 3 rfl trivial ?_
  refine pj_J.neg (nI_lt_lit hk (by omega)) ?_
  refine pj_J.go (oX2_bill G) 9 rfl ⟨by exact vp_in_lit (by omega) (by decide), by exact vp_in_lit (by omega) (by decide), trivial⟩ ?_
  exact kk
theorem lz_fr_bl_5_1 {G : pj_G} {d : Nat} {c : sx_C} {m : sx_M} {o : Nat → Int64} {D : pj_H} {Q : pj_O → pj_H → Prop} (n : Nat) (hn : n ≤ 12) (q : Q (.inl none) (sx_mk (sx_sR c 1 (sx_si (sx_R c 1) 9 (nI n))) m o D)) : pj_J G mX2_bill (d) 2 [some (.ref 21), some (.ref 5), some (.int (nI n)), some (.int (nI n))] [] (sx_mk c m o D) 0 0 Q := by
  refine pj_J.go (oX2_bill G) 3 rfl trivial ?_
  refine pj_J.pos (nI_ge_lit (Nat.le_refl _) (by omega)) ?_
  refine pj_J.go (oX2_bill G) 3 rfl trivial ?_
  exact pj_vret dX2_bill_27 rfl q
theorem c_X2_bill_5_1 {G : pj_G} {d : Nat} {c : sx_C} {m : sx_M} {o : Nat → Int64} {D : pj_H} (n : Nat) (hn : n ≤ 12) : pj_Rt G mX2_bill d [.ref 21, .ref 5, .int (nI n)] (sx_mk c m o D) 0 0 none (sx_mk (sx_sR c 1 (fr_bill (sx_R c 1) (sx_I c.1 2) n)) m o D) := by
  refine pj_Cn.start ?_
  refine pj_J.go (oX2_bill G) 2 rfl trivial ?_
  exact pj_for (fun k s => pj_J G mX2_bill d 2 [some (.ref 21), some (.ref 5), some (.int (nI n)), some (.int (nI k))] [] (sx_mk (sx_sR c 1 s) m o D) 0 0 _) (fr_blA (sx_I c.1 2)) (fun _ _ => True) n (fun k s hk hi => ⟨hi, fun kk => ly_fr_bl_5_1 (c := (sx_sR c 1 s)) n hn k hk (by rw [nI_add1]; exact kk)⟩) n 0 (sx_R c 1) (by simp) trivial (fun hi => lz_fr_bl_5_1 (c := (sx_sR c 1 (it_up (fr_blA (sx_I c.1 2)) n 0 (sx_R c 1)))) n hn ⟨rfl, rfl⟩)
theorem ly_fr_bl_47_1 {G : pj_G} {d : Nat} {c : sx_C} {m : sx_M} {o : Nat → Int64} {D : pj_H} {Q : pj_O → pj_H → Prop} (n : Nat) (hn : n ≤ 1) (k : Nat) (hk : k < n) (kk : pj_J G mX2_bill d 2 [some (.ref 21), some (.ref 47), some (.int (nI n)), some (.int (nI k + 1))] [] (sx_mk (sx_sR c 1 (fr_blA (sx_I c.1 18) k (sx_R c 1))) m o D) 0 0 Q) : pj_J G mX2_bill d 2 [some (.ref 21), some (.ref 47), some (.int (nI n)), some (.int (nI k))] [] (sx_mk c m o D) 0 0 Q := by
  refine pj_J.go (oX2_bill G) 3 rfl trivial ?_
  refine pj_J.neg (nI_lt_lit hk (by omega)) ?_
  refine pj_J.go (oX2_bill G) 9 rfl ⟨by exact vp_in_lit (by omega) (by decide), by exact vp_in_lit (by omega) (by decide), trivial⟩ ?_
  exact kk
theorem lz_fr_bl_47_1 {G : pj_G} {d : Nat} {c : sx_C} {m : sx_M} {o : Nat → Int64} {D : pj_H} {Q : pj_O → pj_H → Prop} (n : Nat) (hn : n ≤ 1) (q : Q (.inl none) (sx_mk (sx_sR c 1 (sx_si (sx_R c 1) 9 (nI n))) m o D)) : pj_J G mX2_bill (d) 2 [some (.ref 21), some (.ref 47), some (.int (nI n)), some (.int (nI n))] [] (sx_mk c m o D) 0 0 Q := by
  refine pj_J.go (oX2_bill G) 3 rfl trivial ?_
  refine pj_J.pos (nI_ge_lit (Nat.le_refl _) (by omega)) ?_
  refine pj_J.go (oX2_bill G) 3 rfl trivial ?_
  exact pj_vret dX2_bill_27 rfl q
theorem c_X2_bill_47_1 {G : pj_G} {d : Nat} {c : sx_C} {m : sx_M} {o : Nat → Int64} {D : pj_H} (n : Nat) (hn : n ≤ 1) : pj_Rt G mX2_bill d [.ref 21, .ref 47, .int (nI n)] (sx_mk c m o D) 0 0 none (sx_mk (sx_sR c 1 (fr_bill (sx_R c 1) (sx_I c.1 18) n)) m o D) := by
  refine pj_Cn.start ?_
  refine pj_J.go (oX2_bill G) 2 rfl trivial ?_
  exact pj_for (fun k s => pj_J G mX2_bill d 2 [some (.ref 21), some (.ref 47), some (.int (nI n)), some (.int (nI k))] [] (sx_mk (sx_sR c 1 s) m o D) 0 0 _) (fr_blA (sx_I c.1 18)) (fun _ _ => True) n (fun k s hk hi => ⟨hi, fun kk => ly_fr_bl_47_1 (c := (sx_sR c 1 s)) n hn k hk (by rw [nI_add1]; exact kk)⟩) n 0 (sx_R c 1) (by simp) trivial (fun hi => lz_fr_bl_47_1 (c := (sx_sR c 1 (it_up (fr_blA (sx_I c.1 18)) n 0 (sx_R c 1)))) n hn ⟨rfl, rfl⟩)
theorem ly_fr_bl_47_2 {G : pj_G} {d : Nat} {c : sx_C} {m : sx_M} {o : Nat → Int64} {D : pj_H} {Q : pj_O → pj_H → Prop} (n : Nat) (hn : n ≤ 1) (k : Nat) (hk : k < n) (kk : pj_J G mX2_bill d 2 [some (.ref 32), some (.ref 47), some (.int (nI n)), some (.int (nI k + 1))] [] (sx_mk (sx_sR c 2 (fr_blA (sx_I c.1 18) k (sx_R c 2))) m o D) 0 0 Q) : pj_J G mX2_bill d 2 [some (.ref 32), some (.ref 47), some (.int (nI n)), some (.int (nI k))] [] (sx_mk c m o D) 0 0 Q := by
  refine pj_J.go (oX2_bill G) 3 rfl trivial ?_
  refine pj_J.neg (nI_lt_lit hk (by omega)) ?_
  refine pj_J.go (oX2_bill G) 9 rfl ⟨by exact vp_in_lit (by omega) (by decide), by exact vp_in_lit (by omega) (by decide), trivial⟩ ?_
  exact kk
theorem lz_fr_bl_47_2 {G : pj_G} {d : Nat} {c : sx_C} {m : sx_M} {o : Nat → Int64} {D : pj_H} {Q : pj_O → pj_H → Prop} (n : Nat) (hn : n ≤ 1) (q : Q (.inl none) (sx_mk (sx_sR c 2 (sx_si (sx_R c 2) 9 (nI n))) m o D)) : pj_J G mX2_bill (d) 2 [some (.ref 32), some (.ref 47), some (.int (nI n)), some (.int (nI n))] [] (sx_mk c m o D) 0 0 Q := by
  refine pj_J.go (oX2_bill G) 3 rfl trivial ?_
  refine pj_J.pos (nI_ge_lit (Nat.le_refl _) (by omega)) ?_
  refine pj_J.go (oX2_bill G) 3 rfl trivial ?_
  exact pj_vret dX2_bill_27 rfl q
theorem c_X2_bill_47_2 {G : pj_G} {d : Nat} {c : sx_C} {m : sx_M} {o : Nat → Int64} {D : pj_H} (n : Nat) (hn : n ≤ 1) : pj_Rt G mX2_bill d [.ref 32, .ref 47, .int (nI n)] (sx_mk c m o D) 0 0 none (sx_mk (sx_sR c 2 (fr_bill (sx_R c 2) (sx_I c.1 18) n)) m o D) := by
  refine pj_Cn.start ?_
  refine pj_J.go (oX2_bill G) 2 rfl trivial ?_
  exact pj_for (fun k s => pj_J G mX2_bill d 2 [some (.ref 32), some (.ref 47), some (.int (nI n)), some (.int (nI k))] [] (sx_mk (sx_sR c 2 s) m o D) 0 0 _) (fr_blA (sx_I c.1 18)) (fun _ _ => True) n (fun k s hk hi => ⟨hi, fun kk => ly_fr_bl_47_2 (c := (sx_sR c 2 s)) n hn k hk (by rw [nI_add1]; exact kk)⟩) n 0 (sx_R c 2) (by simp) trivial (fun hi => lz_fr_bl_47_2 (c := (sx_sR c 2 (it_up (fr_blA (sx_I c.1 18)) n 0 (sx_R c 2)))) n hn ⟨rfl, rfl⟩)
theorem ly_fr_bl_46_2 {G : pj_G} {d : Nat} {c : sx_C} {m : sx_M} {o : Nat → Int64} {D : pj_H} {Q : pj_O → pj_H → Prop} (n : Nat) (hn : n ≤ 12) (k : Nat) (hk : k < n) (kk : pj_J G mX2_bill d 2 [some (.ref 32), some (.ref 46), some (.int (nI n)), some (.int (nI k + 1))] [] (sx_mk (sx_sR c 2 (fr_blA (sx_I c.1 17) k (sx_R c 2))) m o D) 0 0 Q) : pj_J G mX2_bill d 2 [some (.ref 32), some (.ref 46), some (.int (nI n)), some (.int (nI k))] [] (sx_mk c m o D) 0 0 Q := by
  refine pj_J.go (oX2_bill G) 3 rfl trivial ?_
  refine pj_J.neg (nI_lt_lit hk (by omega)) ?_
  refine pj_J.go (oX2_bill G) 9 rfl ⟨by exact vp_in_lit (by omega) (by decide), by exact vp_in_lit (by omega) (by decide), trivial⟩ ?_
  exact kk
theorem lz_fr_bl_46_2 {G : pj_G} {d : Nat} {c : sx_C} {m : sx_M} {o : Nat → Int64} {D : pj_H} {Q : pj_O → pj_H → Prop} (n : Nat) (hn : n ≤ 12) (q : Q (.inl none) (sx_mk (sx_sR c 2 (sx_si (sx_R c 2) 9 (nI n))) m o D)) : pj_J G mX2_bill (d) 2 [some (.ref 32), some (.ref 46), some (.int (nI n)), some (.int (nI n))] [] (sx_mk c m o D) 0 0 Q := by
  refine pj_J.go (oX2_bill G) 3 rfl trivial ?_
  refine pj_J.pos (nI_ge_lit (Nat.le_refl _) (by omega)) ?_
  refine pj_J.go (oX2_bill G) 3 rfl trivial ?_
  exact pj_vret dX2_bill_27 rfl q
theorem c_X2_bill_46_2 {G : pj_G} {d : Nat} {c : sx_C} {m : sx_M} {o : Nat → Int64} {D : pj_H} (n : Nat) (hn : n ≤ 12) : pj_Rt G mX2_bill d [.ref 32, .ref 46, .int (nI n)] (sx_mk c m o D) 0 0 none (sx_mk (sx_sR c 2 (fr_bill (sx_R c 2) (sx_I c.1 17) n)) m o D) := by
  refine pj_Cn.start ?_
  refine pj_J.go (oX2_bill G) 2 rfl trivial ?_
  exact pj_for (fun k s => pj_J G mX2_bill d 2 [some (.ref 32), some (.ref 46), some (.int (nI n)), some (.int (nI k))] [] (sx_mk (sx_sR c 2 s) m o D) 0 0 _) (fr_blA (sx_I c.1 17)) (fun _ _ => True) n (fun k s hk hi => ⟨hi, fun kk => ly_fr_bl_46_2 (c := (sx_sR c 2 s)) n hn k hk (by rw [nI_add1]; exact kk)⟩) n 0 (sx_R c 2) (by simp) trivial (fun hi => lz_fr_bl_46_2 (c := (sx_sR c 2 (it_up (fr_blA (sx_I c.1 17)) n 0 (sx_R c 2)))) n hn ⟨rfl, rfl⟩)
def fc_wwB (set : Int32) (k : Nat) (s : Int32) (u : sx_M) : Int32 := (s + (sx_I u 4 ((set * (8 : Int32)) + (nI k)).toNatClampNeg))
theorem ly_fc_wwB {G : pj_G} {d : Nat} {c : sx_C} {m : sx_M} {o : Nat → Int64} {D : pj_H} {Q : pj_O → pj_H → Prop} (set : Int32) (k : Nat) (s : Int32) (hset : vp_in set 4) (n : Nat) (hn : sx_I c.1 5 set.toNatClampNeg = nI n) (hn8 : n ≤ 8) (hk : k < n) (kk : pj_J G mX1_wholeWeight (d) 4 [some (.ref 2), some (.int set), some (.int (fc_wwB set k s c.1)), some (.int (nI k + 1))] [] (sx_mk c m o D) 0 0 Q) : pj_J G mX1_wholeWeight (d) 4 [some (.ref 2), some (.int set), some (.int s), some (.int (nI k))] [] (sx_mk c m o D) 0 0 Q := by
  unfold fc_wwB at kk
  refine pj_J.go (oX1_wholeWeight G) 6 rfl ⟨by exact hset, trivial⟩ ?_
  refine pj_J.neg (by rw [hn]; exact nI_lt_lit hk (by omega)) ?_
  refine pj_J.go (oX1_wholeWeight G) 13 rfl ⟨by exact vp_row2 (p := 4) (q := 8) hset (vp_in_lit (by omega)) (by decide), trivial⟩ ?_
  exact pj_J.drp kk ⟨rfl, rfl, rfl, rfl, trivial⟩
theorem lz_fc_wwB {G : pj_G} {d : Nat} {c : sx_C} {m : sx_M} {o : Nat → Int64} {D : pj_H} {Q : pj_O → pj_H → Prop} (set s : Int32) (hset : vp_in set 4) (n : Nat) (hn : sx_I c.1 5 set.toNatClampNeg = nI n) (hn8 : n ≤ 8) (q : Q (.inl (some (.int s))) (sx_mk c m o D)) : pj_J G mX1_wholeWeight (d) 4 [some (.ref 2), some (.int set), some (.int s), some (.int (nI n))] [] (sx_mk c m o D) 0 0 Q := by
  refine pj_J.go (oX1_wholeWeight G) 6 rfl ⟨by exact hset, trivial⟩ ?_
  refine pj_J.pos (by rw [hn]; exact nI_ge_lit (Nat.le_refl _) (by omega)) ?_
  refine pj_J.go (oX1_wholeWeight G) 1 rfl trivial ?_
  exact pj_iret dX1_wholeWeight_35 rfl q
def fc_wholeWeight (u : sx_M) (set : Int32) : Int32 := it_up (fun k s => fc_wwB set k s u) (sx_I u 5 set.toNatClampNeg).toNatClampNeg 0 0
theorem c_X1_wholeWeight {G : pj_G} {d : Nat} {c : sx_C} {m : sx_M} {o : Nat → Int64} {D : pj_H} (set : Int32) (hset : vp_in set 4) (hw : vp_in (sx_I c.1 5 set.toNatClampNeg) 9) : pj_Rt G mX1_wholeWeight d [.ref 2, .int set] (sx_mk c m o D) 0 0 (some (.int (fc_wholeWeight c.1 set))) (sx_mk c m o D) := by
  obtain ⟨n, hn8, hn⟩ := vp_in_of hw (by decide)
  unfold fc_wholeWeight
  rw [hn, nI_clamp (by omega)]
  refine pj_Cn.start ?_
  refine pj_J.go (oX1_wholeWeight G) 4 rfl trivial ?_
  exact pj_for (fun k s => pj_J G mX1_wholeWeight d 4 [some (.ref 2), some (.int set), some (.int s), some (.int (nI k))] [] (sx_mk c m o D) 0 0 _) (fun k s => fc_wwB set k s c.1) (fun _ _ => True) n (fun k s hk hi => ⟨hi, fun kk => ly_fc_wwB set k s hset n hn (by omega) hk (by rw [nI_add1]; exact kk)⟩) n 0 0 (by simp) trivial (fun hi => lz_fc_wwB set _ hset n hn (by omega) ⟨rfl, rfl⟩)
abbrev fc_alE (c : sx_C) (sg : Int32) (k : Nat) : Prop := sx_L (sx_R c 1) 12 (nI k).toNatClampNeg = sg.toInt64 * sx_L (sx_R c 2) 12 (nI k).toNatClampNeg
theorem ly_fc_al {G : pj_G} {d : Nat} {c : sx_C} {m : sx_M} {o : Nat → Int64} {D : pj_H} {Q : pj_O → pj_H → Prop} (sg : Int32) (k : Nat) (hk : k < 8) (q : ¬ fc_alE c sg k → Q (.inl (some (.int 0))) (sx_mk c m o D)) (kk : fc_alE c sg k → pj_J G mX1_alike d 2 [some (.ref 2), some (.int sg), some (.int (nI k + 1))] [] (sx_mk c m o D) 0 0 Q) : pj_J G mX1_alike d 2 [some (.ref 2), some (.int sg), some (.int (nI k))] [] (sx_mk c m o D) 0 0 Q := by
  refine pj_J.go (oX1_alike G) 3 rfl trivial ?_
  refine pj_J.neg (nI_lt_lit hk (by decide)) ?_
  refine pj_J.go (oX1_alike G) 15 rfl ⟨by exact vp_in_lit hk, by exact vp_in_lit hk, trivial⟩ ?_
  refine pj_J.ite (fun hc30 => ?_) (fun hc30 => ?_)
  · simp only [pj_lc_eq] at hc30
    refine pj_J.go (oX1_alike G) 2 rfl trivial ?_
    exact kk hc30
  · simp only [pj_lc_eq] at hc30
    refine pj_J.go (oX1_alike G) 1 rfl trivial ?_
    exact pj_zret dX1_alike_34 rfl (by first | exact Or.inl rfl | exact Or.inr rfl | exact pj_b01 _ | assumption) (q hc30)
theorem lz_fc_al {G : pj_G} {d : Nat} {c : sx_C} {m : sx_M} {o : Nat → Int64} {D : pj_H} {Q : pj_O → pj_H → Prop} (sg : Int32) (q : Q (.inl (some (.int 1))) (sx_mk c m o D)) : pj_J G mX1_alike (d) 2 [some (.ref 2), some (.int sg), some (.int (nI 8))] [] (sx_mk c m o D) 0 0 Q := by
  refine pj_J.go (oX1_alike G) 3 rfl trivial ?_
  refine pj_J.pos (nI_ge_lit (Nat.le_refl _) (by decide)) ?_
  refine pj_J.go (oX1_alike G) 1 rfl trivial ?_
  exact pj_zret dX1_alike_42 rfl (by first | exact Or.inl rfl | exact Or.inr rfl | exact pj_b01 _ | assumption) q
def fc_alL (c : sx_C) (sg : Int32) : Nat → Nat → Int32
  | 0, _ => 1
  | e + 1, k => if fc_alE c sg k then fc_alL c sg e (k + 1) else 0
theorem lp_fc_al {G : pj_G} {d : Nat} {c : sx_C} {m : sx_M} {o : Nat → Int64} {D : pj_H} {Q : pj_O → pj_H → Prop} (sg : Int32) : ∀ e k, k + e = 8 → Q (.inl (some (.int (fc_alL c sg e k)))) (sx_mk c m o D) → pj_J G mX1_alike d 2 [some (.ref 2), some (.int sg), some (.int (nI k))] [] (sx_mk c m o D) 0 0 Q := by
  intro e
  induction e with
  | zero =>
    intro k hk q
    have : k = 8 := by omega
    subst this
    exact lz_fc_al sg q
  | succ e ih =>
    intro k hk q
    unfold fc_alL at q
    refine ly_fc_al sg k (by omega) (fun h => ?_) (fun h => ?_)
    · rw [if_neg h] at q
      exact q
    · rw [if_pos h] at q
      rw [nI_add1]
      exact ih (k + 1) (by omega) q
def fc_alike (c : sx_C) (sg : Int32) : Int32 := fc_alL c sg 8 0
theorem fc_alike01 (c : sx_C) (sg : Int32) : fc_alike c sg = 0 ∨ fc_alike c sg = 1 := by
  unfold fc_alike
  have : ∀ e k, fc_alL c sg e k = 0 ∨ fc_alL c sg e k = 1 := by
    intro e
    induction e with
    | zero => intro k; exact Or.inr rfl
    | succ e ih =>
      intro k
      unfold fc_alL
      split
      · exact ih _
      · exact Or.inl rfl
  exact this 8 0
theorem c_X1_alike {G : pj_G} {d : Nat} {c : sx_C} {m : sx_M} {o : Nat → Int64} {D : pj_H} (sg : Int32) : pj_Rt G mX1_alike d [.ref 2, .int sg] (sx_mk c m o D) 0 0 (some (.int (fc_alike c sg))) (sx_mk c m o D) := by
  refine pj_Cn.start ?_
  refine pj_J.go (oX1_alike G) 2 rfl trivial ?_
  exact lp_fc_al sg 8 0 rfl ⟨rfl, rfl⟩
