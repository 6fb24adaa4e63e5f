/-! refused arguments: throws, and the law's helpers (by tools/gen_w2.py) -/
set_option maxRecDepth 100000
/-- it threw: a new cell of class ci -/
def px_th (ci : Nat) (c : sx_C) (m : sx_M) (o : Nat → Int64) (D : pj_H) : pj_O → pj_H → Prop := fun r x => r = .inr (ci, D.length + 98) ∧ x = sx_mk c m o (D ++ [.inr (ci, [])])
theorem thX1_account_10 {G : pj_G} {d : Nat} {L : pj_L} {c : sx_C} {m : sx_M} {o : Nat → Int64} {D : pj_H} {kc ks : Nat} : pj_J G mX1_account d 10 L [] (sx_mk c m o D) (kc + 1) (ks + 6) (px_th 19 c m o D) := px_thrI rfl whX1_account rfl dX1_account_10 dX1_account_13 dX1_account_14 dX1_account_17 ⟨rfl, rfl⟩
theorem c_X1_accountB {G : pj_G} {d : Nat} {c : sx_C} {m : sx_M} {o : Nat → Int64} {D : pj_H} (k : Int32) (hb : ¬ (¬ k < 0 ∧ k ≤ 7)) : pj_Cn G mX1_account d [.ref 2, .int k] (sx_mk c m o D) 1 6 (px_th 19 c m o D) := by
  refine pj_Cn.start ?_
  refine pj_J.go (oX1_account G) 2 rfl trivial ?_
  refine pj_J.ite (fun _ => thX1_account_10) (fun h0 => ?_)
  refine pj_J.go (oX1_account G) 3 rfl trivial ?_
  exact pj_J.ite (fun h1 => absurd ⟨h0, h1⟩ hb) (fun _ => thX1_account_10)
theorem thX1_part_10 {G : pj_G} {d : Nat} {L : pj_L} {c : sx_C} {m : sx_M} {o : Nat → Int64} {D : pj_H} {kc ks : Nat} : pj_J G mX1_part d 10 L [] (sx_mk c m o D) (kc + 1) (ks + 6) (px_th 19 c m o D) := px_thrI rfl whX1_part rfl dX1_part_10 dX1_part_13 dX1_part_14 dX1_part_17 ⟨rfl, rfl⟩
theorem c_X1_partB {G : pj_G} {d : Nat} {c : sx_C} {m : sx_M} {o : Nat → Int64} {D : pj_H} (k : Int32) (hb : ¬ (¬ k < 0 ∧ k ≤ 7)) : pj_Cn G mX1_part d [.ref 2, .int k] (sx_mk c m o D) 1 6 (px_th 19 c m o D) := by
  refine pj_Cn.start ?_
  refine pj_J.go (oX1_part G) 2 rfl trivial ?_
  refine pj_J.ite (fun _ => thX1_part_10) (fun h0 => ?_)
  refine pj_J.go (oX1_part G) 3 rfl trivial ?_
  exact pj_J.ite (fun h1 => absurd ⟨h0, h1⟩ hb) (fun _ => thX1_part_10)
theorem thX1_got_10 {G : pj_G} {d : Nat} {L : pj_L} {c : sx_C} {m : sx_M} {o : Nat → Int64} {D : pj_H} {kc ks : Nat} : pj_J G mX1_got d 10 L [] (sx_mk c m o D) (kc + 1) (ks + 6) (px_th 19 c m o D) := px_thrI rfl whX1_got rfl dX1_got_10 dX1_got_13 dX1_got_14 dX1_got_17 ⟨rfl, rfl⟩
theorem c_X1_gotB {G : pj_G} {d : Nat} {c : sx_C} {m : sx_M} {o : Nat → Int64} {D : pj_H} (k : Int32) (hb : ¬ (¬ k < 0 ∧ k ≤ 11)) : pj_Cn G mX1_got d [.ref 2, .int k] (sx_mk c m o D) 1 6 (px_th 19 c m o D) := by
  refine pj_Cn.start ?_
  refine pj_J.go (oX1_got G) 2 rfl trivial ?_
  refine pj_J.ite (fun _ => thX1_got_10) (fun h0 => ?_)
  refine pj_J.go (oX1_got G) 3 rfl trivial ?_
  exact pj_J.ite (fun h1 => absurd ⟨h0, h1⟩ hb) (fun _ => thX1_got_10)
theorem thX1_slot_19 {G : pj_G} {d : Nat} {L : pj_L} {c : sx_C} {m : sx_M} {o : Nat → Int64} {D : pj_H} {kc ks : Nat} : pj_J G mX1_slot d 19 L [] (sx_mk c m o D) (kc + 1) (ks + 6) (px_th 19 c m o D) := px_thrI rfl whX1_slot rfl dX1_slot_19 dX1_slot_22 dX1_slot_23 dX1_slot_26 ⟨rfl, rfl⟩
theorem c_X1_slotB {G : pj_G} {d : Nat} {c : sx_C} {m : sx_M} {o : Nat → Int64} {D : pj_H} (s w : Int32) (hb : ¬ (¬ s < 0 ∧ ¬ 7 < s ∧ ¬ w < 0 ∧ w ≤ 2)) : pj_Cn G mX1_slot d [.ref 2, .int s, .int w] (sx_mk c m o D) 1 6 (px_th 19 c m o D) := by
  refine pj_Cn.start ?_
  refine pj_J.go (oX1_slot G) 2 rfl trivial ?_
  refine pj_J.ite (fun _ => thX1_slot_19) (fun h0 => ?_)
  refine pj_J.go (oX1_slot G) 3 rfl trivial ?_
  refine pj_J.ite (fun _ => thX1_slot_19) (fun h1 => ?_)
  refine pj_J.go (oX1_slot G) 2 rfl trivial ?_
  refine pj_J.ite (fun _ => thX1_slot_19) (fun h2 => ?_)
  refine pj_J.go (oX1_slot G) 3 rfl trivial ?_
  exact pj_J.ite (fun h3 => absurd ⟨h0, h1, h2, h3⟩ hb) (fun _ => thX1_slot_19)
theorem thX1_carried_17 {G : pj_G} {d : Nat} {L : pj_L} {c : sx_C} {m : sx_M} {o : Nat → Int64} {D : pj_H} {kc ks : Nat} : pj_J G mX1_carried d 17 L [] (sx_mk c m o D) (kc + 1) (ks + 6) (px_th 19 c m o D) := px_thrI rfl whX1_carried rfl dX1_carried_17 dX1_carried_20 dX1_carried_21 dX1_carried_24 ⟨rfl, rfl⟩
theorem c_X1_carriedB {G : pj_G} {d : Nat} {c : sx_C} {m : sx_M} {o : Nat → Int64} {D : pj_H} (p w : Int32) (hb : ¬ (¬ fc_isProgram c.1 p = 0 ∧ ¬ w < 0 ∧ w ≤ 1)) : pj_Cn G mX1_carried (d + 1) [.ref 2, .int p, .int w] (sx_mk c m o D) 1 6 (px_th 19 c m o D) := by
  refine pj_Cn.start ?_
  refine pj_J.go (oX1_carried G) 2 rfl trivial ?_
  refine pj_J.cal0 kX1_carried_2 (c_X1_isProgram (c := c) p) ⟨_, _, _, rfl, rfl⟩ pj_le0 pj_le0 pj_le0 ?_
  refine pj_J.go (oX1_carried G) 1 rfl trivial ?_
  refine pj_J.ite (fun _ => thX1_carried_17) (fun h0 => ?_)
  refine pj_J.go (oX1_carried G) 2 rfl trivial ?_
  refine pj_J.ite (fun _ => thX1_carried_17) (fun h1 => ?_)
  refine pj_J.go (oX1_carried G) 3 rfl trivial ?_
  exact pj_J.ite (fun h2 => absurd ⟨h0, h1, h2⟩ hb) (fun _ => thX1_carried_17)
theorem thX1_drift_65 {G : pj_G} {d : Nat} {L : pj_L} {c : sx_C} {m : sx_M} {o : Nat → Int64} {D : pj_H} {kc ks : Nat} : pj_J G mX1_drift d 65 L [] (sx_mk c m o D) (kc + 1) (ks + 6) (px_th 19 c m o D) := px_thrI rfl whX1_drift rfl dX1_drift_65 dX1_drift_68 dX1_drift_69 dX1_drift_72 ⟨rfl, rfl⟩
theorem c_X1_driftB {G : pj_G} {d : Nat} {c : sx_C} {m : sx_M} {o : Nat → Int64} {D : pj_H} (rt md n mo wh : Int32) (hb : ¬ (fc_drGood c.1 rt md n mo wh)) : pj_Cn G mX1_drift d [.ref 2, .int rt, .int md, .int n, .int mo, .int wh] (sx_mk c m o D) 1 6 (px_th 19 c m o D) := by
  refine pj_Cn.start ?_
  refine pj_J.go (oX1_drift G) 2 rfl trivial ?_
  refine pj_J.ite (fun _ => thX1_drift_65) (fun h0 => ?_)
  refine pj_J.go (oX1_drift G) 3 rfl trivial ?_
  refine pj_J.ite (fun _ => thX1_drift_65) (fun h1 => ?_)
  refine pj_J.go (oX1_drift G) 6 rfl ⟨by exact vp_rng (n := 7) h0 h1, trivial⟩ ?_
  refine pj_J.ite (fun _ => thX1_drift_65) (fun h2 => ?_)
  refine pj_J.go (oX1_drift G) 2 rfl trivial ?_
  refine pj_J.ite (fun _ => thX1_drift_65) (fun h3 => ?_)
  refine pj_J.go (oX1_drift G) 3 rfl trivial ?_
  refine pj_J.ite (fun _ => thX1_drift_65) (fun h4 => ?_)
  refine pj_J.go (oX1_drift G) 3 rfl trivial ?_
  refine pj_J.ite (fun _ => thX1_drift_65) (fun h5 => ?_)
  refine pj_J.go (oX1_drift G) 3 rfl trivial ?_
  refine pj_J.ite (fun _ => thX1_drift_65) (fun h6 => ?_)
  refine pj_J.go (oX1_drift G) 2 rfl trivial ?_
  refine pj_J.ite (fun _ => thX1_drift_65) (fun h7 => ?_)
  refine pj_J.go (oX1_drift G) 3 rfl trivial ?_
  refine pj_J.ite (fun _ => thX1_drift_65) (fun h8 => ?_)
  refine pj_J.go (oX1_drift G) 2 rfl trivial ?_
  refine pj_J.ite (fun _ => thX1_drift_65) (fun h9 => ?_)
  refine pj_J.go (oX1_drift G) 3 rfl trivial ?_
  exact pj_J.ite (fun h10 => absurd ⟨h0, h1, h2, h3, h4, h5, h6, h7, h8, h9, h10⟩ hb) (fun _ => thX1_drift_65)
theorem thX1_rounded_51 {G : pj_G} {d : Nat} {L : pj_L} {c : sx_C} {m : sx_M} {o : Nat → Int64} {D : pj_H} {kc ks : Nat} : pj_J G mX1_rounded d 51 L [] (sx_mk c m o D) (kc + 1) (ks + 6) (px_th 19 c m o D) := px_thrI rfl whX1_rounded rfl dX1_rounded_51 dX1_rounded_54 dX1_rounded_55 dX1_rounded_58 ⟨rfl, rfl⟩
theorem c_X1_roundedB {G : pj_G} {d : Nat} {c : sx_C} {m : sx_M} {o : Nat → Int64} {D : pj_H} (n : Int64) (e u md : Int32) (hb : ¬ (¬ e < 1 ∧ ¬ 1000000 < e ∧ ¬ u < 1 ∧ ¬ 1000000 < u ∧ ¬ 1000000000000 < n ∧ ¬ n < -1000000000000 ∧ ¬ md < 0 ∧ md ≤ 5)) : pj_Cn G mX1_rounded d [.ref 2, .long n, .int e, .int u, .int md] (sx_mk c m o D) 1 6 (px_th 19 c m o D) := by
  refine pj_Cn.start ?_
  refine pj_J.go (oX1_rounded G) 3 rfl trivial ?_
  refine pj_J.ite (fun _ => thX1_rounded_51) (fun h0 => ?_)
  refine pj_J.go (oX1_rounded G) 3 rfl trivial ?_
  refine pj_J.ite (fun _ => thX1_rounded_51) (fun h1 => ?_)
  refine pj_J.go (oX1_rounded G) 3 rfl trivial ?_
  refine pj_J.ite (fun _ => thX1_rounded_51) (fun h2 => ?_)
  refine pj_J.go (oX1_rounded G) 3 rfl trivial ?_
  refine pj_J.ite (fun _ => thX1_rounded_51) (fun h3 => ?_)
  refine pj_J.go (oX1_rounded G) 4 rfl trivial ?_
  refine pj_J.ite (fun _ => thX1_rounded_51) (fun h4 => ?_)
  refine pj_J.go (oX1_rounded G) 4 rfl trivial ?_
  refine pj_J.ite (fun _ => thX1_rounded_51) (fun h5 => ?_)
  refine pj_J.go (oX1_rounded G) 2 rfl trivial ?_
  refine pj_J.ite (fun _ => thX1_rounded_51) (fun h6 => ?_)
  refine pj_J.go (oX1_rounded G) 3 rfl trivial ?_
  exact pj_J.ite (fun h7 => absurd ⟨h0, h1, h2, h3, (by rw [pj_lc_gt] at h4; exact h4), (by rw [pj_lc_lt] at h5; exact h5), h6, h7⟩ hb) (fun _ => thX1_rounded_51)
theorem c_X0_accountG {G : pj_G} {d : Nat} {c : sx_C} {m : sx_M} {o : Nat → Int64} {D : pj_H} {c' : sx_C} (k : Int32) (v : Int64) (hr : pj_Rt G mX1_account (d) [.ref 2, .int k] (sx_mk c m o D) 0 0 (some (.long v)) (sx_mk c' m o D)) : pj_Rt G mX0_account (d + 1) [.ref 2, .int k, .ref 97] (sx_mk c m o D) 0 0 (some (.int 0)) (sx_mk c' m (vp_updL o 0 v) D) := by
  refine pj_Cn.start ?_
  refine pj_J.go (oX0_account G) 4 rfl trivial ?_
  refine px_callV (my := mX1_account) (n := 1) (ci := 0) (Tt := TX1) (N := 25) (b := 2) (As := [.int k]) (rest := [.int 0, .ref 97]) (k1 := 0) (s1 := 0) (kc := 0) (ks := 0) dX0_account_4 whX0_account whX1_account (by decide +kernel) (by decide) ⟨by decide +kernel, by decide +kernel⟩ rfl (by decide) q1301 q1302 q1303 rfl rfl (Nat.le_of_ble_eq_true rfl) (Nat.le_of_ble_eq_true rfl) hr ⟨?_, ?_⟩
  · rintro v1 h1 ⟨e1, rfl⟩
    cases e1
    refine pj_J.go (oX0_account G) 3 rfl ⟨by unfold vp_in; decide, trivial⟩ ?_
    exact pj_iret dX0_account_15 rfl ⟨rfl, rfl⟩
  · rintro ci i h1 ⟨e1, -⟩
    cases e1
theorem c_X0_accountB {G : pj_G} {d : Nat} {c : sx_C} {m : sx_M} {o : Nat → Int64} {D : pj_H} (k : Int32) (hr : pj_Cn G mX1_account (d) [.ref 2, .int k] (sx_mk c m o D) 1 6 (px_th 19 c m o D)) : pj_Rt G mX0_account (d + 1) [.ref 2, .int k, .ref 97] (sx_mk c m o D) 1 6 (some (.int 1)) (sx_mk c m o (D ++ [.inr (19, [])])) := by
  refine pj_Cn.start ?_
  refine pj_J.go (oX0_account G) 4 rfl trivial ?_
  refine px_callV (my := mX1_account) (n := 1) (ci := 0) (Tt := TX1) (N := 25) (b := 2) (As := [.int k]) (rest := [.int 0, .ref 97]) (k1 := 1) (s1 := 6) (kc := 0) (ks := 0) dX0_account_4 whX0_account whX1_account (by decide +kernel) (by decide) ⟨by decide +kernel, by decide +kernel⟩ rfl (by decide) q1301 q1302 q1303 rfl rfl (Nat.le_of_ble_eq_true rfl) (Nat.le_of_ble_eq_true rfl) hr ⟨?_, ?_⟩
  · rintro v1 h1 ⟨e1, -⟩
    cases e1
  · rintro ci i h1 ⟨e1, rfl⟩
    cases e1
    refine ⟨_, [some ("java/lang/IllegalArgumentException", true)], 11, by decide, rfl, ⟨⟨by decide, by decide⟩, by decide, q1300, pj_xC 6 rfl, rfl⟩, ?_⟩
    refine pj_J.go (oX0_account G) 2 rfl trivial ?_
    exact pj_iret dX0_account_13 rfl ⟨rfl, rfl⟩
theorem c_X0_partG {G : pj_G} {d : Nat} {c : sx_C} {m : sx_M} {o : Nat → Int64} {D : pj_H} {c' : sx_C} (k : Int32) (v : Int64) (hr : pj_Rt G mX1_part (d) [.ref 2, .int k] (sx_mk c m o D) 0 0 (some (.long v)) (sx_mk c' m o D)) : pj_Rt G mX0_part (d + 1) [.ref 2, .int k, .ref 97] (sx_mk c m o D) 0 0 (some (.int 0)) (sx_mk c' m (vp_updL o 0 v) D) := by
  refine pj_Cn.start ?_
  refine pj_J.go (oX0_part G) 4 rfl trivial ?_
  refine px_callV (my := mX1_part) (n := 1) (ci := 0) (Tt := TX1) (N := 25) (b := 2) (As := [.int k]) (rest := [.int 0, .ref 97]) (k1 := 0) (s1 := 0) (kc := 0) (ks := 0) dX0_part_4 whX0_part whX1_part (by decide +kernel) (by decide) ⟨by decide +kernel, by decide +kernel⟩ rfl (by decide) q1330 q1331 q1332 rfl rfl (Nat.le_of_ble_eq_true rfl) (Nat.le_of_ble_eq_true rfl) hr ⟨?_, ?_⟩
  · rintro v1 h1 ⟨e1, rfl⟩
    cases e1
    refine pj_J.go (oX0_part G) 3 rfl ⟨by unfold vp_in; decide, trivial⟩ ?_
    exact pj_iret dX0_part_15 rfl ⟨rfl, rfl⟩
  · rintro ci i h1 ⟨e1, -⟩
    cases e1
theorem c_X0_partB {G : pj_G} {d : Nat} {c : sx_C} {m : sx_M} {o : Nat → Int64} {D : pj_H} (k : Int32) (hr : pj_Cn G mX1_part (d) [.ref 2, .int k] (sx_mk c m o D) 1 6 (px_th 19 c m o D)) : pj_Rt G mX0_part (d + 1) [.ref 2, .int k, .ref 97] (sx_mk c m o D) 1 6 (some (.int 1)) (sx_mk c m o (D ++ [.inr (19, [])])) := by
  refine pj_Cn.start ?_
  refine pj_J.go (oX0_part G) 4 rfl trivial ?_
  refine px_callV (my := mX1_part) (n := 1) (ci := 0) (Tt := TX1) (N := 25) (b := 2) (As := [.int k]) (rest := [.int 0, .ref 97]) (k1 := 1) (s1 := 6) (kc := 0) (ks := 0) dX0_part_4 whX0_part whX1_part (by decide +kernel) (by decide) ⟨by decide +kernel, by decide +kernel⟩ rfl (by decide) q1330 q1331 q1332 rfl rfl (Nat.le_of_ble_eq_true rfl) (Nat.le_of_ble_eq_true rfl) hr ⟨?_, ?_⟩
  · rintro v1 h1 ⟨e1, -⟩
    cases e1
  · rintro ci i h1 ⟨e1, rfl⟩
    cases e1
    refine ⟨_, [some ("java/lang/IllegalArgumentException", true)], 11, by decide, rfl, ⟨⟨by decide, by decide⟩, by decide, q1300, pj_xC 6 rfl, rfl⟩, ?_⟩
    refine pj_J.go (oX0_part G) 2 rfl trivial ?_
    exact pj_iret dX0_part_13 rfl ⟨rfl, rfl⟩
theorem c_X0_gotG {G : pj_G} {d : Nat} {c : sx_C} {m : sx_M} {o : Nat → Int64} {D : pj_H} {c' : sx_C} (k : Int32) (v : Int64) (hr : pj_Rt G mX1_got (d) [.ref 2, .int k] (sx_mk c m o D) 0 0 (some (.long v)) (sx_mk c' m o D)) : pj_Rt G mX0_got (d + 1) [.ref 2, .int k, .ref 97] (sx_mk c m o D) 0 0 (some (.int 0)) (sx_mk c' m (vp_updL o 0 v) D) := by
  refine pj_Cn.start ?_
  refine pj_J.go (oX0_got G) 4 rfl trivial ?_
  refine px_callV (my := mX1_got) (n := 1) (ci := 0) (Tt := TX1) (N := 25) (b := 2) (As := [.int k]) (rest := [.int 0, .ref 97]) (k1 := 0) (s1 := 0) (kc := 0) (ks := 0) dX0_got_4 whX0_got whX1_got (by decide +kernel) (by decide) ⟨by decide +kernel, by decide +kernel⟩ rfl (by decide) q1337 q1338 q1339 rfl rfl (Nat.le_of_ble_eq_true rfl) (Nat.le_of_ble_eq_true rfl) hr ⟨?_, ?_⟩
  · rintro v1 h1 ⟨e1, rfl⟩
    cases e1
    refine pj_J.go (oX0_got G) 3 rfl ⟨by unfold vp_in; decide, trivial⟩ ?_
    exact pj_iret dX0_got_15 rfl ⟨rfl, rfl⟩
  · rintro ci i h1 ⟨e1, -⟩
    cases e1
theorem c_X0_gotB {G : pj_G} {d : Nat} {c : sx_C} {m : sx_M} {o : Nat → Int64} {D : pj_H} (k : Int32) (hr : pj_Cn G mX1_got (d) [.ref 2, .int k] (sx_mk c m o D) 1 6 (px_th 19 c m o D)) : pj_Rt G mX0_got (d + 1) [.ref 2, .int k, .ref 97] (sx_mk c m o D) 1 6 (some (.int 1)) (sx_mk c m o (D ++ [.inr (19, [])])) := by
  refine pj_Cn.start ?_
  refine pj_J.go (oX0_got G) 4 rfl trivial ?_
  refine px_callV (my := mX1_got) (n := 1) (ci := 0) (Tt := TX1) (N := 25) (b := 2) (As := [.int k]) (rest := [.int 0, .ref 97]) (k1 := 1) (s1 := 6) (kc := 0) (ks := 0) dX0_got_4 whX0_got whX1_got (by decide +kernel) (by decide) ⟨by decide +kernel, by decide +kernel⟩ rfl (by decide) q1337 q1338 q1339 rfl rfl (Nat.le_of_ble_eq_true rfl) (Nat.le_of_ble_eq_true rfl) hr ⟨?_, ?_⟩
  · rintro v1 h1 ⟨e1, -⟩
    cases e1
  · rintro ci i h1 ⟨e1, rfl⟩
    cases e1
    refine ⟨_, [some ("java/lang/IllegalArgumentException", true)], 11, by decide, rfl, ⟨⟨by decide, by decide⟩, by decide, q1300, pj_xC 6 rfl, rfl⟩, ?_⟩
    refine pj_J.go (oX0_got G) 2 rfl trivial ?_
    exact pj_iret dX0_got_13 rfl ⟨rfl, rfl⟩
theorem c_X0_slotG {G : pj_G} {d : Nat} {c : sx_C} {m : sx_M} {o : Nat → Int64} {D : pj_H} {c' : sx_C} (s w : Int32) (v : Int64) (hr : pj_Rt G mX1_slot (d) [.ref 2, .int s, .int w] (sx_mk c m o D) 0 0 (some (.long v)) (sx_mk c' m o D)) : pj_Rt G mX0_slot (d + 1) [.ref 2, .int s, .int w, .ref 97] (sx_mk c m o D) 0 0 (some (.int 0)) (sx_mk c' m (vp_updL o 0 v) D) := by
  refine pj_Cn.start ?_
  refine pj_J.go (oX0_slot G) 5 rfl trivial ?_
  refine px_callV (my := mX1_slot) (n := 2) (ci := 0) (Tt := TX1) (N := 25) (b := 2) (As := [.int s, .int w]) (rest := [.int 0, .ref 97]) (k1 := 0) (s1 := 0) (kc := 0) (ks := 0) dX0_slot_5 whX0_slot whX1_slot (by decide +kernel) (by decide) ⟨by decide +kernel, by decide +kernel⟩ rfl (by decide) q1323 q1324 q1325 rfl rfl (Nat.le_of_ble_eq_true rfl) (Nat.le_of_ble_eq_true rfl) hr ⟨?_, ?_⟩
  · rintro v1 h1 ⟨e1, rfl⟩
    cases e1
    refine pj_J.go (oX0_slot G) 3 rfl ⟨by unfold vp_in; decide, trivial⟩ ?_
    exact pj_iret dX0_slot_17 rfl ⟨rfl, rfl⟩
  · rintro ci i h1 ⟨e1, -⟩
    cases e1
theorem c_X0_slotB {G : pj_G} {d : Nat} {c : sx_C} {m : sx_M} {o : Nat → Int64} {D : pj_H} (s w : Int32) (hr : pj_Cn G mX1_slot (d) [.ref 2, .int s, .int w] (sx_mk c m o D) 1 6 (px_th 19 c m o D)) : pj_Rt G mX0_slot (d + 1) [.ref 2, .int s, .int w, .ref 97] (sx_mk c m o D) 1 6 (some (.int 1)) (sx_mk c m o (D ++ [.inr (19, [])])) := by
  refine pj_Cn.start ?_
  refine pj_J.go (oX0_slot G) 5 rfl trivial ?_
  refine px_callV (my := mX1_slot) (n := 2) (ci := 0) (Tt := TX1) (N := 25) (b := 2) (As := [.int s, .int w]) (rest := [.int 0, .ref 97]) (k1 := 1) (s1 := 6) (kc := 0) (ks := 0) dX0_slot_5 whX0_slot whX1_slot (by decide +kernel) (by decide) ⟨by decide +kernel, by decide +kernel⟩ rfl (by decide) q1323 q1324 q1325 rfl rfl (Nat.le_of_ble_eq_true rfl) (Nat.le_of_ble_eq_true rfl) hr ⟨?_, ?_⟩
  · rintro v1 h1 ⟨e1, -⟩
    cases e1
  · rintro ci i h1 ⟨e1, rfl⟩
    cases e1
    refine ⟨_, [some ("java/lang/IllegalArgumentException", true)], 12, by decide, rfl, ⟨⟨by decide, by decide⟩, by decide, q1300, pj_xC 6 rfl, rfl⟩, ?_⟩
    refine pj_J.go (oX0_slot G) 2 rfl trivial ?_
    exact pj_iret dX0_slot_15 rfl ⟨rfl, rfl⟩
theorem c_X0_carriedG {G : pj_G} {d : Nat} {c : sx_C} {m : sx_M} {o : Nat → Int64} {D : pj_H} {c' : sx_C} (s w : Int32) (v : Int64) (hr : pj_Rt G mX1_carried (d) [.ref 2, .int s, .int w] (sx_mk c m o D) 0 0 (some (.long v)) (sx_mk c' m o D)) : pj_Rt G mX0_carried (d + 1) [.ref 2, .int s, .int w, .ref 97] (sx_mk c m o D) 0 0 (some (.int 0)) (sx_mk c' m (vp_updL o 0 v) D) := by
  refine pj_Cn.start ?_
  refine pj_J.go (oX0_carried G) 5 rfl trivial ?_
  refine px_callV (my := mX1_carried) (n := 2) (ci := 0) (Tt := TX1) (N := 25) (b := 2) (As := [.int s, .int w]) (rest := [.int 0, .ref 97]) (k1 := 0) (s1 := 0) (kc := 0) (ks := 0) dX0_carried_5 whX0_carried whX1_carried (by decide +kernel) (by decide) ⟨by decide +kernel, by decide +kernel⟩ rfl (by decide) q1344 q1345 q1346 rfl rfl (Nat.le_of_ble_eq_true rfl) (Nat.le_of_ble_eq_true rfl) hr ⟨?_, ?_⟩
  · rintro v1 h1 ⟨e1, rfl⟩
    cases e1
    refine pj_J.go (oX0_carried G) 3 rfl ⟨by unfold vp_in; decide, trivial⟩ ?_
    exact pj_iret dX0_carried_17 rfl ⟨rfl, rfl⟩
  · rintro ci i h1 ⟨e1, -⟩
    cases e1
theorem c_X0_carriedB {G : pj_G} {d : Nat} {c : sx_C} {m : sx_M} {o : Nat → Int64} {D : pj_H} (s w : Int32) (hr : pj_Cn G mX1_carried (d) [.ref 2, .int s, .int w] (sx_mk c m o D) 1 6 (px_th 19 c m o D)) : pj_Rt G mX0_carried (d + 1) [.ref 2, .int s, .int w, .ref 97] (sx_mk c m o D) 1 6 (some (.int 1)) (sx_mk c m o (D ++ [.inr (19, [])])) := by
  refine pj_Cn.start ?_
  refine pj_J.go (oX0_carried G) 5 rfl trivial ?_
  refine px_callV (my := mX1_carried) (n := 2) (ci := 0) (Tt := TX1) (N := 25) (b := 2) (As := [.int s, .int w]) (rest := [.int 0, .ref 97]) (k1 := 1) (s1 := 6) (kc := 0) (ks := 0) dX0_carried_5 whX0_carried whX1_carried (by decide +kernel) (by decide) ⟨by decide +kernel, by decide +kernel⟩ rfl (by decide) q1344 q1345 q1346 rfl rfl (Nat.le_of_ble_eq_true rfl) (Nat.le_of_ble_eq_true rfl) hr ⟨?_, ?_⟩
  · rintro v1 h1 ⟨e1, -⟩
    cases e1
  · rintro ci i h1 ⟨e1, rfl⟩
    cases e1
    refine ⟨_, [some ("java/lang/IllegalArgumentException", true)], 12, by decide, rfl, ⟨⟨by decide, by decide⟩, by decide, q1300, pj_xC 6 rfl, rfl⟩, ?_⟩
    refine pj_J.go (oX0_carried G) 2 rfl trivial ?_
    exact pj_iret dX0_carried_15 rfl ⟨rfl, rfl⟩
theorem c_X0_driftG {G : pj_G} {d : Nat} {c : sx_C} {m : sx_M} {o : Nat → Int64} {D : pj_H} {c' : sx_C} (rt md n mo wh : Int32) (v : Int32) (hr : pj_Rt G mX1_drift (d) [.ref 2, .int rt, .int md, .int n, .int mo, .int wh] (sx_mk c m o D) 0 0 (some (.int v)) (sx_mk c' m o D)) : pj_Rt G mX0_drift (d + 1) [.ref 2, .int rt, .int md, .int n, .int mo, .int wh, .ref 97] (sx_mk c m o D) 0 0 (some (.int 0)) (sx_mk c' m (vp_updL o 0 (v.toInt64)) D) := by
  refine pj_Cn.start ?_
  refine pj_J.go (oX0_drift G) 8 rfl trivial ?_
  refine px_callV (my := mX1_drift) (n := 5) (ci := 0) (Tt := TX1) (N := 25) (b := 2) (As := [.int rt, .int md, .int n, .int mo, .int wh]) (rest := [.int 0, .ref 97]) (k1 := 0) (s1 := 0) (kc := 0) (ks := 0) dX0_drift_11 whX0_drift whX1_drift (by decide +kernel) (by decide) ⟨by decide +kernel, by decide +kernel⟩ rfl (by decide) q1351 q1352 q1353 rfl rfl (Nat.le_of_ble_eq_true rfl) (Nat.le_of_ble_eq_true rfl) hr ⟨?_, ?_⟩
  · rintro v1 h1 ⟨e1, rfl⟩
    cases e1
    refine pj_J.go (oX0_drift G) 4 rfl ⟨by unfold vp_in; decide, trivial⟩ ?_
    exact pj_iret dX0_drift_24 rfl ⟨rfl, rfl⟩
  · rintro ci i h1 ⟨e1, -⟩
    cases e1
theorem c_X0_driftB {G : pj_G} {d : Nat} {c : sx_C} {m : sx_M} {o : Nat → Int64} {D : pj_H} (rt md n mo wh : Int32) (hr : pj_Cn G mX1_drift (d) [.ref 2, .int rt, .int md, .int n, .int mo, .int wh] (sx_mk c m o D) 1 6 (px_th 19 c m o D)) : pj_Rt G mX0_drift (d + 1) [.ref 2, .int rt, .int md, .int n, .int mo, .int wh, .ref 97] (sx_mk c m o D) 1 6 (some (.int 1)) (sx_mk c m o (D ++ [.inr (19, [])])) := by
  refine pj_Cn.start ?_
  refine pj_J.go (oX0_drift G) 8 rfl trivial ?_
  refine px_callV (my := mX1_drift) (n := 5) (ci := 0) (Tt := TX1) (N := 25) (b := 2) (As := [.int rt, .int md, .int n, .int mo, .int wh]) (rest := [.int 0, .ref 97]) (k1 := 1) (s1 := 6) (kc := 0) (ks := 0) dX0_drift_11 whX0_drift whX1_drift (by decide +kernel) (by decide) ⟨by decide +kernel, by decide +kernel⟩ rfl (by decide) q1351 q1352 q1353 rfl rfl (Nat.le_of_ble_eq_true rfl) (Nat.le_of_ble_eq_true rfl) hr ⟨?_, ?_⟩
  · rintro v1 h1 ⟨e1, -⟩
    cases e1
  · rintro ci i h1 ⟨e1, rfl⟩
    cases e1
    refine ⟨_, [some ("java/lang/IllegalArgumentException", true)], 19, by decide, rfl, ⟨⟨by decide, by decide⟩, by decide, q1300, pj_xC 6 rfl, rfl⟩, ?_⟩
    refine pj_J.go (oX0_drift G) 2 rfl trivial ?_
    exact pj_iret dX0_drift_22 rfl ⟨rfl, rfl⟩
theorem c_X0_roundedG {G : pj_G} {d : Nat} {c : sx_C} {m : sx_M} {o : Nat → Int64} {D : pj_H} {c' : sx_C} (n : Int64) (e u md : Int32) (v : Int64) (hr : pj_Rt G mX1_rounded (d) [.ref 2, .long n, .int e, .int u, .int md] (sx_mk c m o D) 0 0 (some (.long v)) (sx_mk c' m o D)) : pj_Rt G mX0_rounded (d + 1) [.ref 2, .long n, .int e, .int u, .int md, .ref 97] (sx_mk c m o D) 0 0 (some (.int 0)) (sx_mk c' m (vp_updL o 0 v) D) := by
  refine pj_Cn.start ?_
  refine pj_J.go (oX0_rounded G) 7 rfl trivial ?_
  refine px_callV (my := mX1_rounded) (n := 4) (ci := 0) (Tt := TX1) (N := 25) (b := 2) (As := [.long n, .int e, .int u, .int md]) (rest := [.int 0, .ref 97]) (k1 := 0) (s1 := 0) (kc := 0) (ks := 0) dX0_rounded_10 whX0_rounded whX1_rounded (by decide +kernel) (by decide) ⟨by decide +kernel, by decide +kernel⟩ rfl (by decide) q1365 q1366 q1367 rfl rfl (Nat.le_of_ble_eq_true rfl) (Nat.le_of_ble_eq_true rfl) hr ⟨?_, ?_⟩
  · rintro v1 h1 ⟨e1, rfl⟩
    cases e1
    refine pj_J.go (oX0_rounded G) 3 rfl ⟨by unfold vp_in; decide, trivial⟩ ?_
    exact pj_iret dX0_rounded_22 rfl ⟨rfl, rfl⟩
  · rintro ci i h1 ⟨e1, -⟩
    cases e1
theorem c_X0_roundedB {G : pj_G} {d : Nat} {c : sx_C} {m : sx_M} {o : Nat → Int64} {D : pj_H} (n : Int64) (e u md : Int32) (hr : pj_Cn G mX1_rounded (d) [.ref 2, .long n, .int e, .int u, .int md] (sx_mk c m o D) 1 6 (px_th 19 c m o D)) : pj_Rt G mX0_rounded (d + 1) [.ref 2, .long n, .int e, .int u, .int md, .ref 97] (sx_mk c m o D) 1 6 (some (.int 1)) (sx_mk c m o (D ++ [.inr (19, [])])) := by
  refine pj_Cn.start ?_
  refine pj_J.go (oX0_rounded G) 7 rfl trivial ?_
  refine px_callV (my := mX1_rounded) (n := 4) (ci := 0) (Tt := TX1) (N := 25) (b := 2) (As := [.long n, .int e, .int u, .int md]) (rest := [.int 0, .ref 97]) (k1 := 1) (s1 := 6) (kc := 0) (ks := 0) dX0_rounded_10 whX0_rounded whX1_rounded (by decide +kernel) (by decide) ⟨by decide +kernel, by decide +kernel⟩ rfl (by decide) q1365 q1366 q1367 rfl rfl (Nat.le_of_ble_eq_true rfl) (Nat.le_of_ble_eq_true rfl) hr ⟨?_, ?_⟩
  · rintro v1 h1 ⟨e1, -⟩
    cases e1
  · rintro ci i h1 ⟨e1, rfl⟩
    cases e1
    refine ⟨_, [some ("java/lang/IllegalArgumentException", true)], 17, by decide, rfl, ⟨⟨by decide, by decide⟩, by decide, q1300, pj_xC 6 rfl, rfl⟩, ?_⟩
    refine pj_J.go (oX0_rounded G) 2 rfl trivial ?_
    exact pj_iret dX0_rounded_20 rfl ⟨rfl, rfl⟩
theorem c_X0_atG {G : pj_G} {d : Nat} {c : sx_C} {m : sx_M} {o : Nat → Int64} {D : pj_H} {c' : sx_C} (s w : Int32) (v : Int64) (hr : pj_Rt G mX1_at (d) [.ref 2, .int s, .int w] (sx_mk c m o D) 0 0 (some (.long v)) (sx_mk c' m o D)) : pj_Rt G mX0_at (d + 1) [.ref 2, .int s, .int w, .ref 97] (sx_mk c m o D) 0 0 (some (.int 0)) (sx_mk c' m (vp_updL o 0 v) D) := by
  refine pj_Cn.start ?_
  refine pj_J.go (oX0_at G) 5 rfl trivial ?_
  refine px_callV (my := mX1_at) (n := 2) (ci := 0) (Tt := TX1) (N := 25) (b := 2) (As := [.int s, .int w]) (rest := [.int 0, .ref 97]) (k1 := 0) (s1 := 0) (kc := 0) (ks := 0) dX0_at_5 whX0_at whX1_at (by decide +kernel) (by decide) ⟨by decide +kernel, by decide +kernel⟩ rfl (by decide) q1375 q1376 q1377 rfl rfl (Nat.le_of_ble_eq_true rfl) (Nat.le_of_ble_eq_true rfl) hr ⟨?_, ?_⟩
  · rintro v1 h1 ⟨e1, rfl⟩
    cases e1
    refine pj_J.go (oX0_at G) 3 rfl ⟨by unfold vp_in; decide, trivial⟩ ?_
    exact pj_iret dX0_at_21 rfl ⟨rfl, rfl⟩
  · rintro ci i h1 ⟨e1, -⟩
    cases e1
theorem c_X0_atB {G : pj_G} {d : Nat} {c : sx_C} {m : sx_M} {o : Nat → Int64} {D : pj_H} (s w : Int32) (hr : pj_Cn G mX1_at (d) [.ref 2, .int s, .int w] (sx_mk c m o D) 1 6 (px_th 19 c m o D)) : pj_Rt G mX0_at (d + 1) [.ref 2, .int s, .int w, .ref 97] (sx_mk c m o D) 1 6 (some (.int 1)) (sx_mk c m o (D ++ [.inr (19, [])])) := by
  refine pj_Cn.start ?_
  refine pj_J.go (oX0_at G) 5 rfl trivial ?_
  refine px_callV (my := mX1_at) (n := 2) (ci := 0) (Tt := TX1) (N := 25) (b := 2) (As := [.int s, .int w]) (rest := [.int 0, .ref 97]) (k1 := 1) (s1 := 6) (kc := 0) (ks := 0) dX0_at_5 whX0_at whX1_at (by decide +kernel) (by decide) ⟨by decide +kernel, by decide +kernel⟩ rfl (by decide) q1375 q1376 q1377 rfl rfl (Nat.le_of_ble_eq_true rfl) (Nat.le_of_ble_eq_true rfl) hr ⟨?_, ?_⟩
  · rintro v1 h1 ⟨e1, -⟩
    cases e1
  · rintro ci i h1 ⟨e1, rfl⟩
    cases e1
    refine ⟨_, [some ("java/lang/IllegalArgumentException", true)], 12, by decide, rfl, ⟨⟨by decide, by decide⟩, by decide, q1300, pj_xC 6 rfl, rfl⟩, ?_⟩
    refine pj_J.go (oX0_at G) 2 rfl trivial ?_
    exact pj_iret dX0_at_15 rfl ⟨rfl, rfl⟩
theorem c_X0_atS {G : pj_G} {d : Nat} {c : sx_C} {m : sx_M} {o : Nat → Int64} {D : pj_H} (s w : Int32) (hr : pj_Cn G mX1_at (d) [.ref 2, .int s, .int w] (sx_mk c m o D) 1 6 (px_th 20 c m o D)) : pj_Rt G mX0_at (d + 1) [.ref 2, .int s, .int w, .ref 97] (sx_mk c m o D) 1 6 (some (.int 2)) (sx_mk c m o (D ++ [.inr (20, [])])) := by
  refine pj_Cn.start ?_
  refine pj_J.go (oX0_at G) 5 rfl trivial ?_
  refine px_callV (my := mX1_at) (n := 2) (ci := 0) (Tt := TX1) (N := 25) (b := 2) (As := [.int s, .int w]) (rest := [.int 0, .ref 97]) (k1 := 1) (s1 := 6) (kc := 0) (ks := 0) dX0_at_5 whX0_at whX1_at (by decide +kernel) (by decide) ⟨by decide +kernel, by decide +kernel⟩ rfl (by decide) q1375 q1376 q1377 rfl rfl (Nat.le_of_ble_eq_true rfl) (Nat.le_of_ble_eq_true rfl) hr ⟨?_, ?_⟩
  · rintro v1 h1 ⟨e1, -⟩
    cases e1
  · rintro ci i h1 ⟨e1, rfl⟩
    cases e1
    refine ⟨_, [some ("java/lang/IllegalArgumentException", false), some ("java/lang/IllegalStateException", true)], 16, by decide, rfl, ⟨⟨by decide, by decide⟩, by decide, q1300, by decide, ⟨by decide, by decide⟩, by decide, q1374, pj_xC 7 rfl, rfl⟩, ?_⟩
    refine pj_J.go (oX0_at G) 2 rfl trivial ?_
    exact pj_iret dX0_at_19 rfl ⟨rfl, rfl⟩
