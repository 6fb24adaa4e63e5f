/-! PennyJudge: an act by its kind; Program.run (by tools/gen_q3.py) -/
set_option maxRecDepth 100000
/-- what an act of a kind does: its answer, the run, the judge's own -/
def fa_doesN (k : Nat) (w u : sx_M) (s t v : Int32) : Int32 × sx_M × sx_M := match k with
  | 0 => ((fa_sum w u s t v).1, (fa_sum w u s t v).2, w)
  | 1 => ((fa_tax w u s t v).1, (fa_tax w u s t v).2, w)
  | 2 => ((fa_flow w u s t v).1, (fa_flow w u s t v).2, w)
  | 3 => ((fa_rated w u s t v).1, (fa_rated w u s t v).2, w)
  | 4 => ((fa_rounded w u s t v).1, (fa_rounded w u s t v).2, w)
  | 5 => ((fa_added w u s t v).1, (fa_added w u s t v).2, w)
  | 6 => fa_split w u s t v
  | 7 => ((fa_part w u s t v).1, (fa_part w u s t v).2, w)
  | 8 => ((fa_carry w u s t v).1, (fa_carry w u s t v).2, w)
  | 9 => ((fa_cap w u s t v).1, (fa_cap w u s t v).2, w)
  | 10 => ((fa_book w u s t v).1, (fa_book w u s t v).2, w)
  | 11 => ((fa_show w u s t v).1, (fa_show w u s t v).2, w)
  | 12 => ((fa_days w u s t v).1, (fa_days w u s t v).2, w)
  | _ => (0, u, w)
def fa_doOk (k : Nat) (w u : sx_M) (s t v : Int32) : Prop := vp_in s 8 ∧ match k with
  | 0 => (vp_in t 8 ∧ vp_in (sx_i u 9) 13) ∧ fa_sum_ok w u s t v
  | 1 => (vp_in t 8 ∧ vp_in (sx_i u 9) 13) ∧ fa_tax_ok w u s t v
  | 2 => (vp_in t 8 ∧ vp_in (sx_i u 9) 13) ∧ fa_flow_ok w u s t v
  | 3 => (vp_in t 8 ∧ vp_in v 8) ∧ fa_rated_ok w u s t v
  | 4 => (True) ∧ fa_rounded_ok w u s t v
  | 5 => (vp_in t 8) ∧ fa_added_ok w u s t v
  | 6 => (True) ∧ fa_split_ok w u s t v
  | 7 => (vp_in t 8) ∧ fa_part_ok w u s t v
  | 8 => (True) ∧ fa_carry_ok w u s t v
  | 9 => (True) ∧ fa_cap_ok w u s t v
  | 10 => (vp_in t 8) ∧ fa_book_ok w u s t v
  | 11 => (vp_in t 8) ∧ fa_show_ok w u s t v
  | 12 => (vp_in t 8 ∧ vp_in v 31) ∧ fa_days_ok w u s t v
  | _ => False
theorem sx_sM_self (c : sx_C) : sx_sM c c.1 = c := rfl
theorem fa_doesN_0 (w u : sx_M) (s t v : Int32) : fa_doesN 0 w u s t v = ((fa_sum w u s t v).1, (fa_sum w u s t v).2, w) := rfl
theorem fa_doOk_0 {w u : sx_M} {s t v : Int32} (h : fa_doOk 0 w u s t v) : vp_in s 8 ∧ (vp_in t 8 ∧ vp_in (sx_i u 9) 13) ∧ fa_sum_ok w u s t v := h
theorem fa_doesN_1 (w u : sx_M) (s t v : Int32) : fa_doesN 1 w u s t v = ((fa_tax w u s t v).1, (fa_tax w u s t v).2, w) := rfl
theorem fa_doOk_1 {w u : sx_M} {s t v : Int32} (h : fa_doOk 1 w u s t v) : vp_in s 8 ∧ (vp_in t 8 ∧ vp_in (sx_i u 9) 13) ∧ fa_tax_ok w u s t v := h
theorem fa_doesN_2 (w u : sx_M) (s t v : Int32) : fa_doesN 2 w u s t v = ((fa_flow w u s t v).1, (fa_flow w u s t v).2, w) := rfl
theorem fa_doOk_2 {w u : sx_M} {s t v : Int32} (h : fa_doOk 2 w u s t v) : vp_in s 8 ∧ (vp_in t 8 ∧ vp_in (sx_i u 9) 13) ∧ fa_flow_ok w u s t v := h
theorem fa_doesN_3 (w u : sx_M) (s t v : Int32) : fa_doesN 3 w u s t v = ((fa_rated w u s t v).1, (fa_rated w u s t v).2, w) := rfl
theorem fa_doOk_3 {w u : sx_M} {s t v : Int32} (h : fa_doOk 3 w u s t v) : vp_in s 8 ∧ (vp_in t 8 ∧ vp_in v 8) ∧ fa_rated_ok w u s t v := h
theorem fa_doesN_4 (w u : sx_M) (s t v : Int32) : fa_doesN 4 w u s t v = ((fa_rounded w u s t v).1, (fa_rounded w u s t v).2, w) := rfl
theorem fa_doOk_4 {w u : sx_M} {s t v : Int32} (h : fa_doOk 4 w u s t v) : vp_in s 8 ∧ (True) ∧ fa_rounded_ok w u s t v := h
theorem fa_doesN_5 (w u : sx_M) (s t v : Int32) : fa_doesN 5 w u s t v = ((fa_added w u s t v).1, (fa_added w u s t v).2, w) := rfl
theorem fa_doOk_5 {w u : sx_M} {s t v : Int32} (h : fa_doOk 5 w u s t v) : vp_in s 8 ∧ (vp_in t 8) ∧ fa_added_ok w u s t v := h
theorem fa_doesN_6 (w u : sx_M) (s t v : Int32) : fa_doesN 6 w u s t v = fa_split w u s t v := rfl
theorem fa_doOk_6 {w u : sx_M} {s t v : Int32} (h : fa_doOk 6 w u s t v) : vp_in s 8 ∧ (True) ∧ fa_split_ok w u s t v := h
theorem fa_doesN_7 (w u : sx_M) (s t v : Int32) : fa_doesN 7 w u s t v = ((fa_part w u s t v).1, (fa_part w u s t v).2, w) := rfl
theorem fa_doOk_7 {w u : sx_M} {s t v : Int32} (h : fa_doOk 7 w u s t v) : vp_in s 8 ∧ (vp_in t 8) ∧ fa_part_ok w u s t v := h
theorem fa_doesN_8 (w u : sx_M) (s t v : Int32) : fa_doesN 8 w u s t v = ((fa_carry w u s t v).1, (fa_carry w u s t v).2, w) := rfl
theorem fa_doOk_8 {w u : sx_M} {s t v : Int32} (h : fa_doOk 8 w u s t v) : vp_in s 8 ∧ (True) ∧ fa_carry_ok w u s t v := h
theorem fa_doesN_9 (w u : sx_M) (s t v : Int32) : fa_doesN 9 w u s t v = ((fa_cap w u s t v).1, (fa_cap w u s t v).2, w) := rfl
theorem fa_doOk_9 {w u : sx_M} {s t v : Int32} (h : fa_doOk 9 w u s t v) : vp_in s 8 ∧ (True) ∧ fa_cap_ok w u s t v := h
theorem fa_doesN_10 (w u : sx_M) (s t v : Int32) : fa_doesN 10 w u s t v = ((fa_book w u s t v).1, (fa_book w u s t v).2, w) := rfl
theorem fa_doOk_10 {w u : sx_M} {s t v : Int32} (h : fa_doOk 10 w u s t v) : vp_in s 8 ∧ (vp_in t 8) ∧ fa_book_ok w u s t v := h
theorem fa_doesN_11 (w u : sx_M) (s t v : Int32) : fa_doesN 11 w u s t v = ((fa_show w u s t v).1, (fa_show w u s t v).2, w) := rfl
theorem fa_doOk_11 {w u : sx_M} {s t v : Int32} (h : fa_doOk 11 w u s t v) : vp_in s 8 ∧ (vp_in t 8) ∧ fa_show_ok w u s t v := h
theorem fa_doesN_12 (w u : sx_M) (s t v : Int32) : fa_doesN 12 w u s t v = ((fa_days w u s t v).1, (fa_days w u s t v).2, w) := rfl
theorem fa_doOk_12 {w u : sx_M} {s t v : Int32} (h : fa_doOk 12 w u s t v) : vp_in s 8 ∧ (vp_in t 8 ∧ vp_in v 31) ∧ fa_days_ok w u s t v := h
theorem la_X5_run_0_0 {G : pj_G} {d : Nat} {c : sx_C} {m : sx_M} {o : Nat → Int64} {D : pj_H} {Q : pj_O → pj_H → Prop} {L : pj_L} {i : Nat} {s t v : Int32} (ha : D[i]? = some (.inr (5, [.int (nI 0), .int s, .int t, .int v]))) (hO : fa_doOk 0 c.1 (sx_R c 0) s t v) (kk : pj_J G mX5_run (d + 4) 24 L [.int (fa_doesN 0 c.1 (sx_R c 0) s t v).1] (sx_mk (sx_sR (sx_sM c (fa_doesN 0 c.1 (sx_R c 0) s t v).2.2) 0 (fa_doesN 0 c.1 (sx_R c 0) s t v).2.1) m o D) 0 0 Q) : pj_J G mX5_run (d + 4) 21 L [.ref 10, .ref (i + 98)] (sx_mk c m o D) 0 0 Q := by
  rw [fa_doesN_0] at kk
  dsimp only at kk
  rw [sx_sM_self] at kk
  exact pj_J.cal0 kX5_run_21_X7 (c_X7_does_0 ha hO.1 (fa_doOk_0 hO).2.1.1 (fa_doOk_0 hO).2.1.2 (fa_doOk_0 hO).2.2) ⟨_, _, _, rfl, ha⟩ pj_le0 pj_le0 pj_le0 kk
theorem la_X5_run_0_1 {G : pj_G} {d : Nat} {c : sx_C} {m : sx_M} {o : Nat → Int64} {D : pj_H} {Q : pj_O → pj_H → Prop} {L : pj_L} {i : Nat} {s t v : Int32} (ha : D[i]? = some (.inr (6, [.int (nI 1), .int s, .int t, .int v]))) (hO : fa_doOk 1 c.1 (sx_R c 0) s t v) (kk : pj_J G mX5_run (d + 4) 24 L [.int (fa_doesN 1 c.1 (sx_R c 0) s t v).1] (sx_mk (sx_sR (sx_sM c (fa_doesN 1 c.1 (sx_R c 0) s t v).2.2) 0 (fa_doesN 1 c.1 (sx_R c 0) s t v).2.1) m o D) 0 0 Q) : pj_J G mX5_run (d + 4) 21 L [.ref 10, .ref (i + 98)] (sx_mk c m o D) 0 0 Q := by
  rw [fa_doesN_1] at kk
  dsimp only at kk
  rw [sx_sM_self] at kk
  exact pj_J.cal0 kX5_run_21_X8 (c_X8_does_0 ha hO.1 (fa_doOk_1 hO).2.1.1 (fa_doOk_1 hO).2.1.2 (fa_doOk_1 hO).2.2) ⟨_, _, _, rfl, ha⟩ pj_le0 pj_le0 pj_le0 kk
theorem la_X5_run_0_2 {G : pj_G} {d : Nat} {c : sx_C} {m : sx_M} {o : Nat → Int64} {D : pj_H} {Q : pj_O → pj_H → Prop} {L : pj_L} {i : Nat} {s t v : Int32} (ha : D[i]? = some (.inr (7, [.int (nI 2), .int s, .int t, .int v]))) (hO : fa_doOk 2 c.1 (sx_R c 0) s t v) (kk : pj_J G mX5_run (d + 4) 24 L [.int (fa_doesN 2 c.1 (sx_R c 0) s t v).1] (sx_mk (sx_sR (sx_sM c (fa_doesN 2 c.1 (sx_R c 0) s t v).2.2) 0 (fa_doesN 2 c.1 (sx_R c 0) s t v).2.1) m o D) 0 0 Q) : pj_J G mX5_run (d + 4) 21 L [.ref 10, .ref (i + 98)] (sx_mk c m o D) 0 0 Q := by
  rw [fa_doesN_2] at kk
  dsimp only at kk
  rw [sx_sM_self] at kk
  exact pj_J.cal0 kX5_run_21_X9 (c_X9_does_0 ha hO.1 (fa_doOk_2 hO).2.1.1 (fa_doOk_2 hO).2.1.2 (fa_doOk_2 hO).2.2) ⟨_, _, _, rfl, ha⟩ pj_le0 pj_le0 pj_le0 kk
theorem la_X5_run_0_3 {G : pj_G} {d : Nat} {c : sx_C} {m : sx_M} {o : Nat → Int64} {D : pj_H} {Q : pj_O → pj_H → Prop} {L : pj_L} {i : Nat} {s t v : Int32} (ha : D[i]? = some (.inr (8, [.int (nI 3), .int s, .int t, .int v]))) (hO : fa_doOk 3 c.1 (sx_R c 0) s t v) (kk : pj_J G mX5_run (d + 4) 24 L [.int (fa_doesN 3 c.1 (sx_R c 0) s t v).1] (sx_mk (sx_sR (sx_sM c (fa_doesN 3 c.1 (sx_R c 0) s t v).2.2) 0 (fa_doesN 3 c.1 (sx_R c 0) s t v).2.1) m o D) 0 0 Q) : pj_J G mX5_run (d + 4) 21 L [.ref 10, .ref (i + 98)] (sx_mk c m o D) 0 0 Q := by
  rw [fa_doesN_3] at kk
  dsimp only at kk
  rw [sx_sM_self] at kk
  exact pj_J.cal0 kX5_run_21_X10 (c_X10_does_0 ha hO.1 (fa_doOk_3 hO).2.1.1 (fa_doOk_3 hO).2.1.2 (fa_doOk_3 hO).2.2) ⟨_, _, _, rfl, ha⟩ pj_le0 pj_le0 pj_le0 kk
theorem la_X5_run_0_4 {G : pj_G} {d : Nat} {c : sx_C} {m : sx_M} {o : Nat → Int64} {D : pj_H} {Q : pj_O → pj_H → Prop} {L : pj_L} {i : Nat} {s t v : Int32} (ha : D[i]? = some (.inr (9, [.int (nI 4), .int s, .int t, .int v]))) (hO : fa_doOk 4 c.1 (sx_R c 0) s t v) (kk : pj_J G mX5_run (d + 4) 24 L [.int (fa_doesN 4 c.1 (sx_R c 0) s t v).1] (sx_mk (sx_sR (sx_sM c (fa_doesN 4 c.1 (sx_R c 0) s t v).2.2) 0 (fa_doesN 4 c.1 (sx_R c 0) s t v).2.1) m o D) 0 0 Q) : pj_J G mX5_run (d + 4) 21 L [.ref 10, .ref (i + 98)] (sx_mk c m o D) 0 0 Q := by
  rw [fa_doesN_4] at kk
  dsimp only at kk
  rw [sx_sM_self] at kk
  exact pj_J.cal0 kX5_run_21_X11 (c_X11_does_0 ha hO.1  (fa_doOk_4 hO).2.2) ⟨_, _, _, rfl, ha⟩ pj_le0 pj_le0 pj_le0 kk
theorem la_X5_run_0_5 {G : pj_G} {d : Nat} {c : sx_C} {m : sx_M} {o : Nat → Int64} {D : pj_H} {Q : pj_O → pj_H → Prop} {L : pj_L} {i : Nat} {s t v : Int32} (ha : D[i]? = some (.inr (10, [.int (nI 5), .int s, .int t, .int v]))) (hO : fa_doOk 5 c.1 (sx_R c 0) s t v) (kk : pj_J G mX5_run (d + 4) 24 L [.int (fa_doesN 5 c.1 (sx_R c 0) s t v).1] (sx_mk (sx_sR (sx_sM c (fa_doesN 5 c.1 (sx_R c 0) s t v).2.2) 0 (fa_doesN 5 c.1 (sx_R c 0) s t v).2.1) m o D) 0 0 Q) : pj_J G mX5_run (d + 4) 21 L [.ref 10, .ref (i + 98)] (sx_mk c m o D) 0 0 Q := by
  rw [fa_doesN_5] at kk
  dsimp only at kk
  rw [sx_sM_self] at kk
  exact pj_J.cal0 kX5_run_21_X12 (c_X12_does_0 ha hO.1 (fa_doOk_5 hO).2.1 (fa_doOk_5 hO).2.2) ⟨_, _, _, rfl, ha⟩ pj_le0 pj_le0 pj_le0 kk
theorem la_X5_run_0_6 {G : pj_G} {d : Nat} {c : sx_C} {m : sx_M} {o : Nat → Int64} {D : pj_H} {Q : pj_O → pj_H → Prop} {L : pj_L} {i : Nat} {s t v : Int32} (ha : D[i]? = some (.inr (11, [.int (nI 6), .int s, .int t, .int v]))) (hO : fa_doOk 6 c.1 (sx_R c 0) s t v) (kk : pj_J G mX5_run (d + 4) 24 L [.int (fa_doesN 6 c.1 (sx_R c 0) s t v).1] (sx_mk (sx_sR (sx_sM c (fa_doesN 6 c.1 (sx_R c 0) s t v).2.2) 0 (fa_doesN 6 c.1 (sx_R c 0) s t v).2.1) m o D) 0 0 Q) : pj_J G mX5_run (d + 4) 21 L [.ref 10, .ref (i + 98)] (sx_mk c m o D) 0 0 Q := by
  rw [fa_doesN_6] at kk
  exact pj_J.cal0 kX5_run_21_X13 (c_X13_does_0 ha hO.1  (fa_doOk_6 hO).2.2) ⟨_, _, _, rfl, ha⟩ pj_le0 pj_le0 pj_le0 kk
theorem la_X5_run_0_7 {G : pj_G} {d : Nat} {c : sx_C} {m : sx_M} {o : Nat → Int64} {D : pj_H} {Q : pj_O → pj_H → Prop} {L : pj_L} {i : Nat} {s t v : Int32} (ha : D[i]? = some (.inr (12, [.int (nI 7), .int s, .int t, .int v]))) (hO : fa_doOk 7 c.1 (sx_R c 0) s t v) (kk : pj_J G mX5_run (d + 4) 24 L [.int (fa_doesN 7 c.1 (sx_R c 0) s t v).1] (sx_mk (sx_sR (sx_sM c (fa_doesN 7 c.1 (sx_R c 0) s t v).2.2) 0 (fa_doesN 7 c.1 (sx_R c 0) s t v).2.1) m o D) 0 0 Q) : pj_J G mX5_run (d + 4) 21 L [.ref 10, .ref (i + 98)] (sx_mk c m o D) 0 0 Q := by
  rw [fa_doesN_7] at kk
  dsimp only at kk
  rw [sx_sM_self] at kk
  exact pj_J.cal0 kX5_run_21_X14 (c_X14_does_0 ha hO.1 (fa_doOk_7 hO).2.1 (fa_doOk_7 hO).2.2) ⟨_, _, _, rfl, ha⟩ pj_le0 pj_le0 pj_le0 kk
theorem la_X5_run_0_8 {G : pj_G} {d : Nat} {c : sx_C} {m : sx_M} {o : Nat → Int64} {D : pj_H} {Q : pj_O → pj_H → Prop} {L : pj_L} {i : Nat} {s t v : Int32} (ha : D[i]? = some (.inr (13, [.int (nI 8), .int s, .int t, .int v]))) (hO : fa_doOk 8 c.1 (sx_R c 0) s t v) (kk : pj_J G mX5_run (d + 4) 24 L [.int (fa_doesN 8 c.1 (sx_R c 0) s t v).1] (sx_mk (sx_sR (sx_sM c (fa_doesN 8 c.1 (sx_R c 0) s t v).2.2) 0 (fa_doesN 8 c.1 (sx_R c 0) s t v).2.1) m o D) 0 0 Q) : pj_J G mX5_run (d + 4) 21 L [.ref 10, .ref (i + 98)] (sx_mk c m o D) 0 0 Q := by
  rw [fa_doesN_8] at kk
  dsimp only at kk
  rw [sx_sM_self] at kk
  exact pj_J.cal0 kX5_run_21_X15 (c_X15_does_0 ha hO.1  (fa_doOk_8 hO).2.2) ⟨_, _, _, rfl, ha⟩ pj_le0 pj_le0 pj_le0 kk
theorem la_X5_run_0_9 {G : pj_G} {d : Nat} {c : sx_C} {m : sx_M} {o : Nat → Int64} {D : pj_H} {Q : pj_O → pj_H → Prop} {L : pj_L} {i : Nat} {s t v : Int32} (ha : D[i]? = some (.inr (14, [.int (nI 9), .int s, .int t, .int v]))) (hO : fa_doOk 9 c.1 (sx_R c 0) s t v) (kk : pj_J G mX5_run (d + 4) 24 L [.int (fa_doesN 9 c.1 (sx_R c 0) s t v).1] (sx_mk (sx_sR (sx_sM c (fa_doesN 9 c.1 (sx_R c 0) s t v).2.2) 0 (fa_doesN 9 c.1 (sx_R c 0) s t v).2.1) m o D) 0 0 Q) : pj_J G mX5_run (d + 4) 21 L [.ref 10, .ref (i + 98)] (sx_mk c m o D) 0 0 Q := by
  rw [fa_doesN_9] at kk
  dsimp only at kk
  rw [sx_sM_self] at kk
  exact pj_J.cal0 kX5_run_21_X16 (c_X16_does_0 ha hO.1  (fa_doOk_9 hO).2.2) ⟨_, _, _, rfl, ha⟩ pj_le0 pj_le0 pj_le0 kk
theorem la_X5_run_0_10 {G : pj_G} {d : Nat} {c : sx_C} {m : sx_M} {o : Nat → Int64} {D : pj_H} {Q : pj_O → pj_H → Prop} {L : pj_L} {i : Nat} {s t v : Int32} (ha : D[i]? = some (.inr (15, [.int (nI 10), .int s, .int t, .int v]))) (hO : fa_doOk 10 c.1 (sx_R c 0) s t v) (kk : pj_J G mX5_run (d + 4) 24 L [.int (fa_doesN 10 c.1 (sx_R c 0) s t v).1] (sx_mk (sx_sR (sx_sM c (fa_doesN 10 c.1 (sx_R c 0) s t v).2.2) 0 (fa_doesN 10 c.1 (sx_R c 0) s t v).2.1) m o D) 0 0 Q) : pj_J G mX5_run (d + 4) 21 L [.ref 10, .ref (i + 98)] (sx_mk c m o D) 0 0 Q := by
  rw [fa_doesN_10] at kk
  dsimp only at kk
  rw [sx_sM_self] at kk
  exact pj_J.cal0 kX5_run_21_X17 (c_X17_does_0 ha hO.1 (fa_doOk_10 hO).2.1 (fa_doOk_10 hO).2.2) ⟨_, _, _, rfl, ha⟩ pj_le0 pj_le0 pj_le0 kk
theorem la_X5_run_0_11 {G : pj_G} {d : Nat} {c : sx_C} {m : sx_M} {o : Nat → Int64} {D : pj_H} {Q : pj_O → pj_H → Prop} {L : pj_L} {i : Nat} {s t v : Int32} (ha : D[i]? = some (.inr (16, [.int (nI 11), .int s, .int t, .int v]))) (hO : fa_doOk 11 c.1 (sx_R c 0) s t v) (kk : pj_J G mX5_run (d + 4) 24 L [.int (fa_doesN 11 c.1 (sx_R c 0) s t v).1] (sx_mk (sx_sR (sx_sM c (fa_doesN 11 c.1 (sx_R c 0) s t v).2.2) 0 (fa_doesN 11 c.1 (sx_R c 0) s t v).2.1) m o D) 0 0 Q) : pj_J G mX5_run (d + 4) 21 L [.ref 10, .ref (i + 98)] (sx_mk c m o D) 0 0 Q := by
  rw [fa_doesN_11] at kk
  dsimp only at kk
  rw [sx_sM_self] at kk
  exact pj_J.cal0 kX5_run_21_X18 (c_X18_does_0 ha hO.1 (fa_doOk_11 hO).2.1 (fa_doOk_11 hO).2.2) ⟨_, _, _, rfl, ha⟩ pj_le0 pj_le0 pj_le0 kk
theorem la_X5_run_0_12 {G : pj_G} {d : Nat} {c : sx_C} {m : sx_M} {o : Nat → Int64} {D : pj_H} {Q : pj_O → pj_H → Prop} {L : pj_L} {i : Nat} {s t v : Int32} (ha : D[i]? = some (.inr (17, [.int (nI 12), .int s, .int t, .int v]))) (hO : fa_doOk 12 c.1 (sx_R c 0) s t v) (kk : pj_J G mX5_run (d + 4) 24 L [.int (fa_doesN 12 c.1 (sx_R c 0) s t v).1] (sx_mk (sx_sR (sx_sM c (fa_doesN 12 c.1 (sx_R c 0) s t v).2.2) 0 (fa_doesN 12 c.1 (sx_R c 0) s t v).2.1) m o D) 0 0 Q) : pj_J G mX5_run (d + 4) 21 L [.ref 10, .ref (i + 98)] (sx_mk c m o D) 0 0 Q := by
  rw [fa_doesN_12] at kk
  dsimp only at kk
  rw [sx_sM_self] at kk
  exact pj_J.cal0 kX5_run_21_X19 (c_X19_does_0 ha hO.1 (fa_doOk_12 hO).2.1.1 (fa_doOk_12 hO).2.1.2 (fa_doOk_12 hO).2.2) ⟨_, _, _, rfl, ha⟩ pj_le0 pj_le0 pj_le0 kk
theorem la_X5_run_0 {G : pj_G} {d : Nat} {c : sx_C} {m : sx_M} {o : Nat → Int64} {D : pj_H} {Q : pj_O → pj_H → Prop} {L : pj_L} {i : Nat} {s t v : Int32} {k : Nat} (hk : k < 13) (ha : D[i]? = some (.inr (5 + k, [.int (nI k), .int s, .int t, .int v]))) (hO : fa_doOk k c.1 (sx_R c 0) s t v) (kk : pj_J G mX5_run (d + 4) 24 L [.int (fa_doesN k c.1 (sx_R c 0) s t v).1] (sx_mk (sx_sR (sx_sM c (fa_doesN k c.1 (sx_R c 0) s t v).2.2) 0 (fa_doesN k c.1 (sx_R c 0) s t v).2.1) m o D) 0 0 Q) : pj_J G mX5_run (d + 4) 21 L [.ref 10, .ref (i + 98)] (sx_mk c m o D) 0 0 Q := by
  have h : k = 0 ∨ k = 1 ∨ k = 2 ∨ k = 3 ∨ k = 4 ∨ k = 5 ∨ k = 6 ∨ k = 7 ∨ k = 8 ∨ k = 9 ∨ k = 10 ∨ k = 11 ∨ k = 12 := by omega
  rcases h with rfl | rfl | rfl | rfl | rfl | rfl | rfl | rfl | rfl | rfl | rfl | rfl | rfl
  · exact la_X5_run_0_0 ha hO kk
  · exact la_X5_run_0_1 ha hO kk
  · exact la_X5_run_0_2 ha hO kk
  · exact la_X5_run_0_3 ha hO kk
  · exact la_X5_run_0_4 ha hO kk
  · exact la_X5_run_0_5 ha hO kk
  · exact la_X5_run_0_6 ha hO kk
  · exact la_X5_run_0_7 ha hO kk
  · exact la_X5_run_0_8 ha hO kk
  · exact la_X5_run_0_9 ha hO kk
  · exact la_X5_run_0_10 ha hO kk
  · exact la_X5_run_0_11 ha hO kk
  · exact la_X5_run_0_12 ha hO kk
theorem la_X5_run_1_0 {G : pj_G} {d : Nat} {c : sx_C} {m : sx_M} {o : Nat → Int64} {D : pj_H} {Q : pj_O → pj_H → Prop} {L : pj_L} {i : Nat} {s t v : Int32} (ha : D[i]? = some (.inr (5, [.int (nI 0), .int s, .int t, .int v]))) (hO : fa_doOk 0 c.1 (sx_R c 1) s t v) (kk : pj_J G mX5_run (d + 4) 24 L [.int (fa_doesN 0 c.1 (sx_R c 1) s t v).1] (sx_mk (sx_sR (sx_sM c (fa_doesN 0 c.1 (sx_R c 1) s t v).2.2) 1 (fa_doesN 0 c.1 (sx_R c 1) s t v).2.1) m o D) 0 0 Q) : pj_J G mX5_run (d + 4) 21 L [.ref 21, .ref (i + 98)] (sx_mk c m o D) 0 0 Q := by
  rw [fa_doesN_0] at kk
  dsimp only at kk
  rw [sx_sM_self] at kk
  exact pj_J.cal0 kX5_run_21_X7 (c_X7_does_1 ha hO.1 (fa_doOk_0 hO).2.1.1 (fa_doOk_0 hO).2.1.2 (fa_doOk_0 hO).2.2) ⟨_, _, _, rfl, ha⟩ pj_le0 pj_le0 pj_le0 kk
theorem la_X5_run_1_1 {G : pj_G} {d : Nat} {c : sx_C} {m : sx_M} {o : Nat → Int64} {D : pj_H} {Q : pj_O → pj_H → Prop} {L : pj_L} {i : Nat} {s t v : Int32} (ha : D[i]? = some (.inr (6, [.int (nI 1), .int s, .int t, .int v]))) (hO : fa_doOk 1 c.1 (sx_R c 1) s t v) (kk : pj_J G mX5_run (d + 4) 24 L [.int (fa_doesN 1 c.1 (sx_R c 1) s t v).1] (sx_mk (sx_sR (sx_sM c (fa_doesN 1 c.1 (sx_R c 1) s t v).2.2) 1 (fa_doesN 1 c.1 (sx_R c 1) s t v).2.1) m o D) 0 0 Q) : pj_J G mX5_run (d + 4) 21 L [.ref 21, .ref (i + 98)] (sx_mk c m o D) 0 0 Q := by
  rw [fa_doesN_1] at kk
  dsimp only at kk
  rw [sx_sM_self] at kk
  exact pj_J.cal0 kX5_run_21_X8 (c_X8_does_1 ha hO.1 (fa_doOk_1 hO).2.1.1 (fa_doOk_1 hO).2.1.2 (fa_doOk_1 hO).2.2) ⟨_, _, _, rfl, ha⟩ pj_le0 pj_le0 pj_le0 kk
theorem la_X5_run_1_2 {G : pj_G} {d : Nat} {c : sx_C} {m : sx_M} {o : Nat → Int64} {D : pj_H} {Q : pj_O → pj_H → Prop} {L : pj_L} {i : Nat} {s t v : Int32} (ha : D[i]? = some (.inr (7, [.int (nI 2), .int s, .int t, .int v]))) (hO : fa_doOk 2 c.1 (sx_R c 1) s t v) (kk : pj_J G mX5_run (d + 4) 24 L [.int (fa_doesN 2 c.1 (sx_R c 1) s t v).1] (sx_mk (sx_sR (sx_sM c (fa_doesN 2 c.1 (sx_R c 1) s t v).2.2) 1 (fa_doesN 2 c.1 (sx_R c 1) s t v).2.1) m o D) 0 0 Q) : pj_J G mX5_run (d + 4) 21 L [.ref 21, .ref (i + 98)] (sx_mk c m o D) 0 0 Q := by
  rw [fa_doesN_2] at kk
  dsimp only at kk
  rw [sx_sM_self] at kk
  exact pj_J.cal0 kX5_run_21_X9 (c_X9_does_1 ha hO.1 (fa_doOk_2 hO).2.1.1 (fa_doOk_2 hO).2.1.2 (fa_doOk_2 hO).2.2) ⟨_, _, _, rfl, ha⟩ pj_le0 pj_le0 pj_le0 kk
theorem la_X5_run_1_3 {G : pj_G} {d : Nat} {c : sx_C} {m : sx_M} {o : Nat → Int64} {D : pj_H} {Q : pj_O → pj_H → Prop} {L : pj_L} {i : Nat} {s t v : Int32} (ha : D[i]? = some (.inr (8, [.int (nI 3), .int s, .int t, .int v]))) (hO : fa_doOk 3 c.1 (sx_R c 1) s t v) (kk : pj_J G mX5_run (d + 4) 24 L [.int (fa_doesN 3 c.1 (sx_R c 1) s t v).1] (sx_mk (sx_sR (sx_sM c (fa_doesN 3 c.1 (sx_R c 1) s t v).2.2) 1 (fa_doesN 3 c.1 (sx_R c 1) s t v).2.1) m o D) 0 0 Q) : pj_J G mX5_run (d + 4) 21 L [.ref 21, .ref (i + 98)] (sx_mk c m o D) 0 0 Q := by
  rw [fa_doesN_3] at kk
  dsimp only at kk
  rw [sx_sM_self] at kk
  exact pj_J.cal0 kX5_run_21_X10 (c_X10_does_1 ha hO.1 (fa_doOk_3 hO).2.1.1 (fa_doOk_3 hO).2.1.2 (fa_doOk_3 hO).2.2) ⟨_, _, _, rfl, ha⟩ pj_le0 pj_le0 pj_le0 kk
theorem la_X5_run_1_4 {G : pj_G} {d : Nat} {c : sx_C} {m : sx_M} {o : Nat → Int64} {D : pj_H} {Q : pj_O → pj_H → Prop} {L : pj_L} {i : Nat} {s t v : Int32} (ha : D[i]? = some (.inr (9, [.int (nI 4), .int s, .int t, .int v]))) (hO : fa_doOk 4 c.1 (sx_R c 1) s t v) (kk : pj_J G mX5_run (d + 4) 24 L [.int (fa_doesN 4 c.1 (sx_R c 1) s t v).1] (sx_mk (sx_sR (sx_sM c (fa_doesN 4 c.1 (sx_R c 1) s t v).2.2) 1 (fa_doesN 4 c.1 (sx_R c 1) s t v).2.1) m o D) 0 0 Q) : pj_J G mX5_run (d + 4) 21 L [.ref 21, .ref (i + 98)] (sx_mk c m o D) 0 0 Q := by
  rw [fa_doesN_4] at kk
  dsimp only at kk
  rw [sx_sM_self] at kk
  exact pj_J.cal0 kX5_run_21_X11 (c_X11_does_1 ha hO.1  (fa_doOk_4 hO).2.2) ⟨_, _, _, rfl, ha⟩ pj_le0 pj_le0 pj_le0 kk
theorem la_X5_run_1_5 {G : pj_G} {d : Nat} {c : sx_C} {m : sx_M} {o : Nat → Int64} {D : pj_H} {Q : pj_O → pj_H → Prop} {L : pj_L} {i : Nat} {s t v : Int32} (ha : D[i]? = some (.inr (10, [.int (nI 5), .int s, .int t, .int v]))) (hO : fa_doOk 5 c.1 (sx_R c 1) s t v) (kk : pj_J G mX5_run (d + 4) 24 L [.int (fa_doesN 5 c.1 (sx_R c 1) s t v).1] (sx_mk (sx_sR (sx_sM c (fa_doesN 5 c.1 (sx_R c 1) s t v).2.2) 1 (fa_doesN 5 c.1 (sx_R c 1) s t v).2.1) m o D) 0 0 Q) : pj_J G mX5_run (d + 4) 21 L [.ref 21, .ref (i + 98)] (sx_mk c m o D) 0 0 Q := by
  rw [fa_doesN_5] at kk
  dsimp only at kk
  rw [sx_sM_self] at kk
  exact pj_J.cal0 kX5_run_21_X12 (c_X12_does_1 ha hO.1 (fa_doOk_5 hO).2.1 (fa_doOk_5 hO).2.2) ⟨_, _, _, rfl, ha⟩ pj_le0 pj_le0 pj_le0 kk
theorem la_X5_run_1_6 {G : pj_G} {d : Nat} {c : sx_C} {m : sx_M} {o : Nat → Int64} {D : pj_H} {Q : pj_O → pj_H → Prop} {L : pj_L} {i : Nat} {s t v : Int32} (ha : D[i]? = some (.inr (11, [.int (nI 6), .int s, .int t, .int v]))) (hO : fa_doOk 6 c.1 (sx_R c 1) s t v) (kk : pj_J G mX5_run (d + 4) 24 L [.int (fa_doesN 6 c.1 (sx_R c 1) s t v).1] (sx_mk (sx_sR (sx_sM c (fa_doesN 6 c.1 (sx_R c 1) s t v).2.2) 1 (fa_doesN 6 c.1 (sx_R c 1) s t v).2.1) m o D) 0 0 Q) : pj_J G mX5_run (d + 4) 21 L [.ref 21, .ref (i + 98)] (sx_mk c m o D) 0 0 Q := by
  rw [fa_doesN_6] at kk
  exact pj_J.cal0 kX5_run_21_X13 (c_X13_does_1 ha hO.1  (fa_doOk_6 hO).2.2) ⟨_, _, _, rfl, ha⟩ pj_le0 pj_le0 pj_le0 kk
theorem la_X5_run_1_7 {G : pj_G} {d : Nat} {c : sx_C} {m : sx_M} {o : Nat → Int64} {D : pj_H} {Q : pj_O → pj_H → Prop} {L : pj_L} {i : Nat} {s t v : Int32} (ha : D[i]? = some (.inr (12, [.int (nI 7), .int s, .int t, .int v]))) (hO : fa_doOk 7 c.1 (sx_R c 1) s t v) (kk : pj_J G mX5_run (d + 4) 24 L [.int (fa_doesN 7 c.1 (sx_R c 1) s t v).1] (sx_mk (sx_sR (sx_sM c (fa_doesN 7 c.1 (sx_R c 1) s t v).2.2) 1 (fa_doesN 7 c.1 (sx_R c 1) s t v).2.1) m o D) 0 0 Q) : pj_J G mX5_run (d + 4) 21 L [.ref 21, .ref (i + 98)] (sx_mk c m o D) 0 0 Q := by
  rw [fa_doesN_7] at kk
  dsimp only at kk
  rw [sx_sM_self] at kk
  exact pj_J.cal0 kX5_run_21_X14 (c_X14_does_1 ha hO.1 (fa_doOk_7 hO).2.1 (fa_doOk_7 hO).2.2) ⟨_, _, _, rfl, ha⟩ pj_le0 pj_le0 pj_le0 kk
theorem la_X5_run_1_8 {G : pj_G} {d : Nat} {c : sx_C} {m : sx_M} {o : Nat → Int64} {D : pj_H} {Q : pj_O → pj_H → Prop} {L : pj_L} {i : Nat} {s t v : Int32} (ha : D[i]? = some (.inr (13, [.int (nI 8), .int s, .int t, .int v]))) (hO : fa_doOk 8 c.1 (sx_R c 1) s t v) (kk : pj_J G mX5_run (d + 4) 24 L [.int (fa_doesN 8 c.1 (sx_R c 1) s t v).1] (sx_mk (sx_sR (sx_sM c (fa_doesN 8 c.1 (sx_R c 1) s t v).2.2) 1 (fa_doesN 8 c.1 (sx_R c 1) s t v).2.1) m o D) 0 0 Q) : pj_J G mX5_run (d + 4) 21 L [.ref 21, .ref (i + 98)] (sx_mk c m o D) 0 0 Q := by
  rw [fa_doesN_8] at kk
  dsimp only at kk
  rw [sx_sM_self] at kk
  exact pj_J.cal0 kX5_run_21_X15 (c_X15_does_1 ha hO.1  (fa_doOk_8 hO).2.2) ⟨_, _, _, rfl, ha⟩ pj_le0 pj_le0 pj_le0 kk
theorem la_X5_run_1_9 {G : pj_G} {d : Nat} {c : sx_C} {m : sx_M} {o : Nat → Int64} {D : pj_H} {Q : pj_O → pj_H → Prop} {L : pj_L} {i : Nat} {s t v : Int32} (ha : D[i]? = some (.inr (14, [.int (nI 9), .int s, .int t, .int v]))) (hO : fa_doOk 9 c.1 (sx_R c 1) s t v) (kk : pj_J G mX5_run (d + 4) 24 L [.int (fa_doesN 9 c.1 (sx_R c 1) s t v).1] (sx_mk (sx_sR (sx_sM c (fa_doesN 9 c.1 (sx_R c 1) s t v).2.2) 1 (fa_doesN 9 c.1 (sx_R c 1) s t v).2.1) m o D) 0 0 Q) : pj_J G mX5_run (d + 4) 21 L [.ref 21, .ref (i + 98)] (sx_mk c m o D) 0 0 Q := by
  rw [fa_doesN_9] at kk
  dsimp only at kk
  rw [sx_sM_self] at kk
  exact pj_J.cal0 kX5_run_21_X16 (c_X16_does_1 ha hO.1  (fa_doOk_9 hO).2.2) ⟨_, _, _, rfl, ha⟩ pj_le0 pj_le0 pj_le0 kk
theorem la_X5_run_1_10 {G : pj_G} {d : Nat} {c : sx_C} {m : sx_M} {o : Nat → Int64} {D : pj_H} {Q : pj_O → pj_H → Prop} {L : pj_L} {i : Nat} {s t v : Int32} (ha : D[i]? = some (.inr (15, [.int (nI 10), .int s, .int t, .int v]))) (hO : fa_doOk 10 c.1 (sx_R c 1) s t v) (kk : pj_J G mX5_run (d + 4) 24 L [.int (fa_doesN 10 c.1 (sx_R c 1) s t v).1] (sx_mk (sx_sR (sx_sM c (fa_doesN 10 c.1 (sx_R c 1) s t v).2.2) 1 (fa_doesN 10 c.1 (sx_R c 1) s t v).2.1) m o D) 0 0 Q) : pj_J G mX5_run (d + 4) 21 L [.ref 21, .ref (i + 98)] (sx_mk c m o D) 0 0 Q := by
  rw [fa_doesN_10] at kk
  dsimp only at kk
  rw [sx_sM_self] at kk
  exact pj_J.cal0 kX5_run_21_X17 (c_X17_does_1 ha hO.1 (fa_doOk_10 hO).2.1 (fa_doOk_10 hO).2.2) ⟨_, _, _, rfl, ha⟩ pj_le0 pj_le0 pj_le0 kk
theorem la_X5_run_1_11 {G : pj_G} {d : Nat} {c : sx_C} {m : sx_M} {o : Nat → Int64} {D : pj_H} {Q : pj_O → pj_H → Prop} {L : pj_L} {i : Nat} {s t v : Int32} (ha : D[i]? = some (.inr (16, [.int (nI 11), .int s, .int t, .int v]))) (hO : fa_doOk 11 c.1 (sx_R c 1) s t v) (kk : pj_J G mX5_run (d + 4) 24 L [.int (fa_doesN 11 c.1 (sx_R c 1) s t v).1] (sx_mk (sx_sR (sx_sM c (fa_doesN 11 c.1 (sx_R c 1) s t v).2.2) 1 (fa_doesN 11 c.1 (sx_R c 1) s t v).2.1) m o D) 0 0 Q) : pj_J G mX5_run (d + 4) 21 L [.ref 21, .ref (i + 98)] (sx_mk c m o D) 0 0 Q := by
  rw [fa_doesN_11] at kk
  dsimp only at kk
  rw [sx_sM_self] at kk
  exact pj_J.cal0 kX5_run_21_X18 (c_X18_does_1 ha hO.1 (fa_doOk_11 hO).2.1 (fa_doOk_11 hO).2.2) ⟨_, _, _, rfl, ha⟩ pj_le0 pj_le0 pj_le0 kk
theorem la_X5_run_1_12 {G : pj_G} {d : Nat} {c : sx_C} {m : sx_M} {o : Nat → Int64} {D : pj_H} {Q : pj_O → pj_H → Prop} {L : pj_L} {i : Nat} {s t v : Int32} (ha : D[i]? = some (.inr (17, [.int (nI 12), .int s, .int t, .int v]))) (hO : fa_doOk 12 c.1 (sx_R c 1) s t v) (kk : pj_J G mX5_run (d + 4) 24 L [.int (fa_doesN 12 c.1 (sx_R c 1) s t v).1] (sx_mk (sx_sR (sx_sM c (fa_doesN 12 c.1 (sx_R c 1) s t v).2.2) 1 (fa_doesN 12 c.1 (sx_R c 1) s t v).2.1) m o D) 0 0 Q) : pj_J G mX5_run (d + 4) 21 L [.ref 21, .ref (i + 98)] (sx_mk c m o D) 0 0 Q := by
  rw [fa_doesN_12] at kk
  dsimp only at kk
  rw [sx_sM_self] at kk
  exact pj_J.cal0 kX5_run_21_X19 (c_X19_does_1 ha hO.1 (fa_doOk_12 hO).2.1.1 (fa_doOk_12 hO).2.1.2 (fa_doOk_12 hO).2.2) ⟨_, _, _, rfl, ha⟩ pj_le0 pj_le0 pj_le0 kk
theorem la_X5_run_1 {G : pj_G} {d : Nat} {c : sx_C} {m : sx_M} {o : Nat → Int64} {D : pj_H} {Q : pj_O → pj_H → Prop} {L : pj_L} {i : Nat} {s t v : Int32} {k : Nat} (hk : k < 13) (ha : D[i]? = some (.inr (5 + k, [.int (nI k), .int s, .int t, .int v]))) (hO : fa_doOk k c.1 (sx_R c 1) s t v) (kk : pj_J G mX5_run (d + 4) 24 L [.int (fa_doesN k c.1 (sx_R c 1) s t v).1] (sx_mk (sx_sR (sx_sM c (fa_doesN k c.1 (sx_R c 1) s t v).2.2) 1 (fa_doesN k c.1 (sx_R c 1) s t v).2.1) m o D) 0 0 Q) : pj_J G mX5_run (d + 4) 21 L [.ref 21, .ref (i + 98)] (sx_mk c m o D) 0 0 Q := by
  have h : k = 0 ∨ k = 1 ∨ k = 2 ∨ k = 3 ∨ k = 4 ∨ k = 5 ∨ k = 6 ∨ k = 7 ∨ k = 8 ∨ k = 9 ∨ k = 10 ∨ k = 11 ∨ k = 12 := by omega
  rcases h with rfl | rfl | rfl | rfl | rfl | rfl | rfl | rfl | rfl | rfl | rfl | rfl | rfl
  · exact la_X5_run_1_0 ha hO kk
  · exact la_X5_run_1_1 ha hO kk
  · exact la_X5_run_1_2 ha hO kk
  · exact la_X5_run_1_3 ha hO kk
  · exact la_X5_run_1_4 ha hO kk
  · exact la_X5_run_1_5 ha hO kk
  · exact la_X5_run_1_6 ha hO kk
  · exact la_X5_run_1_7 ha hO kk
  · exact la_X5_run_1_8 ha hO kk
  · exact la_X5_run_1_9 ha hO kk
  · exact la_X5_run_1_10 ha hO kk
  · exact la_X5_run_1_11 ha hO kk
  · exact la_X5_run_1_12 ha hO kk
theorem la_X5_run_2_0 {G : pj_G} {d : Nat} {c : sx_C} {m : sx_M} {o : Nat → Int64} {D : pj_H} {Q : pj_O → pj_H → Prop} {L : pj_L} {i : Nat} {s t v : Int32} (ha : D[i]? = some (.inr (5, [.int (nI 0), .int s, .int t, .int v]))) (hO : fa_doOk 0 c.1 (sx_R c 2) s t v) (kk : pj_J G mX5_run (d + 4) 24 L [.int (fa_doesN 0 c.1 (sx_R c 2) s t v).1] (sx_mk (sx_sR (sx_sM c (fa_doesN 0 c.1 (sx_R c 2) s t v).2.2) 2 (fa_doesN 0 c.1 (sx_R c 2) s t v).2.1) m o D) 0 0 Q) : pj_J G mX5_run (d + 4) 21 L [.ref 32, .ref (i + 98)] (sx_mk c m o D) 0 0 Q := by
  rw [fa_doesN_0] at kk
  dsimp only at kk
  rw [sx_sM_self] at kk
  exact pj_J.cal0 kX5_run_21_X7 (c_X7_does_2 ha hO.1 (fa_doOk_0 hO).2.1.1 (fa_doOk_0 hO).2.1.2 (fa_doOk_0 hO).2.2) ⟨_, _, _, rfl, ha⟩ pj_le0 pj_le0 pj_le0 kk
theorem la_X5_run_2_1 {G : pj_G} {d : Nat} {c : sx_C} {m : sx_M} {o : Nat → Int64} {D : pj_H} {Q : pj_O → pj_H → Prop} {L : pj_L} {i : Nat} {s t v : Int32} (ha : D[i]? = some (.inr (6, [.int (nI 1), .int s, .int t, .int v]))) (hO : fa_doOk 1 c.1 (sx_R c 2) s t v) (kk : pj_J G mX5_run (d + 4) 24 L [.int (fa_doesN 1 c.1 (sx_R c 2) s t v).1] (sx_mk (sx_sR (sx_sM c (fa_doesN 1 c.1 (sx_R c 2) s t v).2.2) 2 (fa_doesN 1 c.1 (sx_R c 2) s t v).2.1) m o D) 0 0 Q) : pj_J G mX5_run (d + 4) 21 L [.ref 32, .ref (i + 98)] (sx_mk c m o D) 0 0 Q := by
  rw [fa_doesN_1] at kk
  dsimp only at kk
  rw [sx_sM_self] at kk
  exact pj_J.cal0 kX5_run_21_X8 (c_X8_does_2 ha hO.1 (fa_doOk_1 hO).2.1.1 (fa_doOk_1 hO).2.1.2 (fa_doOk_1 hO).2.2) ⟨_, _, _, rfl, ha⟩ pj_le0 pj_le0 pj_le0 kk
theorem la_X5_run_2_2 {G : pj_G} {d : Nat} {c : sx_C} {m : sx_M} {o : Nat → Int64} {D : pj_H} {Q : pj_O → pj_H → Prop} {L : pj_L} {i : Nat} {s t v : Int32} (ha : D[i]? = some (.inr (7, [.int (nI 2), .int s, .int t, .int v]))) (hO : fa_doOk 2 c.1 (sx_R c 2) s t v) (kk : pj_J G mX5_run (d + 4) 24 L [.int (fa_doesN 2 c.1 (sx_R c 2) s t v).1] (sx_mk (sx_sR (sx_sM c (fa_doesN 2 c.1 (sx_R c 2) s t v).2.2) 2 (fa_doesN 2 c.1 (sx_R c 2) s t v).2.1) m o D) 0 0 Q) : pj_J G mX5_run (d + 4) 21 L [.ref 32, .ref (i + 98)] (sx_mk c m o D) 0 0 Q := by
  rw [fa_doesN_2] at kk
  dsimp only at kk
  rw [sx_sM_self] at kk
  exact pj_J.cal0 kX5_run_21_X9 (c_X9_does_2 ha hO.1 (fa_doOk_2 hO).2.1.1 (fa_doOk_2 hO).2.1.2 (fa_doOk_2 hO).2.2) ⟨_, _, _, rfl, ha⟩ pj_le0 pj_le0 pj_le0 kk
theorem la_X5_run_2_3 {G : pj_G} {d : Nat} {c : sx_C} {m : sx_M} {o : Nat → Int64} {D : pj_H} {Q : pj_O → pj_H → Prop} {L : pj_L} {i : Nat} {s t v : Int32} (ha : D[i]? = some (.inr (8, [.int (nI 3), .int s, .int t, .int v]))) (hO : fa_doOk 3 c.1 (sx_R c 2) s t v) (kk : pj_J G mX5_run (d + 4) 24 L [.int (fa_doesN 3 c.1 (sx_R c 2) s t v).1] (sx_mk (sx_sR (sx_sM c (fa_doesN 3 c.1 (sx_R c 2) s t v).2.2) 2 (fa_doesN 3 c.1 (sx_R c 2) s t v).2.1) m o D) 0 0 Q) : pj_J G mX5_run (d + 4) 21 L [.ref 32, .ref (i + 98)] (sx_mk c m o D) 0 0 Q := by
  rw [fa_doesN_3] at kk
  dsimp only at kk
  rw [sx_sM_self] at kk
  exact pj_J.cal0 kX5_run_21_X10 (c_X10_does_2 ha hO.1 (fa_doOk_3 hO).2.1.1 (fa_doOk_3 hO).2.1.2 (fa_doOk_3 hO).2.2) ⟨_, _, _, rfl, ha⟩ pj_le0 pj_le0 pj_le0 kk
theorem la_X5_run_2_4 {G : pj_G} {d : Nat} {c : sx_C} {m : sx_M} {o : Nat → Int64} {D : pj_H} {Q : pj_O → pj_H → Prop} {L : pj_L} {i : Nat} {s t v : Int32} (ha : D[i]? = some (.inr (9, [.int (nI 4), .int s, .int t, .int v]))) (hO : fa_doOk 4 c.1 (sx_R c 2) s t v) (kk : pj_J G mX5_run (d + 4) 24 L [.int (fa_doesN 4 c.1 (sx_R c 2) s t v).1] (sx_mk (sx_sR (sx_sM c (fa_doesN 4 c.1 (sx_R c 2) s t v).2.2) 2 (fa_doesN 4 c.1 (sx_R c 2) s t v).2.1) m o D) 0 0 Q) : pj_J G mX5_run (d + 4) 21 L [.ref 32, .ref (i + 98)] (sx_mk c m o D) 0 0 Q := by
  rw [fa_doesN_4] at kk
  dsimp only at kk
  rw [sx_sM_self] at kk
  exact pj_J.cal0 kX5_run_21_X11 (c_X11_does_2 ha hO.1  (fa_doOk_4 hO).2.2) ⟨_, _, _, rfl, ha⟩ pj_le0 pj_le0 pj_le0 kk
theorem la_X5_run_2_5 {G : pj_G} {d : Nat} {c : sx_C} {m : sx_M} {o : Nat → Int64} {D : pj_H} {Q : pj_O → pj_H → Prop} {L : pj_L} {i : Nat} {s t v : Int32} (ha : D[i]? = some (.inr (10, [.int (nI 5), .int s, .int t, .int v]))) (hO : fa_doOk 5 c.1 (sx_R c 2) s t v) (kk : pj_J G mX5_run (d + 4) 24 L [.int (fa_doesN 5 c.1 (sx_R c 2) s t v).1] (sx_mk (sx_sR (sx_sM c (fa_doesN 5 c.1 (sx_R c 2) s t v).2.2) 2 (fa_doesN 5 c.1 (sx_R c 2) s t v).2.1) m o D) 0 0 Q) : pj_J G mX5_run (d + 4) 21 L [.ref 32, .ref (i + 98)] (sx_mk c m o D) 0 0 Q := by
  rw [fa_doesN_5] at kk
  dsimp only at kk
  rw [sx_sM_self] at kk
  exact pj_J.cal0 kX5_run_21_X12 (c_X12_does_2 ha hO.1 (fa_doOk_5 hO).2.1 (fa_doOk_5 hO).2.2) ⟨_, _, _, rfl, ha⟩ pj_le0 pj_le0 pj_le0 kk
theorem la_X5_run_2_6 {G : pj_G} {d : Nat} {c : sx_C} {m : sx_M} {o : Nat → Int64} {D : pj_H} {Q : pj_O → pj_H → Prop} {L : pj_L} {i : Nat} {s t v : Int32} (ha : D[i]? = some (.inr (11, [.int (nI 6), .int s, .int t, .int v]))) (hO : fa_doOk 6 c.1 (sx_R c 2) s t v) (kk : pj_J G mX5_run (d + 4) 24 L [.int (fa_doesN 6 c.1 (sx_R c 2) s t v).1] (sx_mk (sx_sR (sx_sM c (fa_doesN 6 c.1 (sx_R c 2) s t v).2.2) 2 (fa_doesN 6 c.1 (sx_R c 2) s t v).2.1) m o D) 0 0 Q) : pj_J G mX5_run (d + 4) 21 L [.ref 32, .ref (i + 98)] (sx_mk c m o D) 0 0 Q := by
  rw [fa_doesN_6] at kk
  exact pj_J.cal0 kX5_run_21_X13 (c_X13_does_2 ha hO.1  (fa_doOk_6 hO).2.2) ⟨_, _, _, rfl, ha⟩ pj_le0 pj_le0 pj_le0 kk
theorem la_X5_run_2_7 {G : pj_G} {d : Nat} {c : sx_C} {m : sx_M} {o : Nat → Int64} {D : pj_H} {Q : pj_O → pj_H → Prop} {L : pj_L} {i : Nat} {s t v : Int32} (ha : D[i]? = some (.inr (12, [.int (nI 7), .int s, .int t, .int v]))) (hO : fa_doOk 7 c.1 (sx_R c 2) s t v) (kk : pj_J G mX5_run (d + 4) 24 L [.int (fa_doesN 7 c.1 (sx_R c 2) s t v).1] (sx_mk (sx_sR (sx_sM c (fa_doesN 7 c.1 (sx_R c 2) s t v).2.2) 2 (fa_doesN 7 c.1 (sx_R c 2) s t v).2.1) m o D) 0 0 Q) : pj_J G mX5_run (d + 4) 21 L [.ref 32, .ref (i + 98)] (sx_mk c m o D) 0 0 Q := by
  rw [fa_doesN_7] at kk
  dsimp only at kk
  rw [sx_sM_self] at kk
  exact pj_J.cal0 kX5_run_21_X14 (c_X14_does_2 ha hO.1 (fa_doOk_7 hO).2.1 (fa_doOk_7 hO).2.2) ⟨_, _, _, rfl, ha⟩ pj_le0 pj_le0 pj_le0 kk
theorem la_X5_run_2_8 {G : pj_G} {d : Nat} {c : sx_C} {m : sx_M} {o : Nat → Int64} {D : pj_H} {Q : pj_O → pj_H → Prop} {L : pj_L} {i : Nat} {s t v : Int32} (ha : D[i]? = some (.inr (13, [.int (nI 8), .int s, .int t, .int v]))) (hO : fa_doOk 8 c.1 (sx_R c 2) s t v) (kk : pj_J G mX5_run (d + 4) 24 L [.int (fa_doesN 8 c.1 (sx_R c 2) s t v).1] (sx_mk (sx_sR (sx_sM c (fa_doesN 8 c.1 (sx_R c 2) s t v).2.2) 2 (fa_doesN 8 c.1 (sx_R c 2) s t v).2.1) m o D) 0 0 Q) : pj_J G mX5_run (d + 4) 21 L [.ref 32, .ref (i + 98)] (sx_mk c m o D) 0 0 Q := by
  rw [fa_doesN_8] at kk
  dsimp only at kk
  rw [sx_sM_self] at kk
  exact pj_J.cal0 kX5_run_21_X15 (c_X15_does_2 ha hO.1  (fa_doOk_8 hO).2.2) ⟨_, _, _, rfl, ha⟩ pj_le0 pj_le0 pj_le0 kk
theorem la_X5_run_2_9 {G : pj_G} {d : Nat} {c : sx_C} {m : sx_M} {o : Nat → Int64} {D : pj_H} {Q : pj_O → pj_H → Prop} {L : pj_L} {i : Nat} {s t v : Int32} (ha : D[i]? = some (.inr (14, [.int (nI 9), .int s, .int t, .int v]))) (hO : fa_doOk 9 c.1 (sx_R c 2) s t v) (kk : pj_J G mX5_run (d + 4) 24 L [.int (fa_doesN 9 c.1 (sx_R c 2) s t v).1] (sx_mk (sx_sR (sx_sM c (fa_doesN 9 c.1 (sx_R c 2) s t v).2.2) 2 (fa_doesN 9 c.1 (sx_R c 2) s t v).2.1) m o D) 0 0 Q) : pj_J G mX5_run (d + 4) 21 L [.ref 32, .ref (i + 98)] (sx_mk c m o D) 0 0 Q := by
  rw [fa_doesN_9] at kk
  dsimp only at kk
  rw [sx_sM_self] at kk
  exact pj_J.cal0 kX5_run_21_X16 (c_X16_does_2 ha hO.1  (fa_doOk_9 hO).2.2) ⟨_, _, _, rfl, ha⟩ pj_le0 pj_le0 pj_le0 kk
theorem la_X5_run_2_10 {G : pj_G} {d : Nat} {c : sx_C} {m : sx_M} {o : Nat → Int64} {D : pj_H} {Q : pj_O → pj_H → Prop} {L : pj_L} {i : Nat} {s t v : Int32} (ha : D[i]? = some (.inr (15, [.int (nI 10), .int s, .int t, .int v]))) (hO : fa_doOk 10 c.1 (sx_R c 2) s t v) (kk : pj_J G mX5_run (d + 4) 24 L [.int (fa_doesN 10 c.1 (sx_R c 2) s t v).1] (sx_mk (sx_sR (sx_sM c (fa_doesN 10 c.1 (sx_R c 2) s t v).2.2) 2 (fa_doesN 10 c.1 (sx_R c 2) s t v).2.1) m o D) 0 0 Q) : pj_J G mX5_run (d + 4) 21 L [.ref 32, .ref (i + 98)] (sx_mk c m o D) 0 0 Q := by
  rw [fa_doesN_10] at kk
  dsimp only at kk
  rw [sx_sM_self] at kk
  exact pj_J.cal0 kX5_run_21_X17 (c_X17_does_2 ha hO.1 (fa_doOk_10 hO).2.1 (fa_doOk_10 hO).2.2) ⟨_, _, _, rfl, ha⟩ pj_le0 pj_le0 pj_le0 kk
theorem la_X5_run_2_11 {G : pj_G} {d : Nat} {c : sx_C} {m : sx_M} {o : Nat → Int64} {D : pj_H} {Q : pj_O → pj_H → Prop} {L : pj_L} {i : Nat} {s t v : Int32} (ha : D[i]? = some (.inr (16, [.int (nI 11), .int s, .int t, .int v]))) (hO : fa_doOk 11 c.1 (sx_R c 2) s t v) (kk : pj_J G mX5_run (d + 4) 24 L [.int (fa_doesN 11 c.1 (sx_R c 2) s t v).1] (sx_mk (sx_sR (sx_sM c (fa_doesN 11 c.1 (sx_R c 2) s t v).2.2) 2 (fa_doesN 11 c.1 (sx_R c 2) s t v).2.1) m o D) 0 0 Q) : pj_J G mX5_run (d + 4) 21 L [.ref 32, .ref (i + 98)] (sx_mk c m o D) 0 0 Q := by
  rw [fa_doesN_11] at kk
  dsimp only at kk
  rw [sx_sM_self] at kk
  exact pj_J.cal0 kX5_run_21_X18 (c_X18_does_2 ha hO.1 (fa_doOk_11 hO).2.1 (fa_doOk_11 hO).2.2) ⟨_, _, _, rfl, ha⟩ pj_le0 pj_le0 pj_le0 kk
theorem la_X5_run_2_12 {G : pj_G} {d : Nat} {c : sx_C} {m : sx_M} {o : Nat → Int64} {D : pj_H} {Q : pj_O → pj_H → Prop} {L : pj_L} {i : Nat} {s t v : Int32} (ha : D[i]? = some (.inr (17, [.int (nI 12), .int s, .int t, .int v]))) (hO : fa_doOk 12 c.1 (sx_R c 2) s t v) (kk : pj_J G mX5_run (d + 4) 24 L [.int (fa_doesN 12 c.1 (sx_R c 2) s t v).1] (sx_mk (sx_sR (sx_sM c (fa_doesN 12 c.1 (sx_R c 2) s t v).2.2) 2 (fa_doesN 12 c.1 (sx_R c 2) s t v).2.1) m o D) 0 0 Q) : pj_J G mX5_run (d + 4) 21 L [.ref 32, .ref (i + 98)] (sx_mk c m o D) 0 0 Q := by
  rw [fa_doesN_12] at kk
  dsimp only at kk
  rw [sx_sM_self] at kk
  exact pj_J.cal0 kX5_run_21_X19 (c_X19_does_2 ha hO.1 (fa_doOk_12 hO).2.1.1 (fa_doOk_12 hO).2.1.2 (fa_doOk_12 hO).2.2) ⟨_, _, _, rfl, ha⟩ pj_le0 pj_le0 pj_le0 kk
theorem la_X5_run_2 {G : pj_G} {d : Nat} {c : sx_C} {m : sx_M} {o : Nat → Int64} {D : pj_H} {Q : pj_O → pj_H → Prop} {L : pj_L} {i : Nat} {s t v : Int32} {k : Nat} (hk : k < 13) (ha : D[i]? = some (.inr (5 + k, [.int (nI k), .int s, .int t, .int v]))) (hO : fa_doOk k c.1 (sx_R c 2) s t v) (kk : pj_J G mX5_run (d + 4) 24 L [.int (fa_doesN k c.1 (sx_R c 2) s t v).1] (sx_mk (sx_sR (sx_sM c (fa_doesN k c.1 (sx_R c 2) s t v).2.2) 2 (fa_doesN k c.1 (sx_R c 2) s t v).2.1) m o D) 0 0 Q) : pj_J G mX5_run (d + 4) 21 L [.ref 32, .ref (i + 98)] (sx_mk c m o D) 0 0 Q := by
  have h : k = 0 ∨ k = 1 ∨ k = 2 ∨ k = 3 ∨ k = 4 ∨ k = 5 ∨ k = 6 ∨ k = 7 ∨ k = 8 ∨ k = 9 ∨ k = 10 ∨ k = 11 ∨ k = 12 := by omega
  rcases h with rfl | rfl | rfl | rfl | rfl | rfl | rfl | rfl | rfl | rfl | rfl | rfl | rfl
  · exact la_X5_run_2_0 ha hO kk
  · exact la_X5_run_2_1 ha hO kk
  · exact la_X5_run_2_2 ha hO kk
  · exact la_X5_run_2_3 ha hO kk
  · exact la_X5_run_2_4 ha hO kk
  · exact la_X5_run_2_5 ha hO kk
  · exact la_X5_run_2_6 ha hO kk
  · exact la_X5_run_2_7 ha hO kk
  · exact la_X5_run_2_8 ha hO kk
  · exact la_X5_run_2_9 ha hO kk
  · exact la_X5_run_2_10 ha hO kk
  · exact la_X5_run_2_11 ha hO kk
  · exact la_X5_run_2_12 ha hO kk
theorem la_X1_run_0_0 {G : pj_G} {d : Nat} {c : sx_C} {m : sx_M} {o : Nat → Int64} {D : pj_H} {Q : pj_O → pj_H → Prop} {L : pj_L} {i : Nat} {s t v : Int32} (ha : D[i]? = some (.inr (5, [.int (nI 0), .int s, .int t, .int v]))) (hO : fa_doOk 0 c.1 (sx_R c 0) s t v) (kk : pj_J G mX1_run (d + 4) 124 L [.int (fa_doesN 0 c.1 (sx_R c 0) s t v).1] (sx_mk (sx_sR (sx_sM c (fa_doesN 0 c.1 (sx_R c 0) s t v).2.2) 0 (fa_doesN 0 c.1 (sx_R c 0) s t v).2.1) m o D) 0 0 Q) : pj_J G mX1_run (d + 4) 121 L [.ref 10, .ref (i + 98)] (sx_mk c m o D) 0 0 Q := by
  rw [fa_doesN_0] at kk
  dsimp only at kk
  rw [sx_sM_self] at kk
  exact pj_J.cal0 kX1_run_121_X7 (c_X7_does_0 ha hO.1 (fa_doOk_0 hO).2.1.1 (fa_doOk_0 hO).2.1.2 (fa_doOk_0 hO).2.2) ⟨_, _, _, rfl, ha⟩ pj_le0 pj_le0 pj_le0 kk
theorem la_X1_run_0_1 {G : pj_G} {d : Nat} {c : sx_C} {m : sx_M} {o : Nat → Int64} {D : pj_H} {Q : pj_O → pj_H → Prop} {L : pj_L} {i : Nat} {s t v : Int32} (ha : D[i]? = some (.inr (6, [.int (nI 1), .int s, .int t, .int v]))) (hO : fa_doOk 1 c.1 (sx_R c 0) s t v) (kk : pj_J G mX1_run (d + 4) 124 L [.int (fa_doesN 1 c.1 (sx_R c 0) s t v).1] (sx_mk (sx_sR (sx_sM c (fa_doesN 1 c.1 (sx_R c 0) s t v).2.2) 0 (fa_doesN 1 c.1 (sx_R c 0) s t v).2.1) m o D) 0 0 Q) : pj_J G mX1_run (d + 4) 121 L [.ref 10, .ref (i + 98)] (sx_mk c m o D) 0 0 Q := by
  rw [fa_doesN_1] at kk
  dsimp only at kk
  rw [sx_sM_self] at kk
  exact pj_J.cal0 kX1_run_121_X8 (c_X8_does_0 ha hO.1 (fa_doOk_1 hO).2.1.1 (fa_doOk_1 hO).2.1.2 (fa_doOk_1 hO).2.2) ⟨_, _, _, rfl, ha⟩ pj_le0 pj_le0 pj_le0 kk
theorem la_X1_run_0_2 {G : pj_G} {d : Nat} {c : sx_C} {m : sx_M} {o : Nat → Int64} {D : pj_H} {Q : pj_O → pj_H → Prop} {L : pj_L} {i : Nat} {s t v : Int32} (ha : D[i]? = some (.inr (7, [.int (nI 2), .int s, .int t, .int v]))) (hO : fa_doOk 2 c.1 (sx_R c 0) s t v) (kk : pj_J G mX1_run (d + 4) 124 L [.int (fa_doesN 2 c.1 (sx_R c 0) s t v).1] (sx_mk (sx_sR (sx_sM c (fa_doesN 2 c.1 (sx_R c 0) s t v).2.2) 0 (fa_doesN 2 c.1 (sx_R c 0) s t v).2.1) m o D) 0 0 Q) : pj_J G mX1_run (d + 4) 121 L [.ref 10, .ref (i + 98)] (sx_mk c m o D) 0 0 Q := by
  rw [fa_doesN_2] at kk
  dsimp only at kk
  rw [sx_sM_self] at kk
  exact pj_J.cal0 kX1_run_121_X9 (c_X9_does_0 ha hO.1 (fa_doOk_2 hO).2.1.1 (fa_doOk_2 hO).2.1.2 (fa_doOk_2 hO).2.2) ⟨_, _, _, rfl, ha⟩ pj_le0 pj_le0 pj_le0 kk
theorem la_X1_run_0_3 {G : pj_G} {d : Nat} {c : sx_C} {m : sx_M} {o : Nat → Int64} {D : pj_H} {Q : pj_O → pj_H → Prop} {L : pj_L} {i : Nat} {s t v : Int32} (ha : D[i]? = some (.inr (8, [.int (nI 3), .int s, .int t, .int v]))) (hO : fa_doOk 3 c.1 (sx_R c 0) s t v) (kk : pj_J G mX1_run (d + 4) 124 L [.int (fa_doesN 3 c.1 (sx_R c 0) s t v).1] (sx_mk (sx_sR (sx_sM c (fa_doesN 3 c.1 (sx_R c 0) s t v).2.2) 0 (fa_doesN 3 c.1 (sx_R c 0) s t v).2.1) m o D) 0 0 Q) : pj_J G mX1_run (d + 4) 121 L [.ref 10, .ref (i + 98)] (sx_mk c m o D) 0 0 Q := by
  rw [fa_doesN_3] at kk
  dsimp only at kk
  rw [sx_sM_self] at kk
  exact pj_J.cal0 kX1_run_121_X10 (c_X10_does_0 ha hO.1 (fa_doOk_3 hO).2.1.1 (fa_doOk_3 hO).2.1.2 (fa_doOk_3 hO).2.2) ⟨_, _, _, rfl, ha⟩ pj_le0 pj_le0 pj_le0 kk
theorem la_X1_run_0_4 {G : pj_G} {d : Nat} {c : sx_C} {m : sx_M} {o : Nat → Int64} {D : pj_H} {Q : pj_O → pj_H → Prop} {L : pj_L} {i : Nat} {s t v : Int32} (ha : D[i]? = some (.inr (9, [.int (nI 4), .int s, .int t, .int v]))) (hO : fa_doOk 4 c.1 (sx_R c 0) s t v) (kk : pj_J G mX1_run (d + 4) 124 L [.int (fa_doesN 4 c.1 (sx_R c 0) s t v).1] (sx_mk (sx_sR (sx_sM c (fa_doesN 4 c.1 (sx_R c 0) s t v).2.2) 0 (fa_doesN 4 c.1 (sx_R c 0) s t v).2.1) m o D) 0 0 Q) : pj_J G mX1_run (d + 4) 121 L [.ref 10, .ref (i + 98)] (sx_mk c m o D) 0 0 Q := by
  rw [fa_doesN_4] at kk
  dsimp only at kk
  rw [sx_sM_self] at kk
  exact pj_J.cal0 kX1_run_121_X11 (c_X11_does_0 ha hO.1  (fa_doOk_4 hO).2.2) ⟨_, _, _, rfl, ha⟩ pj_le0 pj_le0 pj_le0 kk
theorem la_X1_run_0_5 {G : pj_G} {d : Nat} {c : sx_C} {m : sx_M} {o : Nat → Int64} {D : pj_H} {Q : pj_O → pj_H → Prop} {L : pj_L} {i : Nat} {s t v : Int32} (ha : D[i]? = some (.inr (10, [.int (nI 5), .int s, .int t, .int v]))) (hO : fa_doOk 5 c.1 (sx_R c 0) s t v) (kk : pj_J G mX1_run (d + 4) 124 L [.int (fa_doesN 5 c.1 (sx_R c 0) s t v).1] (sx_mk (sx_sR (sx_sM c (fa_doesN 5 c.1 (sx_R c 0) s t v).2.2) 0 (fa_doesN 5 c.1 (sx_R c 0) s t v).2.1) m o D) 0 0 Q) : pj_J G mX1_run (d + 4) 121 L [.ref 10, .ref (i + 98)] (sx_mk c m o D) 0 0 Q := by
  rw [fa_doesN_5] at kk
  dsimp only at kk
  rw [sx_sM_self] at kk
  exact pj_J.cal0 kX1_run_121_X12 (c_X12_does_0 ha hO.1 (fa_doOk_5 hO).2.1 (fa_doOk_5 hO).2.2) ⟨_, _, _, rfl, ha⟩ pj_le0 pj_le0 pj_le0 kk
theorem la_X1_run_0_6 {G : pj_G} {d : Nat} {c : sx_C} {m : sx_M} {o : Nat → Int64} {D : pj_H} {Q : pj_O → pj_H → Prop} {L : pj_L} {i : Nat} {s t v : Int32} (ha : D[i]? = some (.inr (11, [.int (nI 6), .int s, .int t, .int v]))) (hO : fa_doOk 6 c.1 (sx_R c 0) s t v) (kk : pj_J G mX1_run (d + 4) 124 L [.int (fa_doesN 6 c.1 (sx_R c 0) s t v).1] (sx_mk (sx_sR (sx_sM c (fa_doesN 6 c.1 (sx_R c 0) s t v).2.2) 0 (fa_doesN 6 c.1 (sx_R c 0) s t v).2.1) m o D) 0 0 Q) : pj_J G mX1_run (d + 4) 121 L [.ref 10, .ref (i + 98)] (sx_mk c m o D) 0 0 Q := by
  rw [fa_doesN_6] at kk
  exact pj_J.cal0 kX1_run_121_X13 (c_X13_does_0 ha hO.1  (fa_doOk_6 hO).2.2) ⟨_, _, _, rfl, ha⟩ pj_le0 pj_le0 pj_le0 kk
theorem la_X1_run_0_7 {G : pj_G} {d : Nat} {c : sx_C} {m : sx_M} {o : Nat → Int64} {D : pj_H} {Q : pj_O → pj_H → Prop} {L : pj_L} {i : Nat} {s t v : Int32} (ha : D[i]? = some (.inr (12, [.int (nI 7), .int s, .int t, .int v]))) (hO : fa_doOk 7 c.1 (sx_R c 0) s t v) (kk : pj_J G mX1_run (d + 4) 124 L [.int (fa_doesN 7 c.1 (sx_R c 0) s t v).1] (sx_mk (sx_sR (sx_sM c (fa_doesN 7 c.1 (sx_R c 0) s t v).2.2) 0 (fa_doesN 7 c.1 (sx_R c 0) s t v).2.1) m o D) 0 0 Q) : pj_J G mX1_run (d + 4) 121 L [.ref 10, .ref (i + 98)] (sx_mk c m o D) 0 0 Q := by
  rw [fa_doesN_7] at kk
  dsimp only at kk
  rw [sx_sM_self] at kk
  exact pj_J.cal0 kX1_run_121_X14 (c_X14_does_0 ha hO.1 (fa_doOk_7 hO).2.1 (fa_doOk_7 hO).2.2) ⟨_, _, _, rfl, ha⟩ pj_le0 pj_le0 pj_le0 kk
theorem la_X1_run_0_8 {G : pj_G} {d : Nat} {c : sx_C} {m : sx_M} {o : Nat → Int64} {D : pj_H} {Q : pj_O → pj_H → Prop} {L : pj_L} {i : Nat} {s t v : Int32} (ha : D[i]? = some (.inr (13, [.int (nI 8), .int s, .int t, .int v]))) (hO : fa_doOk 8 c.1 (sx_R c 0) s t v) (kk : pj_J G mX1_run (d + 4) 124 L [.int (fa_doesN 8 c.1 (sx_R c 0) s t v).1] (sx_mk (sx_sR (sx_sM c (fa_doesN 8 c.1 (sx_R c 0) s t v).2.2) 0 (fa_doesN 8 c.1 (sx_R c 0) s t v).2.1) m o D) 0 0 Q) : pj_J G mX1_run (d + 4) 121 L [.ref 10, .ref (i + 98)] (sx_mk c m o D) 0 0 Q := by
  rw [fa_doesN_8] at kk
  dsimp only at kk
  rw [sx_sM_self] at kk
  exact pj_J.cal0 kX1_run_121_X15 (c_X15_does_0 ha hO.1  (fa_doOk_8 hO).2.2) ⟨_, _, _, rfl, ha⟩ pj_le0 pj_le0 pj_le0 kk
theorem la_X1_run_0_9 {G : pj_G} {d : Nat} {c : sx_C} {m : sx_M} {o : Nat → Int64} {D : pj_H} {Q : pj_O → pj_H → Prop} {L : pj_L} {i : Nat} {s t v : Int32} (ha : D[i]? = some (.inr (14, [.int (nI 9), .int s, .int t, .int v]))) (hO : fa_doOk 9 c.1 (sx_R c 0) s t v) (kk : pj_J G mX1_run (d + 4) 124 L [.int (fa_doesN 9 c.1 (sx_R c 0) s t v).1] (sx_mk (sx_sR (sx_sM c (fa_doesN 9 c.1 (sx_R c 0) s t v).2.2) 0 (fa_doesN 9 c.1 (sx_R c 0) s t v).2.1) m o D) 0 0 Q) : pj_J G mX1_run (d + 4) 121 L [.ref 10, .ref (i + 98)] (sx_mk c m o D) 0 0 Q := by
  rw [fa_doesN_9] at kk
  dsimp only at kk
  rw [sx_sM_self] at kk
  exact pj_J.cal0 kX1_run_121_X16 (c_X16_does_0 ha hO.1  (fa_doOk_9 hO).2.2) ⟨_, _, _, rfl, ha⟩ pj_le0 pj_le0 pj_le0 kk
theorem la_X1_run_0_10 {G : pj_G} {d : Nat} {c : sx_C} {m : sx_M} {o : Nat → Int64} {D : pj_H} {Q : pj_O → pj_H → Prop} {L : pj_L} {i : Nat} {s t v : Int32} (ha : D[i]? = some (.inr (15, [.int (nI 10), .int s, .int t, .int v]))) (hO : fa_doOk 10 c.1 (sx_R c 0) s t v) (kk : pj_J G mX1_run (d + 4) 124 L [.int (fa_doesN 10 c.1 (sx_R c 0) s t v).1] (sx_mk (sx_sR (sx_sM c (fa_doesN 10 c.1 (sx_R c 0) s t v).2.2) 0 (fa_doesN 10 c.1 (sx_R c 0) s t v).2.1) m o D) 0 0 Q) : pj_J G mX1_run (d + 4) 121 L [.ref 10, .ref (i + 98)] (sx_mk c m o D) 0 0 Q := by
  rw [fa_doesN_10] at kk
  dsimp only at kk
  rw [sx_sM_self] at kk
  exact pj_J.cal0 kX1_run_121_X17 (c_X17_does_0 ha hO.1 (fa_doOk_10 hO).2.1 (fa_doOk_10 hO).2.2) ⟨_, _, _, rfl, ha⟩ pj_le0 pj_le0 pj_le0 kk
theorem la_X1_run_0_11 {G : pj_G} {d : Nat} {c : sx_C} {m : sx_M} {o : Nat → Int64} {D : pj_H} {Q : pj_O → pj_H → Prop} {L : pj_L} {i : Nat} {s t v : Int32} (ha : D[i]? = some (.inr (16, [.int (nI 11), .int s, .int t, .int v]))) (hO : fa_doOk 11 c.1 (sx_R c 0) s t v) (kk : pj_J G mX1_run (d + 4) 124 L [.int (fa_doesN 11 c.1 (sx_R c 0) s t v).1] (sx_mk (sx_sR (sx_sM c (fa_doesN 11 c.1 (sx_R c 0) s t v).2.2) 0 (fa_doesN 11 c.1 (sx_R c 0) s t v).2.1) m o D) 0 0 Q) : pj_J G mX1_run (d + 4) 121 L [.ref 10, .ref (i + 98)] (sx_mk c m o D) 0 0 Q := by
  rw [fa_doesN_11] at kk
  dsimp only at kk
  rw [sx_sM_self] at kk
  exact pj_J.cal0 kX1_run_121_X18 (c_X18_does_0 ha hO.1 (fa_doOk_11 hO).2.1 (fa_doOk_11 hO).2.2) ⟨_, _, _, rfl, ha⟩ pj_le0 pj_le0 pj_le0 kk
theorem la_X1_run_0_12 {G : pj_G} {d : Nat} {c : sx_C} {m : sx_M} {o : Nat → Int64} {D : pj_H} {Q : pj_O → pj_H → Prop} {L : pj_L} {i : Nat} {s t v : Int32} (ha : D[i]? = some (.inr (17, [.int (nI 12), .int s, .int t, .int v]))) (hO : fa_doOk 12 c.1 (sx_R c 0) s t v) (kk : pj_J G mX1_run (d + 4) 124 L [.int (fa_doesN 12 c.1 (sx_R c 0) s t v).1] (sx_mk (sx_sR (sx_sM c (fa_doesN 12 c.1 (sx_R c 0) s t v).2.2) 0 (fa_doesN 12 c.1 (sx_R c 0) s t v).2.1) m o D) 0 0 Q) : pj_J G mX1_run (d + 4) 121 L [.ref 10, .ref (i + 98)] (sx_mk c m o D) 0 0 Q := by
  rw [fa_doesN_12] at kk
  dsimp only at kk
  rw [sx_sM_self] at kk
  exact pj_J.cal0 kX1_run_121_X19 (c_X19_does_0 ha hO.1 (fa_doOk_12 hO).2.1.1 (fa_doOk_12 hO).2.1.2 (fa_doOk_12 hO).2.2) ⟨_, _, _, rfl, ha⟩ pj_le0 pj_le0 pj_le0 kk
theorem la_X1_run_0 {G : pj_G} {d : Nat} {c : sx_C} {m : sx_M} {o : Nat → Int64} {D : pj_H} {Q : pj_O → pj_H → Prop} {L : pj_L} {i : Nat} {s t v : Int32} {k : Nat} (hk : k < 13) (ha : D[i]? = some (.inr (5 + k, [.int (nI k), .int s, .int t, .int v]))) (hO : fa_doOk k c.1 (sx_R c 0) s t v) (kk : pj_J G mX1_run (d + 4) 124 L [.int (fa_doesN k c.1 (sx_R c 0) s t v).1] (sx_mk (sx_sR (sx_sM c (fa_doesN k c.1 (sx_R c 0) s t v).2.2) 0 (fa_doesN k c.1 (sx_R c 0) s t v).2.1) m o D) 0 0 Q) : pj_J G mX1_run (d + 4) 121 L [.ref 10, .ref (i + 98)] (sx_mk c m o D) 0 0 Q := by
  have h : k = 0 ∨ k = 1 ∨ k = 2 ∨ k = 3 ∨ k = 4 ∨ k = 5 ∨ k = 6 ∨ k = 7 ∨ k = 8 ∨ k = 9 ∨ k = 10 ∨ k = 11 ∨ k = 12 := by omega
  rcases h with rfl | rfl | rfl | rfl | rfl | rfl | rfl | rfl | rfl | rfl | rfl | rfl | rfl
  · exact la_X1_run_0_0 ha hO kk
  · exact la_X1_run_0_1 ha hO kk
  · exact la_X1_run_0_2 ha hO kk
  · exact la_X1_run_0_3 ha hO kk
  · exact la_X1_run_0_4 ha hO kk
  · exact la_X1_run_0_5 ha hO kk
  · exact la_X1_run_0_6 ha hO kk
  · exact la_X1_run_0_7 ha hO kk
  · exact la_X1_run_0_8 ha hO kk
  · exact la_X1_run_0_9 ha hO kk
  · exact la_X1_run_0_10 ha hO kk
  · exact la_X1_run_0_11 ha hO kk
  · exact la_X1_run_0_12 ha hO kk
/-- a program's acts: kind, s, t, v by number -/
abbrev fp_A : Type := Nat → Nat × Int32 × Int32 × Int32
def fp_act (D : pj_H) (f : Nat → Option Nat) (A : fp_A) (k : Nat) : Prop := ∃ x, f k = some (x + 98) ∧ (A k).1 < 13 ∧ D[x]? = some (.inr (5 + (A k).1, [.int (nI (A k).1), .int (A k).2.1, .int (A k).2.2.1, .int (A k).2.2.2]))
def fp_prog (D : pj_H) (pi n : Nat) (A : fp_A) (cn cd : Int64) : Prop := n ≤ 20 ∧ ∃ (ai : Nat) (f : Nat → Option Nat), D[pi]? = some (.inr (4, [.ref (ai + 98), .int (nI n), .long cn, .long cd])) ∧ D[ai]? = some (.inl (7, (20, .inr (.inr (.inr (.inr f)))))) ∧ ∀ k, k < n → fp_act D f A k
def fa_one (A : fp_A) (k : Nat) (z : sx_M × sx_M) : Int32 × sx_M × sx_M := fa_doesN (A k).1 z.1 z.2 (A k).2.1 (A k).2.2.1 (A k).2.2.2
def fa_oneOk (A : fp_A) (k : Nat) (z : sx_M × sx_M) : Prop := fa_doOk (A k).1 z.1 z.2 (A k).2.1 (A k).2.2.1 (A k).2.2.2
/-- acts from k on: the first that fails (its number, its answer), the judge's own, the run -/
def fa_runL (A : fp_A) : Nat → Nat → sx_M × sx_M → Option (Nat × Int32) × sx_M × sx_M
  | 0, _, z => (none, z)
  | e + 1, k, z => if (fa_one A k z).1 = 0 then fa_runL A e (k + 1) ((fa_one A k z).2.2, (fa_one A k z).2.1) else (some (k, (fa_one A k z).1), (fa_one A k z).2.2, (fa_one A k z).2.1)
def fa_runA (A : fp_A) : Nat → Nat → sx_M × sx_M → Prop
  | 0, _, _ => True
  | e + 1, k, z => fa_oneOk A k z ∧ ((fa_one A k z).1 = 0 → fa_runA A e (k + 1) ((fa_one A k z).2.2, (fa_one A k z).2.1))
theorem lx_X5_run_0 {G : pj_G} {d : Nat} {c : sx_C} {m : sx_M} {o : Nat → Int64} {D : pj_H} {Q : pj_O → pj_H → Prop} {pi ai n x k : Nat} {f : Nat → Option Nat} {cn cd : Int64} (hn : n ≤ 20) (hp : D[pi]? = some (.inr (4, [.ref (ai + 98), .int (nI n), .long cn, .long cd]))) (hf : D[ai]? = some (.inl (7, (20, .inr (.inr (.inr (.inr f))))))) (hk : k < n) (hx : f k = some (x + 98)) (kk : pj_J G mX5_run (d + 4) 21 [some (.ref (pi + 98)), some (.ref 10), some (.int (nI k)), none] [.ref 10, .ref (x + 98)] (sx_mk c m o D) 0 0 Q) : pj_J G mX5_run (d + 4) 6 [some (.ref (pi + 98)), some (.ref 10), some (.int (nI k)), none] [] (sx_mk c m o D) 0 0 Q := by
  refine pj_J.go (oX5_run G) 2 rfl trivial ?_
  refine pj_J.go1 (pc := 8) (oX5_run G) rfl (po_getD (lo := 4) (hi := 4) (k := 1) (n := 11) (by exact hp) (by decide) (by rfl)) trivial ?_
  refine pj_J.go (oX5_run G) 1 rfl trivial ?_
  refine pj_J.neg (nI_lt_lit hk (by omega)) ?_
  refine pj_J.go (oX5_run G) 1 rfl trivial ?_
  refine pj_J.go1 (pc := 15) (oX5_run G) rfl (po_getD (lo := 4) (hi := 4) (k := 0) (n := 18) (by exact hp) (by decide) (by rfl)) trivial ?_
  refine pj_J.go (oX5_run G) 1 rfl trivial ?_
  refine pj_J.go1 (pc := 19) (oX5_run G) rfl (po_aaldD (n := 20) (by exact hf) (by decide)) (by exact vp_in_lit (by omega)) ?_
  refine pj_J.seq (show va_rf (f (nI k).toNatClampNeg) :: _ = .ref (x + 98) :: _ by rw [nI_clamp (by omega), hx]; rfl) ?_
  refine pj_J.go (oX5_run G) 1 rfl trivial ?_
  exact kk
theorem ly_X5_run_0 {G : pj_G} {d : Nat} {c : sx_C} {m : sx_M} {o : Nat → Int64} {D : pj_H} {Q : pj_O → pj_H → Prop} {pi k : Nat} (r : Int32) (q : ¬ r = 0 → Q (.inl (some (.int r))) (sx_mk c m o D)) (kk : r = 0 → pj_J G mX5_run (d + 4) 6 [some (.ref (pi + 98)), some (.ref 10), some (.int (nI k + 1)), none] [] (sx_mk c m o D) 0 0 Q) : pj_J G mX5_run (d + 4) 24 [some (.ref (pi + 98)), some (.ref 10), some (.int (nI k)), none] [.int r] (sx_mk c m o D) 0 0 Q := by
  refine pj_J.go (oX5_run G) 3 rfl trivial ?_
  refine pj_J.ite (fun hc26 => ?_) (fun hc26 => ?_)
  · skip
    refine pj_J.go (oX5_run G) 2 rfl trivial ?_
    exact pj_J.drp (kk hc26) ⟨rfl, rfl, rfl, trivial⟩
  · skip
    refine pj_J.go (oX5_run G) 1 rfl trivial ?_
    exact pj_iret dX5_run_30 rfl (q hc26)
theorem lz_X5_run_0 {G : pj_G} {d : Nat} {c : sx_C} {m : sx_M} {o : Nat → Int64} {D : pj_H} {Q : pj_O → pj_H → Prop} {pi ai n : Nat} {cn cd : Int64} (hn : n ≤ 20) (hp : D[pi]? = some (.inr (4, [.ref (ai + 98), .int (nI n), .long cn, .long cd]))) (q : Q (.inl (some (.int (nI n)))) (sx_mk c m o D)) : pj_J G mX5_run (d + 4) 6 [some (.ref (pi + 98)), some (.ref 10), some (.int (nI n)), none] [] (sx_mk c m o D) 0 0 Q := by
  refine pj_J.go (oX5_run G) 2 rfl trivial ?_
  refine pj_J.go1 (pc := 8) (oX5_run G) rfl (po_getD (lo := 4) (hi := 4) (k := 1) (n := 11) (by exact hp) (by decide) (by rfl)) trivial ?_
  refine pj_J.go (oX5_run G) 1 rfl trivial ?_
  refine pj_J.pos (nI_ge_lit (Nat.le_refl _) (by omega)) ?_
  refine pj_J.go (oX5_run G) 1 rfl trivial ?_
  refine pj_J.go1 (pc := 38) (oX5_run G) rfl (po_getD (lo := 4) (hi := 4) (k := 1) (n := 41) (by exact hp) (by decide) (by rfl)) trivial ?_
  exact pj_iret dX5_run_41 rfl q
theorem lp_X5_run_0 {G : pj_G} {d : Nat} {c : sx_C} {m : sx_M} {o : Nat → Int64} {D : pj_H} {pi n : Nat} {A : fp_A} {cn cd : Int64} (hP : fp_prog D pi n A cn cd) (Q : pj_O → pj_H → Prop) : ∀ (e k : Nat) (z : sx_M × sx_M), k + e = n → fa_runA A e k z → (∀ w u, fa_runL A e k z = (none, w, u) → Q (.inl (some (.int (nI n)))) (sx_mk (sx_sR (sx_sM c w) 0 u) m o D)) → (∀ i r w u, fa_runL A e k z = (some (i, r), w, u) → Q (.inl (some (.int r))) (sx_mk (sx_sR (sx_sM c w) 0 u) m o D)) → pj_J G mX5_run (d + 4) 6 [some (.ref (pi + 98)), some (.ref 10), some (.int (nI k)), none] [] (sx_mk (sx_sR (sx_sM c z.1) 0 z.2) m o D) 0 0 Q := by
  obtain ⟨hn, ai, f, hp, hf, hA⟩ := hP
  intro e
  induction e with
  | zero =>
    intro k z hk hO q1 q2
    have : k = n := by omega
    subst this
    exact lz_X5_run_0 (c := sx_sR (sx_sM c z.1) 0 z.2) hn hp (q1 _ _ rfl)
  | succ e ih =>
    intro k z hk hO q1 q2
    obtain ⟨x, hx, hk13, ha⟩ := hA k (by omega)
    refine lx_X5_run_0 (c := sx_sR (sx_sM c z.1) 0 z.2) hn hp hf (by omega) hx ?_
    refine la_X5_run_0 (c := sx_sR (sx_sM c z.1) 0 z.2) hk13 ha hO.1 ?_
    unfold fa_runL at q1 q2
    refine ly_X5_run_0 (c := sx_sR (sx_sM c (fa_one A k z).2.2) 0 (fa_one A k z).2.1) (fa_one A k z).1 (fun h => ?_) (fun h => ?_)
    · rw [if_neg h] at q2
      exact q2 k _ _ _ rfl
    · rw [if_pos h] at q1 q2
      rw [nI_add1]
      exact ih (k + 1) ((fa_one A k z).2.2, (fa_one A k z).2.1) (by omega) (hO.2 h) q1 q2
theorem lx_X5_run_1 {G : pj_G} {d : Nat} {c : sx_C} {m : sx_M} {o : Nat → Int64} {D : pj_H} {Q : pj_O → pj_H → Prop} {pi ai n x k : Nat} {f : Nat → Option Nat} {cn cd : Int64} (hn : n ≤ 20) (hp : D[pi]? = some (.inr (4, [.ref (ai + 98), .int (nI n), .long cn, .long cd]))) (hf : D[ai]? = some (.inl (7, (20, .inr (.inr (.inr (.inr f))))))) (hk : k < n) (hx : f k = some (x + 98)) (kk : pj_J G mX5_run (d + 4) 21 [some (.ref (pi + 98)), some (.ref 21), some (.int (nI k)), none] [.ref 21, .ref (x + 98)] (sx_mk c m o D) 0 0 Q) : pj_J G mX5_run (d + 4) 6 [some (.ref (pi + 98)), some (.ref 21), some (.int (nI k)), none] [] (sx_mk c m o D) 0 0 Q := by
  refine pj_J.go (oX5_run G) 2 rfl trivial ?_
  refine pj_J.go1 (pc := 8) (oX5_run G) rfl (po_getD (lo := 4) (hi := 4) (k := 1) (n := 11) (by exact hp) (by decide) (by rfl)) trivial ?_
  refine pj_J.go (oX5_run G) 1 rfl trivial ?_
  refine pj_J.neg (nI_lt_lit hk (by omega)) ?_
  refine pj_J.go (oX5_run G) 1 rfl trivial ?_
  refine pj_J.go1 (pc := 15) (oX5_run G) rfl (po_getD (lo := 4) (hi := 4) (k := 0) (n := 18) (by exact hp) (by decide) (by rfl)) trivial ?_
  refine pj_J.go (oX5_run G) 1 rfl trivial ?_
  refine pj_J.go1 (pc := 19) (oX5_run G) rfl (po_aaldD (n := 20) (by exact hf) (by decide)) (by exact vp_in_lit (by omega)) ?_
  refine pj_J.seq (show va_rf (f (nI k).toNatClampNeg) :: _ = .ref (x + 98) :: _ by rw [nI_clamp (by omega), hx]; rfl) ?_
  refine pj_J.go (oX5_run G) 1 rfl trivial ?_
  exact kk
theorem ly_X5_run_1 {G : pj_G} {d : Nat} {c : sx_C} {m : sx_M} {o : Nat → Int64} {D : pj_H} {Q : pj_O → pj_H → Prop} {pi k : Nat} (r : Int32) (q : ¬ r = 0 → Q (.inl (some (.int r))) (sx_mk c m o D)) (kk : r = 0 → pj_J G mX5_run (d + 4) 6 [some (.ref (pi + 98)), some (.ref 21), some (.int (nI k + 1)), none] [] (sx_mk c m o D) 0 0 Q) : pj_J G mX5_run (d + 4) 24 [some (.ref (pi + 98)), some (.ref 21), some (.int (nI k)), none] [.int r] (sx_mk c m o D) 0 0 Q := by
  refine pj_J.go (oX5_run G) 3 rfl trivial ?_
  refine pj_J.ite (fun hc26 => ?_) (fun hc26 => ?_)
  · skip
    refine pj_J.go (oX5_run G) 2 rfl trivial ?_
    exact pj_J.drp (kk hc26) ⟨rfl, rfl, rfl, trivial⟩
  · skip
    refine pj_J.go (oX5_run G) 1 rfl trivial ?_
    exact pj_iret dX5_run_30 rfl (q hc26)
theorem lz_X5_run_1 {G : pj_G} {d : Nat} {c : sx_C} {m : sx_M} {o : Nat → Int64} {D : pj_H} {Q : pj_O → pj_H → Prop} {pi ai n : Nat} {cn cd : Int64} (hn : n ≤ 20) (hp : D[pi]? = some (.inr (4, [.ref (ai + 98), .int (nI n), .long cn, .long cd]))) (q : Q (.inl (some (.int (nI n)))) (sx_mk c m o D)) : pj_J G mX5_run (d + 4) 6 [some (.ref (pi + 98)), some (.ref 21), some (.int (nI n)), none] [] (sx_mk c m o D) 0 0 Q := by
  refine pj_J.go (oX5_run G) 2 rfl trivial ?_
  refine pj_J.go1 (pc := 8) (oX5_run G) rfl (po_getD (lo := 4) (hi := 4) (k := 1) (n := 11) (by exact hp) (by decide) (by rfl)) trivial ?_
  refine pj_J.go (oX5_run G) 1 rfl trivial ?_
  refine pj_J.pos (nI_ge_lit (Nat.le_refl _) (by omega)) ?_
  refine pj_J.go (oX5_run G) 1 rfl trivial ?_
  refine pj_J.go1 (pc := 38) (oX5_run G) rfl (po_getD (lo := 4) (hi := 4) (k := 1) (n := 41) (by exact hp) (by decide) (by rfl)) trivial ?_
  exact pj_iret dX5_run_41 rfl q
theorem lp_X5_run_1 {G : pj_G} {d : Nat} {c : sx_C} {m : sx_M} {o : Nat → Int64} {D : pj_H} {pi n : Nat} {A : fp_A} {cn cd : Int64} (hP : fp_prog D pi n A cn cd) (Q : pj_O → pj_H → Prop) : ∀ (e k : Nat) (z : sx_M × sx_M), k + e = n → fa_runA A e k z → (∀ w u, fa_runL A e k z = (none, w, u) → Q (.inl (some (.int (nI n)))) (sx_mk (sx_sR (sx_sM c w) 1 u) m o D)) → (∀ i r w u, fa_runL A e k z = (some (i, r), w, u) → Q (.inl (some (.int r))) (sx_mk (sx_sR (sx_sM c w) 1 u) m o D)) → pj_J G mX5_run (d + 4) 6 [some (.ref (pi + 98)), some (.ref 21), some (.int (nI k)), none] [] (sx_mk (sx_sR (sx_sM c z.1) 1 z.2) m o D) 0 0 Q := by
  obtain ⟨hn, ai, f, hp, hf, hA⟩ := hP
  intro e
  induction e with
  | zero =>
    intro k z hk hO q1 q2
    have : k = n := by omega
    subst this
    exact lz_X5_run_1 (c := sx_sR (sx_sM c z.1) 1 z.2) hn hp (q1 _ _ rfl)
  | succ e ih =>
    intro k z hk hO q1 q2
    obtain ⟨x, hx, hk13, ha⟩ := hA k (by omega)
    refine lx_X5_run_1 (c := sx_sR (sx_sM c z.1) 1 z.2) hn hp hf (by omega) hx ?_
    refine la_X5_run_1 (c := sx_sR (sx_sM c z.1) 1 z.2) hk13 ha hO.1 ?_
    unfold fa_runL at q1 q2
    refine ly_X5_run_1 (c := sx_sR (sx_sM c (fa_one A k z).2.2) 1 (fa_one A k z).2.1) (fa_one A k z).1 (fun h => ?_) (fun h => ?_)
    · rw [if_neg h] at q2
      exact q2 k _ _ _ rfl
    · rw [if_pos h] at q1 q2
      rw [nI_add1]
      exact ih (k + 1) ((fa_one A k z).2.2, (fa_one A k z).2.1) (by omega) (hO.2 h) q1 q2
theorem lx_X5_run_2 {G : pj_G} {d : Nat} {c : sx_C} {m : sx_M} {o : Nat → Int64} {D : pj_H} {Q : pj_O → pj_H → Prop} {pi ai n x k : Nat} {f : Nat → Option Nat} {cn cd : Int64} (hn : n ≤ 20) (hp : D[pi]? = some (.inr (4, [.ref (ai + 98), .int (nI n), .long cn, .long cd]))) (hf : D[ai]? = some (.inl (7, (20, .inr (.inr (.inr (.inr f))))))) (hk : k < n) (hx : f k = some (x + 98)) (kk : pj_J G mX5_run (d + 4) 21 [some (.ref (pi + 98)), some (.ref 32), some (.int (nI k)), none] [.ref 32, .ref (x + 98)] (sx_mk c m o D) 0 0 Q) : pj_J G mX5_run (d + 4) 6 [some (.ref (pi + 98)), some (.ref 32), some (.int (nI k)), none] [] (sx_mk c m o D) 0 0 Q := by
  refine pj_J.go (oX5_run G) 2 rfl trivial ?_
  refine pj_J.go1 (pc := 8) (oX5_run G) rfl (po_getD (lo := 4) (hi := 4) (k := 1) (n := 11) (by exact hp) (by decide) (by rfl)) trivial ?_
  refine pj_J.go (oX5_run G) 1 rfl trivial ?_
  refine pj_J.neg (nI_lt_lit hk (by omega)) ?_
  refine pj_J.go (oX5_run G) 1 rfl trivial ?_
  refine pj_J.go1 (pc := 15) (oX5_run G) rfl (po_getD (lo := 4) (hi := 4) (k := 0) (n := 18) (by exact hp) (by decide) (by rfl)) trivial ?_
  refine pj_J.go (oX5_run G) 1 rfl trivial ?_
  refine pj_J.go1 (pc := 19) (oX5_run G) rfl (po_aaldD (n := 20) (by exact hf) (by decide)) (by exact vp_in_lit (by omega)) ?_
  refine pj_J.seq (show va_rf (f (nI k).toNatClampNeg) :: _ = .ref (x + 98) :: _ by rw [nI_clamp (by omega), hx]; rfl) ?_
  refine pj_J.go (oX5_run G) 1 rfl trivial ?_
  exact kk
theorem ly_X5_run_2 {G : pj_G} {d : Nat} {c : sx_C} {m : sx_M} {o : Nat → Int64} {D : pj_H} {Q : pj_O → pj_H → Prop} {pi k : Nat} (r : Int32) (q : ¬ r = 0 → Q (.inl (some (.int r))) (sx_mk c m o D)) (kk : r = 0 → pj_J G mX5_run (d + 4) 6 [some (.ref (pi + 98)), some (.ref 32), some (.int (nI k + 1)), none] [] (sx_mk c m o D) 0 0 Q) : pj_J G mX5_run (d + 4) 24 [some (.ref (pi + 98)), some (.ref 32), some (.int (nI k)), none] [.int r] (sx_mk c m o D) 0 0 Q := by
  refine pj_J.go (oX5_run G) 3 rfl trivial ?_
  refine pj_J.ite (fun hc26 => ?_) (fun hc26 => ?_)
  · skip
    refine pj_J.go (oX5_run G) 2 rfl trivial ?_
    exact pj_J.drp (kk hc26) ⟨rfl, rfl, rfl, trivial⟩
  · skip
    refine pj_J.go (oX5_run G) 1 rfl trivial ?_
    exact pj_iret dX5_run_30 rfl (q hc26)
theorem lz_X5_run_2 {G : pj_G} {d : Nat} {c : sx_C} {m : sx_M} {o : Nat → Int64} {D : pj_H} {Q : pj_O → pj_H → Prop} {pi ai n : Nat} {cn cd : Int64} (hn : n ≤ 20) (hp : D[pi]? = some (.inr (4, [.ref (ai + 98), .int (nI n), .long cn, .long cd]))) (q : Q (.inl (some (.int (nI n)))) (sx_mk c m o D)) : pj_J G mX5_run (d + 4) 6 [some (.ref (pi + 98)), some (.ref 32), some (.int (nI n)), none] [] (sx_mk c m o D) 0 0 Q := by
  refine pj_J.go (oX5_run G) 2 rfl trivial ?_
  refine pj_J.go1 (pc := 8) (oX5_run G) rfl (po_getD (lo := 4) (hi := 4) (k := 1) (n := 11) (by exact hp) (by decide) (by rfl)) trivial ?_
  refine pj_J.go (oX5_run G) 1 rfl trivial ?_
  refine pj_J.pos (nI_ge_lit (Nat.le_refl _) (by omega)) ?_
  refine pj_J.go (oX5_run G) 1 rfl trivial ?_
  refine pj_J.go1 (pc := 38) (oX5_run G) rfl (po_getD (lo := 4) (hi := 4) (k := 1) (n := 41) (by exact hp) (by decide) (by rfl)) trivial ?_
  exact pj_iret dX5_run_41 rfl q
theorem lp_X5_run_2 {G : pj_G} {d : Nat} {c : sx_C} {m : sx_M} {o : Nat → Int64} {D : pj_H} {pi n : Nat} {A : fp_A} {cn cd : Int64} (hP : fp_prog D pi n A cn cd) (Q : pj_O → pj_H → Prop) : ∀ (e k : Nat) (z : sx_M × sx_M), k + e = n → fa_runA A e k z → (∀ w u, fa_runL A e k z = (none, w, u) → Q (.inl (some (.int (nI n)))) (sx_mk (sx_sR (sx_sM c w) 2 u) m o D)) → (∀ i r w u, fa_runL A e k z = (some (i, r), w, u) → Q (.inl (some (.int r))) (sx_mk (sx_sR (sx_sM c w) 2 u) m o D)) → pj_J G mX5_run (d + 4) 6 [some (.ref (pi + 98)), some (.ref 32), some (.int (nI k)), none] [] (sx_mk (sx_sR (sx_sM c z.1) 2 z.2) m o D) 0 0 Q := by
  obtain ⟨hn, ai, f, hp, hf, hA⟩ := hP
  intro e
  induction e with
  | zero =>
    intro k z hk hO q1 q2
    have : k = n := by omega
    subst this
    exact lz_X5_run_2 (c := sx_sR (sx_sM c z.1) 2 z.2) hn hp (q1 _ _ rfl)
  | succ e ih =>
    intro k z hk hO q1 q2
    obtain ⟨x, hx, hk13, ha⟩ := hA k (by omega)
    refine lx_X5_run_2 (c := sx_sR (sx_sM c z.1) 2 z.2) hn hp hf (by omega) hx ?_
    refine la_X5_run_2 (c := sx_sR (sx_sM c z.1) 2 z.2) hk13 ha hO.1 ?_
    unfold fa_runL at q1 q2
    refine ly_X5_run_2 (c := sx_sR (sx_sM c (fa_one A k z).2.2) 2 (fa_one A k z).2.1) (fa_one A k z).1 (fun h => ?_) (fun h => ?_)
    · rw [if_neg h] at q2
      exact q2 k _ _ _ rfl
    · rw [if_pos h] at q1 q2
      rw [nI_add1]
      exact ih (k + 1) ((fa_one A k z).2.2, (fa_one A k z).2.1) (by omega) (hO.2 h) q1 q2
/-- Program.run on a run u: the answer, the judge's own, the run -/
def fp_run (A : fp_A) (n : Nat) (w u : sx_M) : Int32 × sx_M × sx_M := match fa_runL A n 0 (w, fr_begin u) with
  | (none, z) => (nI n, z)
  | (some (_, r), z) => (r, z)
theorem fp_run_none {A : fp_A} {n : Nat} {w u w' u' : sx_M} (h : fa_runL A n 0 (w, fr_begin u) = (none, w', u')) : fp_run A n w u = (nI n, w', u') := by unfold fp_run; rw [h]
theorem fp_run_some {A : fp_A} {n i : Nat} {r : Int32} {w u w' u' : sx_M} (h : fa_runL A n 0 (w, fr_begin u) = (some (i, r), w', u')) : fp_run A n w u = (r, w', u') := by unfold fp_run; rw [h]
theorem c_X5_run_0 {G : pj_G} {d : Nat} {c : sx_C} {m : sx_M} {o : Nat → Int64} {D : pj_H} {pi n : Nat} {A : fp_A} {cn cd : Int64} (hP : fp_prog D pi n A cn cd) (hO : fa_runA A n 0 (c.1, fr_begin (sx_R c 0))) : pj_Rt G mX5_run (d + 4) [.ref (pi + 98), .ref 10] (sx_mk c m o D) 0 0 (some (.int (fp_run A n c.1 (sx_R c 0)).1)) (sx_mk (sx_sR (sx_sM c (fp_run A n c.1 (sx_R c 0)).2.1) 0 (fp_run A n c.1 (sx_R c 0)).2.2) m o D) := by
  refine pj_Cn.start ?_
  refine pj_J.go (oX5_run G) 1 rfl trivial ?_
  refine pj_J.cal0 kX5_run_1 (c_X2_begin_0 (c := c)) ⟨_, _, _, rfl, rfl⟩ pj_le0 pj_le0 pj_le0 ?_
  refine pj_J.go (oX5_run G) 2 rfl trivial ?_
  refine lp_X5_run_0 hP _ n 0 (c.1, fr_begin (sx_R c 0)) (by omega) hO (fun w u h => ?_) (fun i r w u h => ?_)
  · show _ = _ ∧ _ = _
    rw [fp_run_none h]
    exact ⟨rfl, rfl⟩
  · show _ = _ ∧ _ = _
    rw [fp_run_some h]
    exact ⟨rfl, rfl⟩
theorem c_X5_run_1 {G : pj_G} {d : Nat} {c : sx_C} {m : sx_M} {o : Nat → Int64} {D : pj_H} {pi n : Nat} {A : fp_A} {cn cd : Int64} (hP : fp_prog D pi n A cn cd) (hO : fa_runA A n 0 (c.1, fr_begin (sx_R c 1))) : pj_Rt G mX5_run (d + 4) [.ref (pi + 98), .ref 21] (sx_mk c m o D) 0 0 (some (.int (fp_run A n c.1 (sx_R c 1)).1)) (sx_mk (sx_sR (sx_sM c (fp_run A n c.1 (sx_R c 1)).2.1) 1 (fp_run A n c.1 (sx_R c 1)).2.2) m o D) := by
  refine pj_Cn.start ?_
  refine pj_J.go (oX5_run G) 1 rfl trivial ?_
  refine pj_J.cal0 kX5_run_1 (c_X2_begin_1 (c := c)) ⟨_, _, _, rfl, rfl⟩ pj_le0 pj_le0 pj_le0 ?_
  refine pj_J.go (oX5_run G) 2 rfl trivial ?_
  refine lp_X5_run_1 hP _ n 0 (c.1, fr_begin (sx_R c 1)) (by omega) hO (fun w u h => ?_) (fun i r w u h => ?_)
  · show _ = _ ∧ _ = _
    rw [fp_run_none h]
    exact ⟨rfl, rfl⟩
  · show _ = _ ∧ _ = _
    rw [fp_run_some h]
    exact ⟨rfl, rfl⟩
theorem c_X5_run_2 {G : pj_G} {d : Nat} {c : sx_C} {m : sx_M} {o : Nat → Int64} {D : pj_H} {pi n : Nat} {A : fp_A} {cn cd : Int64} (hP : fp_prog D pi n A cn cd) (hO : fa_runA A n 0 (c.1, fr_begin (sx_R c 2))) : pj_Rt G mX5_run (d + 4) [.ref (pi + 98), .ref 32] (sx_mk c m o D) 0 0 (some (.int (fp_run A n c.1 (sx_R c 2)).1)) (sx_mk (sx_sR (sx_sM c (fp_run A n c.1 (sx_R c 2)).2.1) 2 (fp_run A n c.1 (sx_R c 2)).2.2) m o D) := by
  refine pj_Cn.start ?_
  refine pj_J.go (oX5_run G) 1 rfl trivial ?_
  refine pj_J.cal0 kX5_run_1 (c_X2_begin_2 (c := c)) ⟨_, _, _, rfl, rfl⟩ pj_le0 pj_le0 pj_le0 ?_
  refine pj_J.go (oX5_run G) 2 rfl trivial ?_
  refine lp_X5_run_2 hP _ n 0 (c.1, fr_begin (sx_R c 2)) (by omega) hO (fun w u h => ?_) (fun i r w u h => ?_)
  · show _ = _ ∧ _ = _
    rw [fp_run_none h]
    exact ⟨rfl, rfl⟩
  · show _ = _ ∧ _ = _
    rw [fp_run_some h]
    exact ⟨rfl, rfl⟩
