/-! PennyJudge: mend, its segments (by tools/gen_s5.py) -/
set_option maxRecDepth 100000
/-- an act's choice, how many there are, the act with another choice -/
def fp_ch (a : Nat) (t v : Int32) : Int32 := match a with
  | 1 => v
  | 2 => v
  | 4 => t
  | 6 => t
  | 11 => v
  | _ => -1
def fp_cn (a : Nat) : Int32 := match a with
  | 6 => 4
  | _ => 6
def fp_cs (a : Nat) (s t v z : Int32) : pj_E := match a with
  | 4 => .inr (5 + a, [.int (nI a), .int s, .int z, .int v])
  | 6 => .inr (5 + a, [.int (nI a), .int s, .int z, .int v])
  | _ => .inr (5 + a, [.int (nI a), .int s, .int t, .int z])
def fp_hc (a : Nat) : Prop := a = 1 ∨ a = 2 ∨ a = 4 ∨ a = 6 ∨ a = 11
theorem lc_choice_0 {G : pj_G} {d : Nat} {c : sx_C} {m : sx_M} {o : Nat → Int64} {D : pj_H} {Q : pj_O → pj_H → Prop} {L : pj_L} {x : Nat} {s t v : Int32} (ha : D[x]? = some (.inr (5, [.int (nI 0), .int s, .int t, .int v]))) (kk : pj_J G mX1_mend (d + 2) 94 L [.int (fp_ch 0 t v)] (sx_mk c m o D) 0 0 Q) : pj_J G mX1_mend (d + 2) 91 L [.ref (x + 98)] (sx_mk c m o D) 0 0 Q := by
  exact pj_J.cal0 kX1_mend_91_X7 c_X6_choice ⟨_, _, _, rfl, ha⟩ pj_le0 pj_le0 pj_le0 kk
theorem lc_choice_1 {G : pj_G} {d : Nat} {c : sx_C} {m : sx_M} {o : Nat → Int64} {D : pj_H} {Q : pj_O → pj_H → Prop} {L : pj_L} {x : Nat} {s t v : Int32} (ha : D[x]? = some (.inr (6, [.int (nI 1), .int s, .int t, .int v]))) (kk : pj_J G mX1_mend (d + 2) 94 L [.int (fp_ch 1 t v)] (sx_mk c m o D) 0 0 Q) : pj_J G mX1_mend (d + 2) 91 L [.ref (x + 98)] (sx_mk c m o D) 0 0 Q := by
  exact pj_J.cal0 kX1_mend_91_X8 (c_X8_choice (by decide) ha) ⟨_, _, _, rfl, ha⟩ pj_le0 pj_le0 pj_le0 kk
theorem lc_choice_2 {G : pj_G} {d : Nat} {c : sx_C} {m : sx_M} {o : Nat → Int64} {D : pj_H} {Q : pj_O → pj_H → Prop} {L : pj_L} {x : Nat} {s t v : Int32} (ha : D[x]? = some (.inr (7, [.int (nI 2), .int s, .int t, .int v]))) (kk : pj_J G mX1_mend (d + 2) 94 L [.int (fp_ch 2 t v)] (sx_mk c m o D) 0 0 Q) : pj_J G mX1_mend (d + 2) 91 L [.ref (x + 98)] (sx_mk c m o D) 0 0 Q := by
  exact pj_J.cal0 kX1_mend_91_X9 (c_X8_choice (by decide) ha) ⟨_, _, _, rfl, ha⟩ pj_le0 pj_le0 pj_le0 kk
theorem lc_choice_3 {G : pj_G} {d : Nat} {c : sx_C} {m : sx_M} {o : Nat → Int64} {D : pj_H} {Q : pj_O → pj_H → Prop} {L : pj_L} {x : Nat} {s t v : Int32} (ha : D[x]? = some (.inr (8, [.int (nI 3), .int s, .int t, .int v]))) (kk : pj_J G mX1_mend (d + 2) 94 L [.int (fp_ch 3 t v)] (sx_mk c m o D) 0 0 Q) : pj_J G mX1_mend (d + 2) 91 L [.ref (x + 98)] (sx_mk c m o D) 0 0 Q := by
  exact pj_J.cal0 kX1_mend_91_X10 c_X6_choice ⟨_, _, _, rfl, ha⟩ pj_le0 pj_le0 pj_le0 kk
theorem lc_choice_4 {G : pj_G} {d : Nat} {c : sx_C} {m : sx_M} {o : Nat → Int64} {D : pj_H} {Q : pj_O → pj_H → Prop} {L : pj_L} {x : Nat} {s t v : Int32} (ha : D[x]? = some (.inr (9, [.int (nI 4), .int s, .int t, .int v]))) (kk : pj_J G mX1_mend (d + 2) 94 L [.int (fp_ch 4 t v)] (sx_mk c m o D) 0 0 Q) : pj_J G mX1_mend (d + 2) 91 L [.ref (x + 98)] (sx_mk c m o D) 0 0 Q := by
  exact pj_J.cal0 kX1_mend_91_X11 (c_X11_choice (by decide) ha) ⟨_, _, _, rfl, ha⟩ pj_le0 pj_le0 pj_le0 kk
theorem lc_choice_5 {G : pj_G} {d : Nat} {c : sx_C} {m : sx_M} {o : Nat → Int64} {D : pj_H} {Q : pj_O → pj_H → Prop} {L : pj_L} {x : Nat} {s t v : Int32} (ha : D[x]? = some (.inr (10, [.int (nI 5), .int s, .int t, .int v]))) (kk : pj_J G mX1_mend (d + 2) 94 L [.int (fp_ch 5 t v)] (sx_mk c m o D) 0 0 Q) : pj_J G mX1_mend (d + 2) 91 L [.ref (x + 98)] (sx_mk c m o D) 0 0 Q := by
  exact pj_J.cal0 kX1_mend_91_X12 c_X6_choice ⟨_, _, _, rfl, ha⟩ pj_le0 pj_le0 pj_le0 kk
theorem lc_choice_6 {G : pj_G} {d : Nat} {c : sx_C} {m : sx_M} {o : Nat → Int64} {D : pj_H} {Q : pj_O → pj_H → Prop} {L : pj_L} {x : Nat} {s t v : Int32} (ha : D[x]? = some (.inr (11, [.int (nI 6), .int s, .int t, .int v]))) (kk : pj_J G mX1_mend (d + 2) 94 L [.int (fp_ch 6 t v)] (sx_mk c m o D) 0 0 Q) : pj_J G mX1_mend (d + 2) 91 L [.ref (x + 98)] (sx_mk c m o D) 0 0 Q := by
  exact pj_J.cal0 kX1_mend_91_X13 (c_X13_choice (by decide) ha) ⟨_, _, _, rfl, ha⟩ pj_le0 pj_le0 pj_le0 kk
theorem lc_choice_7 {G : pj_G} {d : Nat} {c : sx_C} {m : sx_M} {o : Nat → Int64} {D : pj_H} {Q : pj_O → pj_H → Prop} {L : pj_L} {x : Nat} {s t v : Int32} (ha : D[x]? = some (.inr (12, [.int (nI 7), .int s, .int t, .int v]))) (kk : pj_J G mX1_mend (d + 2) 94 L [.int (fp_ch 7 t v)] (sx_mk c m o D) 0 0 Q) : pj_J G mX1_mend (d + 2) 91 L [.ref (x + 98)] (sx_mk c m o D) 0 0 Q := by
  exact pj_J.cal0 kX1_mend_91_X14 c_X6_choice ⟨_, _, _, rfl, ha⟩ pj_le0 pj_le0 pj_le0 kk
theorem lc_choice_8 {G : pj_G} {d : Nat} {c : sx_C} {m : sx_M} {o : Nat → Int64} {D : pj_H} {Q : pj_O → pj_H → Prop} {L : pj_L} {x : Nat} {s t v : Int32} (ha : D[x]? = some (.inr (13, [.int (nI 8), .int s, .int t, .int v]))) (kk : pj_J G mX1_mend (d + 2) 94 L [.int (fp_ch 8 t v)] (sx_mk c m o D) 0 0 Q) : pj_J G mX1_mend (d + 2) 91 L [.ref (x + 98)] (sx_mk c m o D) 0 0 Q := by
  exact pj_J.cal0 kX1_mend_91_X15 c_X6_choice ⟨_, _, _, rfl, ha⟩ pj_le0 pj_le0 pj_le0 kk
theorem lc_choice_9 {G : pj_G} {d : Nat} {c : sx_C} {m : sx_M} {o : Nat → Int64} {D : pj_H} {Q : pj_O → pj_H → Prop} {L : pj_L} {x : Nat} {s t v : Int32} (ha : D[x]? = some (.inr (14, [.int (nI 9), .int s, .int t, .int v]))) (kk : pj_J G mX1_mend (d + 2) 94 L [.int (fp_ch 9 t v)] (sx_mk c m o D) 0 0 Q) : pj_J G mX1_mend (d + 2) 91 L [.ref (x + 98)] (sx_mk c m o D) 0 0 Q := by
  exact pj_J.cal0 kX1_mend_91_X16 c_X6_choice ⟨_, _, _, rfl, ha⟩ pj_le0 pj_le0 pj_le0 kk
theorem lc_choice_10 {G : pj_G} {d : Nat} {c : sx_C} {m : sx_M} {o : Nat → Int64} {D : pj_H} {Q : pj_O → pj_H → Prop} {L : pj_L} {x : Nat} {s t v : Int32} (ha : D[x]? = some (.inr (15, [.int (nI 10), .int s, .int t, .int v]))) (kk : pj_J G mX1_mend (d + 2) 94 L [.int (fp_ch 10 t v)] (sx_mk c m o D) 0 0 Q) : pj_J G mX1_mend (d + 2) 91 L [.ref (x + 98)] (sx_mk c m o D) 0 0 Q := by
  exact pj_J.cal0 kX1_mend_91_X17 c_X6_choice ⟨_, _, _, rfl, ha⟩ pj_le0 pj_le0 pj_le0 kk
theorem lc_choice_11 {G : pj_G} {d : Nat} {c : sx_C} {m : sx_M} {o : Nat → Int64} {D : pj_H} {Q : pj_O → pj_H → Prop} {L : pj_L} {x : Nat} {s t v : Int32} (ha : D[x]? = some (.inr (16, [.int (nI 11), .int s, .int t, .int v]))) (kk : pj_J G mX1_mend (d + 2) 94 L [.int (fp_ch 11 t v)] (sx_mk c m o D) 0 0 Q) : pj_J G mX1_mend (d + 2) 91 L [.ref (x + 98)] (sx_mk c m o D) 0 0 Q := by
  exact pj_J.cal0 kX1_mend_91_X18 (c_X18_choice (by decide) ha) ⟨_, _, _, rfl, ha⟩ pj_le0 pj_le0 pj_le0 kk
theorem lc_choice_12 {G : pj_G} {d : Nat} {c : sx_C} {m : sx_M} {o : Nat → Int64} {D : pj_H} {Q : pj_O → pj_H → Prop} {L : pj_L} {x : Nat} {s t v : Int32} (ha : D[x]? = some (.inr (17, [.int (nI 12), .int s, .int t, .int v]))) (kk : pj_J G mX1_mend (d + 2) 94 L [.int (fp_ch 12 t v)] (sx_mk c m o D) 0 0 Q) : pj_J G mX1_mend (d + 2) 91 L [.ref (x + 98)] (sx_mk c m o D) 0 0 Q := by
  exact pj_J.cal0 kX1_mend_91_X19 c_X6_choice ⟨_, _, _, rfl, ha⟩ pj_le0 pj_le0 pj_le0 kk
theorem lc_choice {G : pj_G} {d : Nat} {c : sx_C} {m : sx_M} {o : Nat → Int64} {D : pj_H} {Q : pj_O → pj_H → Prop} {L : pj_L} {x : Nat} {s t v : Int32} {a : Nat} (h13 : a < 13) (ha : D[x]? = some (.inr (5 + a, [.int (nI a), .int s, .int t, .int v]))) (kk : pj_J G mX1_mend (d + 2) 94 L [.int (fp_ch a t v)] (sx_mk c m o D) 0 0 Q) : pj_J G mX1_mend (d + 2) 91 L [.ref (x + 98)] (sx_mk c m o D) 0 0 Q := by
  have h : a = 0 ∨ a = 1 ∨ a = 2 ∨ a = 3 ∨ a = 4 ∨ a = 5 ∨ a = 6 ∨ a = 7 ∨ a = 8 ∨ a = 9 ∨ a = 10 ∨ a = 11 ∨ a = 12 := by omega
  rcases h with rfl | rfl | rfl | rfl | rfl | rfl | rfl | rfl | rfl | rfl | rfl | rfl | rfl
  · exact lc_choice_0 ha kk
  · exact lc_choice_1 ha kk
  · exact lc_choice_2 ha kk
  · exact lc_choice_3 ha kk
  · exact lc_choice_4 ha kk
  · exact lc_choice_5 ha kk
  · exact lc_choice_6 ha kk
  · exact lc_choice_7 ha kk
  · exact lc_choice_8 ha kk
  · exact lc_choice_9 ha kk
  · exact lc_choice_10 ha kk
  · exact lc_choice_11 ha kk
  · exact lc_choice_12 ha kk
theorem lc_choices_0 {G : pj_G} {d : Nat} {c : sx_C} {m : sx_M} {o : Nat → Int64} {D : pj_H} {Q : pj_O → pj_H → Prop} {L : pj_L} {x : Nat} {s t v : Int32} (w : Int32) (ha : D[x]? = some (.inr (5, [.int (nI 0), .int s, .int t, .int v]))) (kk : pj_J G mX1_mend (d + 2) 117 L [.int (fp_cn 0), .int w] (sx_mk c m o D) 0 0 Q) : pj_J G mX1_mend (d + 2) 114 L [.ref (x + 98), .int w] (sx_mk c m o D) 0 0 Q := by
  exact pj_J.cal0 kX1_mend_114_X7 c_X6_choices ⟨_, _, _, rfl, ha⟩ pj_le0 pj_le0 pj_le0 kk
theorem lc_choices_1 {G : pj_G} {d : Nat} {c : sx_C} {m : sx_M} {o : Nat → Int64} {D : pj_H} {Q : pj_O → pj_H → Prop} {L : pj_L} {x : Nat} {s t v : Int32} (w : Int32) (ha : D[x]? = some (.inr (6, [.int (nI 1), .int s, .int t, .int v]))) (kk : pj_J G mX1_mend (d + 2) 117 L [.int (fp_cn 1), .int w] (sx_mk c m o D) 0 0 Q) : pj_J G mX1_mend (d + 2) 114 L [.ref (x + 98), .int w] (sx_mk c m o D) 0 0 Q := by
  exact pj_J.cal0 kX1_mend_114_X8 c_X6_choices ⟨_, _, _, rfl, ha⟩ pj_le0 pj_le0 pj_le0 kk
theorem lc_choices_2 {G : pj_G} {d : Nat} {c : sx_C} {m : sx_M} {o : Nat → Int64} {D : pj_H} {Q : pj_O → pj_H → Prop} {L : pj_L} {x : Nat} {s t v : Int32} (w : Int32) (ha : D[x]? = some (.inr (7, [.int (nI 2), .int s, .int t, .int v]))) (kk : pj_J G mX1_mend (d + 2) 117 L [.int (fp_cn 2), .int w] (sx_mk c m o D) 0 0 Q) : pj_J G mX1_mend (d + 2) 114 L [.ref (x + 98), .int w] (sx_mk c m o D) 0 0 Q := by
  exact pj_J.cal0 kX1_mend_114_X9 c_X6_choices ⟨_, _, _, rfl, ha⟩ pj_le0 pj_le0 pj_le0 kk
theorem lc_choices_3 {G : pj_G} {d : Nat} {c : sx_C} {m : sx_M} {o : Nat → Int64} {D : pj_H} {Q : pj_O → pj_H → Prop} {L : pj_L} {x : Nat} {s t v : Int32} (w : Int32) (ha : D[x]? = some (.inr (8, [.int (nI 3), .int s, .int t, .int v]))) (kk : pj_J G mX1_mend (d + 2) 117 L [.int (fp_cn 3), .int w] (sx_mk c m o D) 0 0 Q) : pj_J G mX1_mend (d + 2) 114 L [.ref (x + 98), .int w] (sx_mk c m o D) 0 0 Q := by
  exact pj_J.cal0 kX1_mend_114_X10 c_X6_choices ⟨_, _, _, rfl, ha⟩ pj_le0 pj_le0 pj_le0 kk
theorem lc_choices_4 {G : pj_G} {d : Nat} {c : sx_C} {m : sx_M} {o : Nat → Int64} {D : pj_H} {Q : pj_O → pj_H → Prop} {L : pj_L} {x : Nat} {s t v : Int32} (w : Int32) (ha : D[x]? = some (.inr (9, [.int (nI 4), .int s, .int t, .int v]))) (kk : pj_J G mX1_mend (d + 2) 117 L [.int (fp_cn 4), .int w] (sx_mk c m o D) 0 0 Q) : pj_J G mX1_mend (d + 2) 114 L [.ref (x + 98), .int w] (sx_mk c m o D) 0 0 Q := by
  exact pj_J.cal0 kX1_mend_114_X11 c_X6_choices ⟨_, _, _, rfl, ha⟩ pj_le0 pj_le0 pj_le0 kk
theorem lc_choices_5 {G : pj_G} {d : Nat} {c : sx_C} {m : sx_M} {o : Nat → Int64} {D : pj_H} {Q : pj_O → pj_H → Prop} {L : pj_L} {x : Nat} {s t v : Int32} (w : Int32) (ha : D[x]? = some (.inr (10, [.int (nI 5), .int s, .int t, .int v]))) (kk : pj_J G mX1_mend (d + 2) 117 L [.int (fp_cn 5), .int w] (sx_mk c m o D) 0 0 Q) : pj_J G mX1_mend (d + 2) 114 L [.ref (x + 98), .int w] (sx_mk c m o D) 0 0 Q := by
  exact pj_J.cal0 kX1_mend_114_X12 c_X6_choices ⟨_, _, _, rfl, ha⟩ pj_le0 pj_le0 pj_le0 kk
theorem lc_choices_6 {G : pj_G} {d : Nat} {c : sx_C} {m : sx_M} {o : Nat → Int64} {D : pj_H} {Q : pj_O → pj_H → Prop} {L : pj_L} {x : Nat} {s t v : Int32} (w : Int32) (ha : D[x]? = some (.inr (11, [.int (nI 6), .int s, .int t, .int v]))) (kk : pj_J G mX1_mend (d + 2) 117 L [.int (fp_cn 6), .int w] (sx_mk c m o D) 0 0 Q) : pj_J G mX1_mend (d + 2) 114 L [.ref (x + 98), .int w] (sx_mk c m o D) 0 0 Q := by
  exact pj_J.cal0 kX1_mend_114_X13 (c_X13_choices ha) ⟨_, _, _, rfl, ha⟩ pj_le0 pj_le0 pj_le0 kk
theorem lc_choices_7 {G : pj_G} {d : Nat} {c : sx_C} {m : sx_M} {o : Nat → Int64} {D : pj_H} {Q : pj_O → pj_H → Prop} {L : pj_L} {x : Nat} {s t v : Int32} (w : Int32) (ha : D[x]? = some (.inr (12, [.int (nI 7), .int s, .int t, .int v]))) (kk : pj_J G mX1_mend (d + 2) 117 L [.int (fp_cn 7), .int w] (sx_mk c m o D) 0 0 Q) : pj_J G mX1_mend (d + 2) 114 L [.ref (x + 98), .int w] (sx_mk c m o D) 0 0 Q := by
  exact pj_J.cal0 kX1_mend_114_X14 c_X6_choices ⟨_, _, _, rfl, ha⟩ pj_le0 pj_le0 pj_le0 kk
theorem lc_choices_8 {G : pj_G} {d : Nat} {c : sx_C} {m : sx_M} {o : Nat → Int64} {D : pj_H} {Q : pj_O → pj_H → Prop} {L : pj_L} {x : Nat} {s t v : Int32} (w : Int32) (ha : D[x]? = some (.inr (13, [.int (nI 8), .int s, .int t, .int v]))) (kk : pj_J G mX1_mend (d + 2) 117 L [.int (fp_cn 8), .int w] (sx_mk c m o D) 0 0 Q) : pj_J G mX1_mend (d + 2) 114 L [.ref (x + 98), .int w] (sx_mk c m o D) 0 0 Q := by
  exact pj_J.cal0 kX1_mend_114_X15 c_X6_choices ⟨_, _, _, rfl, ha⟩ pj_le0 pj_le0 pj_le0 kk
theorem lc_choices_9 {G : pj_G} {d : Nat} {c : sx_C} {m : sx_M} {o : Nat → Int64} {D : pj_H} {Q : pj_O → pj_H → Prop} {L : pj_L} {x : Nat} {s t v : Int32} (w : Int32) (ha : D[x]? = some (.inr (14, [.int (nI 9), .int s, .int t, .int v]))) (kk : pj_J G mX1_mend (d + 2) 117 L [.int (fp_cn 9), .int w] (sx_mk c m o D) 0 0 Q) : pj_J G mX1_mend (d + 2) 114 L [.ref (x + 98), .int w] (sx_mk c m o D) 0 0 Q := by
  exact pj_J.cal0 kX1_mend_114_X16 c_X6_choices ⟨_, _, _, rfl, ha⟩ pj_le0 pj_le0 pj_le0 kk
theorem lc_choices_10 {G : pj_G} {d : Nat} {c : sx_C} {m : sx_M} {o : Nat → Int64} {D : pj_H} {Q : pj_O → pj_H → Prop} {L : pj_L} {x : Nat} {s t v : Int32} (w : Int32) (ha : D[x]? = some (.inr (15, [.int (nI 10), .int s, .int t, .int v]))) (kk : pj_J G mX1_mend (d + 2) 117 L [.int (fp_cn 10), .int w] (sx_mk c m o D) 0 0 Q) : pj_J G mX1_mend (d + 2) 114 L [.ref (x + 98), .int w] (sx_mk c m o D) 0 0 Q := by
  exact pj_J.cal0 kX1_mend_114_X17 c_X6_choices ⟨_, _, _, rfl, ha⟩ pj_le0 pj_le0 pj_le0 kk
theorem lc_choices_11 {G : pj_G} {d : Nat} {c : sx_C} {m : sx_M} {o : Nat → Int64} {D : pj_H} {Q : pj_O → pj_H → Prop} {L : pj_L} {x : Nat} {s t v : Int32} (w : Int32) (ha : D[x]? = some (.inr (16, [.int (nI 11), .int s, .int t, .int v]))) (kk : pj_J G mX1_mend (d + 2) 117 L [.int (fp_cn 11), .int w] (sx_mk c m o D) 0 0 Q) : pj_J G mX1_mend (d + 2) 114 L [.ref (x + 98), .int w] (sx_mk c m o D) 0 0 Q := by
  exact pj_J.cal0 kX1_mend_114_X18 c_X6_choices ⟨_, _, _, rfl, ha⟩ pj_le0 pj_le0 pj_le0 kk
theorem lc_choices_12 {G : pj_G} {d : Nat} {c : sx_C} {m : sx_M} {o : Nat → Int64} {D : pj_H} {Q : pj_O → pj_H → Prop} {L : pj_L} {x : Nat} {s t v : Int32} (w : Int32) (ha : D[x]? = some (.inr (17, [.int (nI 12), .int s, .int t, .int v]))) (kk : pj_J G mX1_mend (d + 2) 117 L [.int (fp_cn 12), .int w] (sx_mk c m o D) 0 0 Q) : pj_J G mX1_mend (d + 2) 114 L [.ref (x + 98), .int w] (sx_mk c m o D) 0 0 Q := by
  exact pj_J.cal0 kX1_mend_114_X19 c_X6_choices ⟨_, _, _, rfl, ha⟩ pj_le0 pj_le0 pj_le0 kk
theorem lc_choices {G : pj_G} {d : Nat} {c : sx_C} {m : sx_M} {o : Nat → Int64} {D : pj_H} {Q : pj_O → pj_H → Prop} {L : pj_L} {x : Nat} {s t v : Int32} (w : Int32) {a : Nat} (h13 : a < 13) (ha : D[x]? = some (.inr (5 + a, [.int (nI a), .int s, .int t, .int v]))) (kk : pj_J G mX1_mend (d + 2) 117 L [.int (fp_cn a), .int w] (sx_mk c m o D) 0 0 Q) : pj_J G mX1_mend (d + 2) 114 L [.ref (x + 98), .int w] (sx_mk c m o D) 0 0 Q := by
  have h : a = 0 ∨ a = 1 ∨ a = 2 ∨ a = 3 ∨ a = 4 ∨ a = 5 ∨ a = 6 ∨ a = 7 ∨ a = 8 ∨ a = 9 ∨ a = 10 ∨ a = 11 ∨ a = 12 := by omega
  rcases h with rfl | rfl | rfl | rfl | rfl | rfl | rfl | rfl | rfl | rfl | rfl | rfl | rfl
  · exact lc_choices_0 w ha kk
  · exact lc_choices_1 w ha kk
  · exact lc_choices_2 w ha kk
  · exact lc_choices_3 w ha kk
  · exact lc_choices_4 w ha kk
  · exact lc_choices_5 w ha kk
  · exact lc_choices_6 w ha kk
  · exact lc_choices_7 w ha kk
  · exact lc_choices_8 w ha kk
  · exact lc_choices_9 w ha kk
  · exact lc_choices_10 w ha kk
  · exact lc_choices_11 w ha kk
  · exact lc_choices_12 w ha kk
theorem lc_choose139_1 {G : pj_G} {d : Nat} {c : sx_C} {m : sx_M} {o : Nat → Int64} {D : pj_H} {Q : pj_O → pj_H → Prop} {L : pj_L} {x : Nat} {s t v : Int32} (z : Int32) (ha : D[x]? = some (.inr (6, [.int (nI 1), .int s, .int t, .int v]))) (kk : pj_J G mX1_mend (d + 2) 142 L [] (sx_mk c m o (D.set x (fp_cs 1 s t v z))) 0 0 Q) : pj_J G mX1_mend (d + 2) 139 L [.int z, .ref (x + 98)] (sx_mk c m o D) 0 0 Q := by
  exact pj_J.cal0 kX1_mend_139_X8 (c_X8_choose (by decide) ha z) ⟨_, _, _, rfl, ha⟩ pj_le0 pj_le0 pj_le0 kk
theorem lc_choose139_2 {G : pj_G} {d : Nat} {c : sx_C} {m : sx_M} {o : Nat → Int64} {D : pj_H} {Q : pj_O → pj_H → Prop} {L : pj_L} {x : Nat} {s t v : Int32} (z : Int32) (ha : D[x]? = some (.inr (7, [.int (nI 2), .int s, .int t, .int v]))) (kk : pj_J G mX1_mend (d + 2) 142 L [] (sx_mk c m o (D.set x (fp_cs 2 s t v z))) 0 0 Q) : pj_J G mX1_mend (d + 2) 139 L [.int z, .ref (x + 98)] (sx_mk c m o D) 0 0 Q := by
  exact pj_J.cal0 kX1_mend_139_X9 (c_X8_choose (by decide) ha z) ⟨_, _, _, rfl, ha⟩ pj_le0 pj_le0 pj_le0 kk
theorem lc_choose139_4 {G : pj_G} {d : Nat} {c : sx_C} {m : sx_M} {o : Nat → Int64} {D : pj_H} {Q : pj_O → pj_H → Prop} {L : pj_L} {x : Nat} {s t v : Int32} (z : Int32) (ha : D[x]? = some (.inr (9, [.int (nI 4), .int s, .int t, .int v]))) (kk : pj_J G mX1_mend (d + 2) 142 L [] (sx_mk c m o (D.set x (fp_cs 4 s t v z))) 0 0 Q) : pj_J G mX1_mend (d + 2) 139 L [.int z, .ref (x + 98)] (sx_mk c m o D) 0 0 Q := by
  exact pj_J.cal0 kX1_mend_139_X11 (c_X11_choose (by decide) ha z) ⟨_, _, _, rfl, ha⟩ pj_le0 pj_le0 pj_le0 kk
theorem lc_choose139_6 {G : pj_G} {d : Nat} {c : sx_C} {m : sx_M} {o : Nat → Int64} {D : pj_H} {Q : pj_O → pj_H → Prop} {L : pj_L} {x : Nat} {s t v : Int32} (z : Int32) (ha : D[x]? = some (.inr (11, [.int (nI 6), .int s, .int t, .int v]))) (kk : pj_J G mX1_mend (d + 2) 142 L [] (sx_mk c m o (D.set x (fp_cs 6 s t v z))) 0 0 Q) : pj_J G mX1_mend (d + 2) 139 L [.int z, .ref (x + 98)] (sx_mk c m o D) 0 0 Q := by
  exact pj_J.cal0 kX1_mend_139_X13 (c_X13_choose (by decide) ha z) ⟨_, _, _, rfl, ha⟩ pj_le0 pj_le0 pj_le0 kk
theorem lc_choose139_11 {G : pj_G} {d : Nat} {c : sx_C} {m : sx_M} {o : Nat → Int64} {D : pj_H} {Q : pj_O → pj_H → Prop} {L : pj_L} {x : Nat} {s t v : Int32} (z : Int32) (ha : D[x]? = some (.inr (16, [.int (nI 11), .int s, .int t, .int v]))) (kk : pj_J G mX1_mend (d + 2) 142 L [] (sx_mk c m o (D.set x (fp_cs 11 s t v z))) 0 0 Q) : pj_J G mX1_mend (d + 2) 139 L [.int z, .ref (x + 98)] (sx_mk c m o D) 0 0 Q := by
  exact pj_J.cal0 kX1_mend_139_X18 (c_X18_choose (by decide) ha z) ⟨_, _, _, rfl, ha⟩ pj_le0 pj_le0 pj_le0 kk
theorem lc_choose139 {G : pj_G} {d : Nat} {c : sx_C} {m : sx_M} {o : Nat → Int64} {D : pj_H} {Q : pj_O → pj_H → Prop} {L : pj_L} {x : Nat} {s t v : Int32} (z : Int32) {a : Nat} (hc : fp_hc a) (ha : D[x]? = some (.inr (5 + a, [.int (nI a), .int s, .int t, .int v]))) (kk : pj_J G mX1_mend (d + 2) 142 L [] (sx_mk c m o (D.set x (fp_cs a s t v z))) 0 0 Q) : pj_J G mX1_mend (d + 2) 139 L [.int z, .ref (x + 98)] (sx_mk c m o D) 0 0 Q := by
  rcases hc with rfl | rfl | rfl | rfl | rfl
  · exact lc_choose139_1 z ha kk
  · exact lc_choose139_2 z ha kk
  · exact lc_choose139_4 z ha kk
  · exact lc_choose139_6 z ha kk
  · exact lc_choose139_11 z ha kk
theorem lc_choose173_1 {G : pj_G} {d : Nat} {c : sx_C} {m : sx_M} {o : Nat → Int64} {D : pj_H} {Q : pj_O → pj_H → Prop} {L : pj_L} {x : Nat} {s t v : Int32} (z : Int32) (ha : D[x]? = some (.inr (6, [.int (nI 1), .int s, .int t, .int v]))) (kk : pj_J G mX1_mend (d + 2) 176 L [] (sx_mk c m o (D.set x (fp_cs 1 s t v z))) 0 0 Q) : pj_J G mX1_mend (d + 2) 173 L [.int z, .ref (x + 98)] (sx_mk c m o D) 0 0 Q := by
  exact pj_J.cal0 kX1_mend_173_X8 (c_X8_choose (by decide) ha z) ⟨_, _, _, rfl, ha⟩ pj_le0 pj_le0 pj_le0 kk
theorem lc_choose173_2 {G : pj_G} {d : Nat} {c : sx_C} {m : sx_M} {o : Nat → Int64} {D : pj_H} {Q : pj_O → pj_H → Prop} {L : pj_L} {x : Nat} {s t v : Int32} (z : Int32) (ha : D[x]? = some (.inr (7, [.int (nI 2), .int s, .int t, .int v]))) (kk : pj_J G mX1_mend (d + 2) 176 L [] (sx_mk c m o (D.set x (fp_cs 2 s t v z))) 0 0 Q) : pj_J G mX1_mend (d + 2) 173 L [.int z, .ref (x + 98)] (sx_mk c m o D) 0 0 Q := by
  exact pj_J.cal0 kX1_mend_173_X9 (c_X8_choose (by decide) ha z) ⟨_, _, _, rfl, ha⟩ pj_le0 pj_le0 pj_le0 kk
theorem lc_choose173_4 {G : pj_G} {d : Nat} {c : sx_C} {m : sx_M} {o : Nat → Int64} {D : pj_H} {Q : pj_O → pj_H → Prop} {L : pj_L} {x : Nat} {s t v : Int32} (z : Int32) (ha : D[x]? = some (.inr (9, [.int (nI 4), .int s, .int t, .int v]))) (kk : pj_J G mX1_mend (d + 2) 176 L [] (sx_mk c m o (D.set x (fp_cs 4 s t v z))) 0 0 Q) : pj_J G mX1_mend (d + 2) 173 L [.int z, .ref (x + 98)] (sx_mk c m o D) 0 0 Q := by
  exact pj_J.cal0 kX1_mend_173_X11 (c_X11_choose (by decide) ha z) ⟨_, _, _, rfl, ha⟩ pj_le0 pj_le0 pj_le0 kk
theorem lc_choose173_6 {G : pj_G} {d : Nat} {c : sx_C} {m : sx_M} {o : Nat → Int64} {D : pj_H} {Q : pj_O → pj_H → Prop} {L : pj_L} {x : Nat} {s t v : Int32} (z : Int32) (ha : D[x]? = some (.inr (11, [.int (nI 6), .int s, .int t, .int v]))) (kk : pj_J G mX1_mend (d + 2) 176 L [] (sx_mk c m o (D.set x (fp_cs 6 s t v z))) 0 0 Q) : pj_J G mX1_mend (d + 2) 173 L [.int z, .ref (x + 98)] (sx_mk c m o D) 0 0 Q := by
  exact pj_J.cal0 kX1_mend_173_X13 (c_X13_choose (by decide) ha z) ⟨_, _, _, rfl, ha⟩ pj_le0 pj_le0 pj_le0 kk
theorem lc_choose173_11 {G : pj_G} {d : Nat} {c : sx_C} {m : sx_M} {o : Nat → Int64} {D : pj_H} {Q : pj_O → pj_H → Prop} {L : pj_L} {x : Nat} {s t v : Int32} (z : Int32) (ha : D[x]? = some (.inr (16, [.int (nI 11), .int s, .int t, .int v]))) (kk : pj_J G mX1_mend (d + 2) 176 L [] (sx_mk c m o (D.set x (fp_cs 11 s t v z))) 0 0 Q) : pj_J G mX1_mend (d + 2) 173 L [.int z, .ref (x + 98)] (sx_mk c m o D) 0 0 Q := by
  exact pj_J.cal0 kX1_mend_173_X18 (c_X18_choose (by decide) ha z) ⟨_, _, _, rfl, ha⟩ pj_le0 pj_le0 pj_le0 kk
theorem lc_choose173 {G : pj_G} {d : Nat} {c : sx_C} {m : sx_M} {o : Nat → Int64} {D : pj_H} {Q : pj_O → pj_H → Prop} {L : pj_L} {x : Nat} {s t v : Int32} (z : Int32) {a : Nat} (hc : fp_hc a) (ha : D[x]? = some (.inr (5 + a, [.int (nI a), .int s, .int t, .int v]))) (kk : pj_J G mX1_mend (d + 2) 176 L [] (sx_mk c m o (D.set x (fp_cs a s t v z))) 0 0 Q) : pj_J G mX1_mend (d + 2) 173 L [.int z, .ref (x + 98)] (sx_mk c m o D) 0 0 Q := by
  rcases hc with rfl | rfl | rfl | rfl | rfl
  · exact lc_choose173_1 z ha kk
  · exact lc_choose173_2 z ha kk
  · exact lc_choose173_4 z ha kk
  · exact lc_choose173_6 z ha kk
  · exact lc_choose173_11 z ha kk
theorem lx_md1 {G : pj_G} {d : Nat} {c : sx_C} {m : sx_M} {o : Nat → Int64} {D : pj_H} {Q : pj_O → pj_H → Prop} {p law fr to : Int32} {pi : Nat} {ai n : Nat} {cn cd : Int64} (hn : n ≤ 20) (hp : D[pi]? = some (.inr (4, [.ref (ai + 98), .int (nI n), .long cn, .long cd]))) {f : Nat → Option Nat} (hf : D[ai]? = some (.inl (7, (20, .inr (.inr (.inr (.inr f))))))) {k x : Nat} (hk : k < n) (hx : f k = some (x + 98)) (kk : pj_J G mX1_mend (d + 2) 91 [some (.ref 2), some (.int p), some (.int law), some (.int fr), some (.int to), some (.ref (pi + 98)), some (.int (nI k)), some (.ref (x + 98)), none, none, none] [.ref (x + 98)] (sx_mk c m o D) 0 0 Q) : pj_J G mX1_mend (d + 2) 69 [some (.ref 2), some (.int p), some (.int law), some (.int fr), some (.int to), some (.ref (pi + 98)), some (.int (nI k)), none, none, none, none] [] (sx_mk c m o D) 0 0 Q := by
  refine pj_J.go (oX1_mend G) 2 rfl trivial ?_
  refine pj_J.go1 (pc := 73) (oX1_mend G) rfl (po_getD (lo := 4) (hi := 4) (k := 1) (n := 76) (by exact hp) (by decide) (by rfl)) trivial ?_
  refine pj_J.go (oX1_mend G) 1 rfl trivial ?_
  refine pj_J.neg (nI_lt_lit hk (by omega)) ?_
  refine pj_J.go (oX1_mend G) 1 rfl trivial ?_
  refine pj_J.go1 (pc := 81) (oX1_mend G) rfl (po_getD (lo := 4) (hi := 4) (k := 0) (n := 84) (by exact hp) (by decide) (by rfl)) trivial ?_
  refine pj_J.go (oX1_mend G) 1 rfl trivial ?_
  refine pj_J.go1 (pc := 86) (oX1_mend G) rfl (po_aaldD (n := 87) (by exact hf) (by decide)) (by exact vp_in_lit (by omega)) ?_
  refine pj_J.seq (show va_rf (f (nI k).toNatClampNeg) :: _ = .ref (x + 98) :: _ by rw [nI_clamp (by omega), hx]; rfl) ?_
  refine pj_J.go (oX1_mend G) 2 rfl trivial ?_
  exact kk
theorem lz_md1 {G : pj_G} {d : Nat} {c : sx_C} {m : sx_M} {o : Nat → Int64} {D : pj_H} {Q : pj_O → pj_H → Prop} {p law fr to : Int32} {pi : Nat} {ai n : Nat} {cn cd : Int64} (hn : n ≤ 20) (hp : D[pi]? = some (.inr (4, [.ref (ai + 98), .int (nI n), .long cn, .long cd]))) (q : Q (.inl (some (.int (-3)))) (sx_mk c m o D)) : pj_J G mX1_mend (d + 2) 69 [some (.ref 2), some (.int p), some (.int law), some (.int fr), some (.int to), some (.ref (pi + 98)), some (.int (nI n)), none, none, none, none] [] (sx_mk c m o D) 0 0 Q := by
  refine pj_J.go (oX1_mend G) 2 rfl trivial ?_
  refine pj_J.go1 (pc := 73) (oX1_mend G) rfl (po_getD (lo := 4) (hi := 4) (k := 1) (n := 76) (by exact hp) (by decide) (by rfl)) trivial ?_
  refine pj_J.go (oX1_mend G) 1 rfl trivial ?_
  refine pj_J.pos (nI_ge_lit (Nat.le_refl _) (by omega)) ?_
  refine pj_J.go (oX1_mend G) 1 rfl trivial ?_
  exact pj_iret dX1_mend_198 rfl q
theorem lx_md2 {G : pj_G} {d : Nat} {c : sx_C} {m : sx_M} {o : Nat → Int64} {D : pj_H} {Q : pj_O → pj_H → Prop} {p law fr to : Int32} {pi : Nat} {x : Nat} {i : Int32} (w : Int32) (k1 : ¬ 0 ≤ w → pj_J G mX1_mend (d + 2) 69 [some (.ref 2), some (.int p), some (.int law), some (.int fr), some (.int to), some (.ref (pi + 98)), some (.int (i + 1)), none, none, none, none] [] (sx_mk c m o D) 0 0 Q) (k2 : 0 ≤ w → pj_J G mX1_mend (d + 2) 110 [some (.ref 2), some (.int p), some (.int law), some (.int fr), some (.int to), some (.ref (pi + 98)), some (.int i), some (.ref (x + 98)), some (.int w), some (.int (-1)), some (.int 0)] [] (sx_mk c m o D) 0 0 Q) : pj_J G mX1_mend (d + 2) 94 [some (.ref 2), some (.int p), some (.int law), some (.int fr), some (.int to), some (.ref (pi + 98)), some (.int i), some (.ref (x + 98)), none, none, none] [.int w] (sx_mk c m o D) 0 0 Q := by
  refine pj_J.go (oX1_mend G) 3 rfl trivial ?_
  refine pj_J.ite (fun hc98 => ?_) (fun hc98 => ?_)
  · skip
    refine pj_J.go (oX1_mend G) 4 rfl trivial ?_
    exact k2 hc98
  · skip
    refine pj_J.go (oX1_mend G) 3 rfl trivial ?_
    exact pj_J.drp (k1 hc98) ⟨rfl, rfl, rfl, rfl, rfl, rfl, rfl, trivial⟩
theorem lx_md3 {G : pj_G} {d : Nat} {c : sx_C} {m : sx_M} {o : Nat → Int64} {D : pj_H} {Q : pj_O → pj_H → Prop} {p law fr to : Int32} {pi : Nat} {x : Nat} {i w g z : Int32} (kk : pj_J G mX1_mend (d + 2) 114 [some (.ref 2), some (.int p), some (.int law), some (.int fr), some (.int to), some (.ref (pi + 98)), some (.int i), some (.ref (x + 98)), some (.int w), some (.int g), some (.int z)] [.ref (x + 98), .int z] (sx_mk c m o D) 0 0 Q) : pj_J G mX1_mend (d + 2) 110 [some (.ref 2), some (.int p), some (.int law), some (.int fr), some (.int to), some (.ref (pi + 98)), some (.int i), some (.ref (x + 98)), some (.int w), some (.int g), some (.int z)] [] (sx_mk c m o D) 0 0 Q := by
  refine pj_J.go (oX1_mend G) 2 rfl trivial ?_
  exact kk
theorem lx_md4e {G : pj_G} {d : Nat} {c : sx_C} {m : sx_M} {o : Nat → Int64} {D : pj_H} {Q : pj_O → pj_H → Prop} {p law fr to : Int32} {pi : Nat} {x : Nat} {i w g z : Int32} (y : Int32) (h : y ≤ z ∨ 0 ≤ g) (kk : pj_J G mX1_mend (d + 2) 169 [some (.ref 2), some (.int p), some (.int law), some (.int fr), some (.int to), some (.ref (pi + 98)), some (.int i), some (.ref (x + 98)), some (.int w), some (.int g), none] [] (sx_mk c m o D) 0 0 Q) : pj_J G mX1_mend (d + 2) 117 [some (.ref 2), some (.int p), some (.int law), some (.int fr), some (.int to), some (.ref (pi + 98)), some (.int i), some (.ref (x + 98)), some (.int w), some (.int g), some (.int z)] [.int y, .int z] (sx_mk c m o D) 0 0 Q := by
  refine pj_J.go (oX1_mend G) 1 rfl trivial ?_
  refine pj_J.ite (fun hc117 => ?_) (fun hc117 => ?_)
  · skip
    exact pj_J.drp kk ⟨rfl, rfl, rfl, rfl, rfl, rfl, rfl, rfl, rfl, rfl, trivial⟩
  · skip
    refine pj_J.go (oX1_mend G) 2 rfl trivial ?_
    refine pj_J.ite (fun hc122 => ?_) (fun hc122 => ?_)
    · skip
      exact pj_J.drp kk ⟨rfl, rfl, rfl, rfl, rfl, rfl, rfl, rfl, rfl, rfl, trivial⟩
    · skip
      exfalso
      rcases h with h | h
      · exact hc117 h
      · exact hc122 h
theorem lx_md4s {G : pj_G} {d : Nat} {c : sx_C} {m : sx_M} {o : Nat → Int64} {D : pj_H} {Q : pj_O → pj_H → Prop} {p law fr to : Int32} {pi : Nat} {x : Nat} {i w g z : Int32} (y : Int32) (h1 : ¬ y ≤ z) (h2 : ¬ 0 ≤ g) (h3 : z = w) (kk : pj_J G mX1_mend (d + 2) 110 [some (.ref 2), some (.int p), some (.int law), some (.int fr), some (.int to), some (.ref (pi + 98)), some (.int i), some (.ref (x + 98)), some (.int w), some (.int g), some (.int (z + 1))] [] (sx_mk c m o D) 0 0 Q) : pj_J G mX1_mend (d + 2) 117 [some (.ref 2), some (.int p), some (.int law), some (.int fr), some (.int to), some (.ref (pi + 98)), some (.int i), some (.ref (x + 98)), some (.int w), some (.int g), some (.int z)] [.int y, .int z] (sx_mk c m o D) 0 0 Q := by
  refine pj_J.go (oX1_mend G) 1 rfl trivial ?_
  refine pj_J.neg (h1) ?_
  refine pj_J.go (oX1_mend G) 2 rfl trivial ?_
  refine pj_J.neg (h2) ?_
  refine pj_J.go (oX1_mend G) 3 rfl trivial ?_
  refine pj_J.pos (h3) ?_
  refine pj_J.go (oX1_mend G) 3 rfl trivial ?_
  exact kk
theorem lx_md4c {G : pj_G} {d : Nat} {c : sx_C} {m : sx_M} {o : Nat → Int64} {D : pj_H} {Q : pj_O → pj_H → Prop} {p law fr to : Int32} {pi : Nat} {x : Nat} {i w g z : Int32} (y : Int32) (h1 : ¬ y ≤ z) (h2 : ¬ 0 ≤ g) (h3 : ¬ z = w) (kk : pj_J G mX1_mend (d + 2) 139 [some (.ref 2), some (.int p), some (.int law), some (.int fr), some (.int to), some (.ref (pi + 98)), some (.int i), some (.ref (x + 98)), some (.int w), some (.int g), some (.int z)] [.int z, .ref (x + 98)] (sx_mk c m o D) 0 0 Q) : pj_J G mX1_mend (d + 2) 117 [some (.ref 2), some (.int p), some (.int law), some (.int fr), some (.int to), some (.ref (pi + 98)), some (.int i), some (.ref (x + 98)), some (.int w), some (.int g), some (.int z)] [.int y, .int z] (sx_mk c m o D) 0 0 Q := by
  refine pj_J.go (oX1_mend G) 1 rfl trivial ?_
  refine pj_J.neg (h1) ?_
  refine pj_J.go (oX1_mend G) 2 rfl trivial ?_
  refine pj_J.neg (h2) ?_
  refine pj_J.go (oX1_mend G) 3 rfl trivial ?_
  refine pj_J.neg (h3) ?_
  refine pj_J.go (oX1_mend G) 2 rfl trivial ?_
  exact kk
theorem lx_md5 {G : pj_G} {d : Nat} {c : sx_C} {m : sx_M} {o : Nat → Int64} {D : pj_H} {Q : pj_O → pj_H → Prop} {p law fr to : Int32} {pi : Nat} {x : Nat} {i w g z : Int32} (r : Int32) (c1 : sx_C) (cb : pj_Rt G mX1_firstBreak (d + 1) [.ref 2, .ref (pi + 98), .int law, .null, .int fr, .int to] (sx_mk c m o D) 0 0 (some (.int r)) (sx_mk c1 m o D)) (kk : pj_J G mX1_mend (d + 2) 110 [some (.ref 2), some (.int p), some (.int law), some (.int fr), some (.int to), some (.ref (pi + 98)), some (.int i), some (.ref (x + 98)), some (.int w), some (.int (if r = 9999999 then z else g)), some (.int (z + 1))] [] (sx_mk c1 m o D) 0 0 Q) : pj_J G mX1_mend (d + 2) 142 [some (.ref 2), some (.int p), some (.int law), some (.int fr), some (.int to), some (.ref (pi + 98)), some (.int i), some (.ref (x + 98)), some (.int w), some (.int g), some (.int z)] [] (sx_mk c m o D) 0 0 Q := by
  refine pj_J.go (oX1_mend G) 6 rfl trivial ?_
  refine pj_J.cal0 kX1_mend_150 (cb) ⟨_, _, _, rfl, rfl⟩ pj_le0 pj_le0 pj_le0 ?_
  refine pj_J.go (oX1_mend G) 2 rfl trivial ?_
  refine pj_J.ite (fun hc156 => ?_) (fun hc156 => ?_)
  · skip
    refine pj_J.go (oX1_mend G) 4 rfl trivial ?_
    rw [if_pos (show r = (9999999 : Int32) from hc156)] at kk
    exact kk
  · skip
    refine pj_J.go (oX1_mend G) 2 rfl trivial ?_
    rw [if_neg (show ¬ (r = (9999999 : Int32)) from hc156)] at kk
    exact kk
theorem lx_md6 {G : pj_G} {d : Nat} {c : sx_C} {m : sx_M} {o : Nat → Int64} {D : pj_H} {Q : pj_O → pj_H → Prop} {p law fr to : Int32} {pi : Nat} {x : Nat} {i w g : Int32} (kk : pj_J G mX1_mend (d + 2) 173 [some (.ref 2), some (.int p), some (.int law), some (.int fr), some (.int to), some (.ref (pi + 98)), some (.int i), some (.ref (x + 98)), some (.int w), some (.int g), none] [.int w, .ref (x + 98)] (sx_mk c m o D) 0 0 Q) : pj_J G mX1_mend (d + 2) 169 [some (.ref 2), some (.int p), some (.int law), some (.int fr), some (.int to), some (.ref (pi + 98)), some (.int i), some (.ref (x + 98)), some (.int w), some (.int g), none] [] (sx_mk c m o D) 0 0 Q := by
  refine pj_J.go (oX1_mend G) 2 rfl trivial ?_
  exact kk
theorem lx_md7 {G : pj_G} {d : Nat} {c : sx_C} {m : sx_M} {o : Nat → Int64} {D : pj_H} {Q : pj_O → pj_H → Prop} {p law fr to : Int32} {pi : Nat} {x : Nat} {i w g : Int32} (q : ¬ g < 0 → Q (.inl (some (.int (10 * i + g)))) (sx_mk c m o D)) (kk : g < 0 → pj_J G mX1_mend (d + 2) 69 [some (.ref 2), some (.int p), some (.int law), some (.int fr), some (.int to), some (.ref (pi + 98)), some (.int (i + 1)), none, none, none, none] [] (sx_mk c m o D) 0 0 Q) : pj_J G mX1_mend (d + 2) 176 [some (.ref 2), some (.int p), some (.int law), some (.int fr), some (.int to), some (.ref (pi + 98)), some (.int i), some (.ref (x + 98)), some (.int w), some (.int g), none] [] (sx_mk c m o D) 0 0 Q := by
  refine pj_J.go (oX1_mend G) 2 rfl trivial ?_
  refine pj_J.ite (fun hc178 => ?_) (fun hc178 => ?_)
  · skip
    refine pj_J.go (oX1_mend G) 2 rfl trivial ?_
    exact pj_J.drp (kk hc178) ⟨rfl, rfl, rfl, rfl, rfl, rfl, rfl, trivial⟩
  · skip
    refine pj_J.go (oX1_mend G) 5 rfl trivial ?_
    exact pj_iret dX1_mend_189 rfl (q hc178)
def fc_mendBad (u : sx_M) (p law fr to : Int32) : Prop := fc_isProgram u p = 0 ∨ law < 0 ∨ 6 < law ∨ law = 2 ∨ fc_span fr to 300 = 0
theorem c_X1_mend0 {G : pj_G} {d : Nat} {c : sx_C} {m : sx_M} {o : Nat → Int64} {D : pj_H} (p law fr to : Int32) (h : fc_mendBad c.1 p law fr to) : pj_Rt G mX1_mend (d + 2) [.ref 2, .int p, .int law, .int fr, .int to] (sx_mk c m o D) 0 0 (some (.int (-1))) (sx_mk c m o D) := by
  refine pj_Cn.start ?_
  refine pj_J.go (oX1_mend G) 2 rfl trivial ?_
  refine pj_J.cal0 kX1_mend_2 (c_X1_isProgram (c := c) p) ⟨_, _, _, rfl, rfl⟩ pj_le0 pj_le0 pj_le0 ?_
  refine pj_J.go (oX1_mend G) 1 rfl trivial ?_
  refine pj_J.ite (fun hc5 => ?_) (fun hc5 => ?_)
  · skip
    refine pj_J.go (oX1_mend G) 1 rfl trivial ?_
    exact pj_iret dX1_mend_36 rfl ⟨rfl, rfl⟩
  · skip
    refine pj_J.go (oX1_mend G) 2 rfl trivial ?_
    refine pj_J.ite (fun hc9 => ?_) (fun hc9 => ?_)
    · skip
      refine pj_J.go (oX1_mend G) 1 rfl trivial ?_
      exact pj_iret dX1_mend_36 rfl ⟨rfl, rfl⟩
    · skip
      refine pj_J.go (oX1_mend G) 3 rfl trivial ?_
      refine pj_J.ite (fun hc15 => ?_) (fun hc15 => ?_)
      · skip
        refine pj_J.go (oX1_mend G) 1 rfl trivial ?_
        exact pj_iret dX1_mend_36 rfl ⟨rfl, rfl⟩
      · skip
        refine pj_J.go (oX1_mend G) 3 rfl trivial ?_
        refine pj_J.ite (fun hc20 => ?_) (fun hc20 => ?_)
        · skip
          refine pj_J.go (oX1_mend G) 1 rfl trivial ?_
          exact pj_iret dX1_mend_36 rfl ⟨rfl, rfl⟩
        · skip
          refine pj_J.go (oX1_mend G) 3 rfl trivial ?_
          refine pj_J.cal0 kX1_mend_29 (c_X1_span fr to (300 : Int32)) trivial pj_le0 pj_le0 pj_le0 ?_
          refine pj_J.go (oX1_mend G) 1 rfl trivial ?_
          refine pj_J.ite (fun hc32 => ?_) (fun hc32 => ?_)
          · skip
            refine pj_J.go (oX1_mend G) 1 rfl trivial ?_
            exact pj_iret dX1_mend_36 rfl ⟨rfl, rfl⟩
          · skip
            exfalso
            rcases h with h | h | h | h | h
            · exact hc5 h
            · exact hc9 h
            · exact hc15 h
            · exact hc20 h
            · exact hc32 h
theorem c_X1_mend1 {G : pj_G} {d : Nat} {c : sx_C} {m : sx_M} {o : Nat → Int64} {D : pj_H} (p law fr to : Int32) (hg : ¬ fc_isProgram c.1 p = 0 ∧ ¬ law < 0 ∧ ¬ 6 < law ∧ ¬ law = 2 ∧ ¬ fc_span fr to 300 = 0) (hp4 : vp_in p 4) {pi : Nat} (hpi : sx_P c p.toNatClampNeg = some (pi + 98)) (r : Int32) (c1 : sx_C) (cb : pj_Rt G mX1_firstBreak (d + 1) [.ref 2, .ref (pi + 98), .int law, .null, .int fr, .int to] (sx_mk c m o D) 0 0 (some (.int r)) (sx_mk c1 m o D)) (hr : r = 9999999) : pj_Rt G mX1_mend (d + 2) [.ref 2, .int p, .int law, .int fr, .int to] (sx_mk c m o D) 0 0 (some (.int 9999999)) (sx_mk c1 m o D) := by
  refine pj_Cn.start ?_
  refine pj_J.go (oX1_mend G) 2 rfl trivial ?_
  refine pj_J.cal0 kX1_mend_2 (c_X1_isProgram (c := c) p) ⟨_, _, _, rfl, rfl⟩ pj_le0 pj_le0 pj_le0 ?_
  refine pj_J.go (oX1_mend G) 1 rfl trivial ?_
  refine pj_J.neg (hg.1) ?_
  refine pj_J.go (oX1_mend G) 2 rfl trivial ?_
  refine pj_J.neg (hg.2.1) ?_
  refine pj_J.go (oX1_mend G) 3 rfl trivial ?_
  refine pj_J.neg (hg.2.2.1) ?_
  refine pj_J.go (oX1_mend G) 3 rfl trivial ?_
  refine pj_J.neg (hg.2.2.2.1) ?_
  refine pj_J.go (oX1_mend G) 3 rfl trivial ?_
  refine pj_J.cal0 kX1_mend_29 (c_X1_span fr to (300 : Int32)) trivial pj_le0 pj_le0 pj_le0 ?_
  refine pj_J.go (oX1_mend G) 1 rfl trivial ?_
  refine pj_J.neg (hg.2.2.2.2) ?_
  refine pj_J.go (oX1_mend G) 4 rfl ⟨by exact hp4, trivial⟩ ?_
  refine pj_J.seq (show va_rf (sx_P c p.toNatClampNeg) :: _ = .ref (pi + 98) :: _ by rw [hpi]; rfl) ?_
  refine pj_J.go (oX1_mend G) 7 rfl trivial ?_
  refine pj_J.cal0 kX1_mend_53 (cb) ⟨_, _, _, rfl, rfl⟩ pj_le0 pj_le0 pj_le0 ?_
  refine pj_J.go (oX1_mend G) 2 rfl trivial ?_
  refine pj_J.pos (hr) ?_
  refine pj_J.go (oX1_mend G) 1 rfl trivial ?_
  exact pj_iret dX1_mend_65 rfl ⟨rfl, rfl⟩
theorem c_X1_mend2 {G : pj_G} {d : Nat} {c : sx_C} {m : sx_M} {o : Nat → Int64} {D : pj_H} {Q : pj_O → pj_H → Prop} (p law fr to : Int32) (hg : ¬ fc_isProgram c.1 p = 0 ∧ ¬ law < 0 ∧ ¬ 6 < law ∧ ¬ law = 2 ∧ ¬ fc_span fr to 300 = 0) (hp4 : vp_in p 4) {pi : Nat} (hpi : sx_P c p.toNatClampNeg = some (pi + 98)) (r : Int32) (c1 : sx_C) (cb : pj_Rt G mX1_firstBreak (d + 1) [.ref 2, .ref (pi + 98), .int law, .null, .int fr, .int to] (sx_mk c m o D) 0 0 (some (.int r)) (sx_mk c1 m o D)) (hr : ¬ r = 9999999) (kk : pj_J G mX1_mend (d + 2) 69 [some (.ref 2), some (.int p), some (.int law), some (.int fr), some (.int to), some (.ref (pi + 98)), some (.int (nI 0)), none, none, none, none] [] (sx_mk c1 m o D) 0 0 Q) : pj_Cn G mX1_mend (d + 2) [.ref 2, .int p, .int law, .int fr, .int to] (sx_mk c m o D) 0 0 Q := by
  refine pj_Cn.start ?_
  refine pj_J.go (oX1_mend G) 2 rfl trivial ?_
  refine pj_J.cal0 kX1_mend_2 (c_X1_isProgram (c := c) p) ⟨_, _, _, rfl, rfl⟩ pj_le0 pj_le0 pj_le0 ?_
  refine pj_J.go (oX1_mend G) 1 rfl trivial ?_
  refine pj_J.neg (hg.1) ?_
  refine pj_J.go (oX1_mend G) 2 rfl trivial ?_
  refine pj_J.neg (hg.2.1) ?_
  refine pj_J.go (oX1_mend G) 3 rfl trivial ?_
  refine pj_J.neg (hg.2.2.1) ?_
  refine pj_J.go (oX1_mend G) 3 rfl trivial ?_
  refine pj_J.neg (hg.2.2.2.1) ?_
  refine pj_J.go (oX1_mend G) 3 rfl trivial ?_
  refine pj_J.cal0 kX1_mend_29 (c_X1_span fr to (300 : Int32)) trivial pj_le0 pj_le0 pj_le0 ?_
  refine pj_J.go (oX1_mend G) 1 rfl trivial ?_
  refine pj_J.neg (hg.2.2.2.2) ?_
  refine pj_J.go (oX1_mend G) 4 rfl ⟨by exact hp4, trivial⟩ ?_
  refine pj_J.seq (show va_rf (sx_P c p.toNatClampNeg) :: _ = .ref (pi + 98) :: _ by rw [hpi]; rfl) ?_
  refine pj_J.go (oX1_mend G) 7 rfl trivial ?_
  refine pj_J.cal0 kX1_mend_53 (cb) ⟨_, _, _, rfl, rfl⟩ pj_le0 pj_le0 pj_le0 ?_
  refine pj_J.go (oX1_mend G) 2 rfl trivial ?_
  refine pj_J.neg (hr) ?_
  refine pj_J.go (oX1_mend G) 2 rfl trivial ?_
  exact pj_J.drp kk ⟨rfl, rfl, rfl, rfl, rfl, rfl, rfl, trivial⟩
