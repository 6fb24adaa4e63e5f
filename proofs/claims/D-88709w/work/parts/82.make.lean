/-! heaps while the objects are made (by tools/gen_t1.py) -/
set_option maxRecDepth 100000
def sx_mkC (c : sx_C) : pj_H :=
  .inl (90, (0, .inl (fun _ => 0))) ::
  .inl (90, (0, .inl (fun _ => 0))) ::
  .inr (0, [.ref 3, .ref 4, .ref 5, .int (sx_i c.1 3), .ref 6, .ref 7, .ref 8, .int (sx_i c.1 7), .ref 9, .int (sx_i c.1 9), .ref 10, .ref 21, .ref 32, .ref 43, .ref 44, .int (sx_i c.1 15), .ref 45, .ref 46, .ref 47, .ref 48, .ref 49, .ref 50, .ref 51, .ref 52, .int (sx_i c.1 24)]) ::
  .inl (0, (8, .inl (sx_I c.1 0))) ::
  .inl (0, (8, .inl (sx_I c.1 1))) ::
  .inl (0, (12, .inl (sx_I c.1 2))) ::
  .inl (0, (32, .inl (sx_I c.1 4))) ::
  .inl (0, (4, .inl (sx_I c.1 5))) ::
  .inl (6, (4, .inr (.inr (.inr (.inr (sx_P c)))))) ::
  .inl (1, (8, .inr (.inl (sx_L c.1 8)))) ::
  .inr (1, [.ref 11, .ref 12, .ref 13, .ref 14, .int (sx_i (sx_R c 0) 4), .int (sx_i (sx_R c 0) 5), .long (sx_l (sx_R c 0) 6), .ref 15, .ref 16, .int (sx_i (sx_R c 0) 9), .long (sx_l (sx_R c 0) 10), .long (sx_l (sx_R c 0) 11), .ref 17, .int (sx_i (sx_R c 0) 13), .ref 18, .ref 19, .ref 20, .double (sx_d (sx_R c 0) 17), .ref 2]) ::
  .inl (1, (8, .inr (.inl (sx_L (sx_R c 0) 0)))) ::
  .inl (1, (8, .inr (.inl (sx_L (sx_R c 0) 1)))) ::
  .inl (2, (8, .inl (sx_I (sx_R c 0) 2))) ::
  .inl (1, (8, .inr (.inl (sx_L (sx_R c 0) 3)))) ::
  .inl (1, (12, .inr (.inl (sx_L (sx_R c 0) 7)))) ::
  .inl (0, (12, .inl (sx_I (sx_R c 0) 8))) ::
  .inl (1, (8, .inr (.inl (sx_L (sx_R c 0) 12)))) ::
  .inl (3, (8, .inr (.inr (.inr (.inl (sx_D (sx_R c 0) 14)))))) ::
  .inl (3, (12, .inr (.inr (.inr (.inl (sx_D (sx_R c 0) 15)))))) ::
  .inl (3, (8, .inr (.inr (.inr (.inl (sx_D (sx_R c 0) 16)))))) ::
  .inr (1, [.ref 22, .ref 23, .ref 24, .ref 25, .int (sx_i (sx_R c 1) 4), .int (sx_i (sx_R c 1) 5), .long (sx_l (sx_R c 1) 6), .ref 26, .ref 27, .int (sx_i (sx_R c 1) 9), .long (sx_l (sx_R c 1) 10), .long (sx_l (sx_R c 1) 11), .ref 28, .int (sx_i (sx_R c 1) 13), .ref 29, .ref 30, .ref 31, .double (sx_d (sx_R c 1) 17), .ref 2]) ::
  .inl (1, (8, .inr (.inl (sx_L (sx_R c 1) 0)))) ::
  .inl (1, (8, .inr (.inl (sx_L (sx_R c 1) 1)))) ::
  .inl (2, (8, .inl (sx_I (sx_R c 1) 2))) ::
  .inl (1, (8, .inr (.inl (sx_L (sx_R c 1) 3)))) ::
  .inl (1, (12, .inr (.inl (sx_L (sx_R c 1) 7)))) ::
  .inl (0, (12, .inl (sx_I (sx_R c 1) 8))) ::
  .inl (1, (8, .inr (.inl (sx_L (sx_R c 1) 12)))) ::
  .inl (3, (8, .inr (.inr (.inr (.inl (sx_D (sx_R c 1) 14)))))) ::
  .inl (3, (12, .inr (.inr (.inr (.inl (sx_D (sx_R c 1) 15)))))) ::
  .inl (3, (8, .inr (.inr (.inr (.inl (sx_D (sx_R c 1) 16)))))) ::
  .inr (1, [.ref 33, .ref 34, .ref 35, .ref 36, .int (sx_i (sx_R c 2) 4), .int (sx_i (sx_R c 2) 5), .long (sx_l (sx_R c 2) 6), .ref 37, .ref 38, .int (sx_i (sx_R c 2) 9), .long (sx_l (sx_R c 2) 10), .long (sx_l (sx_R c 2) 11), .ref 39, .int (sx_i (sx_R c 2) 13), .ref 40, .ref 41, .ref 42, .double (sx_d (sx_R c 2) 17), .ref 2]) ::
  .inl (1, (8, .inr (.inl (sx_L (sx_R c 2) 0)))) ::
  .inl (1, (8, .inr (.inl (sx_L (sx_R c 2) 1)))) ::
  .inl (2, (8, .inl (sx_I (sx_R c 2) 2))) ::
  .inl (1, (8, .inr (.inl (sx_L (sx_R c 2) 3)))) ::
  .inl (1, (12, .inr (.inl (sx_L (sx_R c 2) 7)))) ::
  .inl (0, (12, .inl (sx_I (sx_R c 2) 8))) ::
  .inl (1, (8, .inr (.inl (sx_L (sx_R c 2) 12)))) ::
  .inl (3, (8, .inr (.inr (.inr (.inl (sx_D (sx_R c 2) 14)))))) ::
  .inl (3, (12, .inr (.inr (.inr (.inl (sx_D (sx_R c 2) 15)))))) ::
  .inl (3, (8, .inr (.inr (.inr (.inl (sx_D (sx_R c 2) 16)))))) ::
  .inl (1, (8, .inr (.inl (sx_L c.1 13)))) ::
  .inl (1, (8, .inr (.inl (sx_L c.1 14)))) ::
  .inl (0, (6, .inl (sx_I c.1 16))) ::
  .inl (0, (12, .inl (sx_I c.1 17))) ::
  .inl (0, (1, .inl (sx_I c.1 18))) ::
  .inl (0, (2600, .inl (sx_I c.1 19))) ::
  .inl (0, (2600, .inl (sx_I c.1 20))) ::
  .inl (0, (2600, .inl (sx_I c.1 21))) ::
  .inl (0, (2600, .inl (sx_I c.1 22))) ::
  .inl (8, (6, .inr (.inr (.inr (.inr sx_tr))))) ::
  .inr (2, [va_rf (sx_T c 0)]) ::
  .inr (2, [va_rf (sx_T c 1)]) ::
  .inr (2, [va_rf (sx_T c 2)]) ::
  .inr (2, [va_rf (sx_T c 3)]) ::
  .inr (2, [va_rf (sx_T c 4)]) ::
  .inr (2, [va_rf (sx_T c 5)]) :: []
def sx_mk0 (c : sx_C) (m : sx_M) : pj_H :=
  .inl (90, (0, .inl (fun _ => 0))) ::
  .inl (90, (0, .inl (fun _ => 0))) ::
  .inr (0, [.ref 3, .ref 4, .ref 5, .int (sx_i c.1 3), .ref 6, .ref 7, .ref 8, .int (sx_i c.1 7), .ref 9, .int (sx_i c.1 9), .ref 10, .ref 21, .ref 32, .ref 43, .ref 44, .int (sx_i c.1 15), .ref 45, .ref 46, .ref 47, .ref 48, .ref 49, .ref 50, .ref 51, .ref 52, .int (sx_i c.1 24)]) ::
  .inl (0, (8, .inl (sx_I c.1 0))) ::
  .inl (0, (8, .inl (sx_I c.1 1))) ::
  .inl (0, (12, .inl (sx_I c.1 2))) ::
  .inl (0, (32, .inl (sx_I c.1 4))) ::
  .inl (0, (4, .inl (sx_I c.1 5))) ::
  .inl (6, (4, .inr (.inr (.inr (.inr (sx_P c)))))) ::
  .inl (1, (8, .inr (.inl (sx_L c.1 8)))) ::
  .inr (1, [.ref 11, .ref 12, .ref 13, .ref 14, .int (sx_i (sx_R c 0) 4), .int (sx_i (sx_R c 0) 5), .long (sx_l (sx_R c 0) 6), .ref 15, .ref 16, .int (sx_i (sx_R c 0) 9), .long (sx_l (sx_R c 0) 10), .long (sx_l (sx_R c 0) 11), .ref 17, .int (sx_i (sx_R c 0) 13), .ref 18, .ref 19, .ref 20, .double (sx_d (sx_R c 0) 17), .ref 2]) ::
  .inl (1, (8, .inr (.inl (sx_L (sx_R c 0) 0)))) ::
  .inl (1, (8, .inr (.inl (sx_L (sx_R c 0) 1)))) ::
  .inl (2, (8, .inl (sx_I (sx_R c 0) 2))) ::
  .inl (1, (8, .inr (.inl (sx_L (sx_R c 0) 3)))) ::
  .inl (1, (12, .inr (.inl (sx_L (sx_R c 0) 7)))) ::
  .inl (0, (12, .inl (sx_I (sx_R c 0) 8))) ::
  .inl (1, (8, .inr (.inl (sx_L (sx_R c 0) 12)))) ::
  .inl (3, (8, .inr (.inr (.inr (.inl (sx_D (sx_R c 0) 14)))))) ::
  .inl (3, (12, .inr (.inr (.inr (.inl (sx_D (sx_R c 0) 15)))))) ::
  .inl (3, (8, .inr (.inr (.inr (.inl (sx_D (sx_R c 0) 16)))))) ::
  .inr (1, [.ref 22, .ref 23, .ref 24, .ref 25, .int (sx_i (sx_R c 1) 4), .int (sx_i (sx_R c 1) 5), .long (sx_l (sx_R c 1) 6), .ref 26, .ref 27, .int (sx_i (sx_R c 1) 9), .long (sx_l (sx_R c 1) 10), .long (sx_l (sx_R c 1) 11), .ref 28, .int (sx_i (sx_R c 1) 13), .ref 29, .ref 30, .ref 31, .double (sx_d (sx_R c 1) 17), .ref 2]) ::
  .inl (1, (8, .inr (.inl (sx_L (sx_R c 1) 0)))) ::
  .inl (1, (8, .inr (.inl (sx_L (sx_R c 1) 1)))) ::
  .inl (2, (8, .inl (sx_I (sx_R c 1) 2))) ::
  .inl (1, (8, .inr (.inl (sx_L (sx_R c 1) 3)))) ::
  .inl (1, (12, .inr (.inl (sx_L (sx_R c 1) 7)))) ::
  .inl (0, (12, .inl (sx_I (sx_R c 1) 8))) ::
  .inl (1, (8, .inr (.inl (sx_L (sx_R c 1) 12)))) ::
  .inl (3, (8, .inr (.inr (.inr (.inl (sx_D (sx_R c 1) 14)))))) ::
  .inl (3, (12, .inr (.inr (.inr (.inl (sx_D (sx_R c 1) 15)))))) ::
  .inl (3, (8, .inr (.inr (.inr (.inl (sx_D (sx_R c 1) 16)))))) ::
  .inr (1, [.ref 33, .ref 34, .ref 35, .ref 36, .int (sx_i (sx_R c 2) 4), .int (sx_i (sx_R c 2) 5), .long (sx_l (sx_R c 2) 6), .ref 37, .ref 38, .int (sx_i (sx_R c 2) 9), .long (sx_l (sx_R c 2) 10), .long (sx_l (sx_R c 2) 11), .ref 39, .int (sx_i (sx_R c 2) 13), .ref 40, .ref 41, .ref 42, .double (sx_d (sx_R c 2) 17), .ref 2]) ::
  .inl (1, (8, .inr (.inl (sx_L (sx_R c 2) 0)))) ::
  .inl (1, (8, .inr (.inl (sx_L (sx_R c 2) 1)))) ::
  .inl (2, (8, .inl (sx_I (sx_R c 2) 2))) ::
  .inl (1, (8, .inr (.inl (sx_L (sx_R c 2) 3)))) ::
  .inl (1, (12, .inr (.inl (sx_L (sx_R c 2) 7)))) ::
  .inl (0, (12, .inl (sx_I (sx_R c 2) 8))) ::
  .inl (1, (8, .inr (.inl (sx_L (sx_R c 2) 12)))) ::
  .inl (3, (8, .inr (.inr (.inr (.inl (sx_D (sx_R c 2) 14)))))) ::
  .inl (3, (12, .inr (.inr (.inr (.inl (sx_D (sx_R c 2) 15)))))) ::
  .inl (3, (8, .inr (.inr (.inr (.inl (sx_D (sx_R c 2) 16)))))) ::
  .inl (1, (8, .inr (.inl (sx_L c.1 13)))) ::
  .inl (1, (8, .inr (.inl (sx_L c.1 14)))) ::
  .inl (0, (6, .inl (sx_I c.1 16))) ::
  .inl (0, (12, .inl (sx_I c.1 17))) ::
  .inl (0, (1, .inl (sx_I c.1 18))) ::
  .inl (0, (2600, .inl (sx_I c.1 19))) ::
  .inl (0, (2600, .inl (sx_I c.1 20))) ::
  .inl (0, (2600, .inl (sx_I c.1 21))) ::
  .inl (0, (2600, .inl (sx_I c.1 22))) ::
  .inl (8, (6, .inr (.inr (.inr (.inr sx_tr))))) ::
  .inr (2, [va_rf (sx_T c 0)]) ::
  .inr (2, [va_rf (sx_T c 1)]) ::
  .inr (2, [va_rf (sx_T c 2)]) ::
  .inr (2, [va_rf (sx_T c 3)]) ::
  .inr (2, [va_rf (sx_T c 4)]) ::
  .inr (2, [va_rf (sx_T c 5)]) ::
  .inr (3, [.int (sx_i m 0), .ref 60, .ref 61, .int (sx_i m 3), .ref 62, .ref 63, .ref 64, .int (sx_i m 7), .ref 65, .ref 66, .ref 67, .ref 68, .ref 69, .int (sx_i m 13), .int (sx_i m 14), .int (sx_i m 15), .int (sx_i m 16), .int (sx_i m 17), .ref 70, .ref 71, .ref 72, .ref 73, .ref 74, .ref 75, .ref 76, .ref 77, .ref 78, .int (sx_i m 27), .int (sx_i m 28), .long (sx_l m 29), .int (sx_i m 30), .int (sx_i m 31), .int (sx_i m 32), .ref 79, .ref 80, .ref 81, .ref 82, .ref 83, .ref 84, .ref 85, .ref 86, .ref 87, .ref 88, .ref 89, .ref 90, .double (sx_d m 45), .ref 91, .ref 92, .ref 93, .ref 94, .ref 95, .ref 96]) ::
  .inl (0, (8, .inl (sx_I m 1))) ::
  .inl (0, (8, .inl (sx_I m 2))) ::
  .inl (0, (12, .inl (sx_I m 4))) ::
  .inl (0, (4, .inl (sx_I m 5))) ::
  .inl (0, (32, .inl (sx_I m 6))) ::
  .inl (0, (4, .inl (sx_I m 8))) ::
  .inl (0, (80, .inl (sx_I m 9))) ::
  .inl (0, (80, .inl (sx_I m 10))) ::
  .inl (0, (80, .inl (sx_I m 11))) ::
  .inl (0, (80, .inl (sx_I m 12))) ::
  .inl (0, (12, .inl (sx_I m 18))) ::
  .inl (1, (16, .inr (.inl (sx_L m 19)))) ::
  .inl (1, (16, .inr (.inl (sx_L m 20)))) ::
  .inl (1, (16, .inr (.inl (sx_L m 21)))) ::
  .inl (1, (24, .inr (.inl (sx_L m 22)))) ::
  .inl (1, (16, .inr (.inl (sx_L m 23)))) ::
  .inl (1, (8, .inr (.inl (sx_L m 24)))) ::
  .inl (1, (8, .inr (.inl (sx_L m 25)))) ::
  .inl (2, (16, .inl (sx_I m 26))) ::
  .inl (0, (6, .inl (sx_I m 33))) ::
  .inl (0, (6, .inl (sx_I m 34))) ::
  .inl (1, (384, .inr (.inl (sx_L m 35)))) ::
  .inl (0, (6, .inl (sx_I m 36))) ::
  .inl (0, (6, .inl (sx_I m 37))) ::
  .inl (1, (48, .inr (.inl (sx_L m 38)))) ::
  .inl (1, (24, .inr (.inl (sx_L m 39)))) ::
  .inl (1, (24, .inr (.inl (sx_L m 40)))) ::
  .inl (1, (8, .inr (.inl (sx_L m 41)))) ::
  .inl (1, (8, .inr (.inl (sx_L m 42)))) ::
  .inl (3, (8, .inr (.inr (.inr (.inl (sx_D m 43)))))) ::
  .inl (3, (8, .inr (.inr (.inr (.inl (sx_D m 44)))))) ::
  .inl (0, (6, .inl (sx_I m 46))) ::
  .inl (1, (12, .inr (.inl (sx_L m 47)))) ::
  .inl (1, (200, .inr (.inl (sx_L m 48)))) ::
  .inl (1, (200, .inr (.inl (sx_L m 49)))) ::
  .inl (2, (200, .inl (sx_I m 50))) ::
  .inl (1, (64, .inr (.inl (sx_L m 51)))) :: []
theorem c_X4_clears' {G : pj_G} {d : Nat} {c : sx_C} {m : sx_M} (hb : sx_i m 16 = 0 ∨ sx_i m 16 = 1) : pj_Rt G mX4_clears (d) [.ref 59] (sx_mk0 c m) 0 0 none (sx_mk0 c (fm_clears m)) := by
  refine pj_Cn.start ?_
  refine pj_J.go (oX4_clears G) 2 rfl trivial ?_
  refine pj_for (fun k s => pj_J G mX4_clears (d) 2 [some (.ref 59), some (.int (nI k))] [] (sx_mk0 c s) 0 0 _) fm_clrB (fun _ s => sx_i s 16 = 0 ∨ sx_i s 16 = 1) 8 (fun k s hk hi => ⟨hi, fun kk => ?_⟩) 8 0 m (by simp) hb (fun hi => ?_)
  · rw [← nI_add1] at kk
    refine pj_J.go (oX4_clears G) 3 rfl trivial ?_
    refine pj_J.neg (nI_lt_lit hk (by decide)) ?_
    refine pj_J.go (oX4_clears G) 42 rfl ⟨by exact vp_in_b8 hi (vp_in_lit hk), by exact vp_in_b8 hi (vp_in_lit hk), by exact vp_in_b8 hi (vp_in_lit hk), by exact vp_in_b8 hi (vp_in_lit hk), trivial⟩ ?_
    exact kk
  · skip
    refine pj_J.go (oX4_clears G) 3 rfl trivial ?_
    refine pj_J.pos (nI_ge_lit (Nat.le_refl 8) (by decide)) ?_
    refine pj_J.go (oX4_clears G) 6 rfl ⟨by exact Or.inl rfl, by exact Or.inl rfl, trivial⟩ ?_
    exact pj_vret dX4_clears_84 rfl ⟨rfl, rfl⟩
theorem c_X4_resets' {G : pj_G} {d : Nat} {c : sx_C} {m : sx_M}  : pj_Rt G mX4_resets (d + 1) [.ref 59] (sx_mk0 c m) 0 0 none (sx_mk0 c (fm_resets m)) := by
  refine pj_Cn.start ?_
  refine pj_J.go (oX4_resets G) 2 rfl trivial ?_
  refine pj_for (fun k s => pj_J G mX4_resets (d + 1) 2 [some (.ref 59), some (.int (nI k))] [] (sx_mk0 c s) 0 0 _) fm_rsA (fun _ _ => True) 8 (fun k s hk hi => ⟨trivial, fun kk => ?_⟩) 8 0 _ (by simp) trivial (fun hi => ?_)
  · rw [← nI_add1] at kk
    refine pj_J.go (oX4_resets G) 3 rfl trivial ?_
    refine pj_J.neg (nI_lt_lit hk (by decide)) ?_
    refine pj_J.go (oX4_resets G) 12 rfl ⟨by exact vp_mono (vp_in_lit hk) (by decide), by exact vp_mono (vp_in_lit hk) (by decide), trivial⟩ ?_
    exact kk
  · skip
    refine pj_J.go (oX4_resets G) 3 rfl trivial ?_
    refine pj_J.pos (nI_ge_lit (Nat.le_refl 8) (by decide)) ?_
    refine pj_J.go (oX4_resets G) 2 rfl trivial ?_
    refine pj_for (fun k s => pj_J G mX4_resets (d + 1) 30 [some (.ref 59), some (.int (nI k))] [] (sx_mk0 c s) 0 0 _) fm_rsB (fun _ _ => True) 4 (fun k s hk hi => ⟨trivial, fun kk => ?_⟩) 4 0 _ (by simp) trivial (fun hi => ?_)
    · rw [← nI_add1] at kk
      refine pj_J.go (oX4_resets G) 3 rfl trivial ?_
      refine pj_J.neg (nI_lt_lit hk (by decide)) ?_
      refine pj_J.go (oX4_resets G) 23 rfl ⟨by exact vp_mono (vp_in_lit hk) (by decide), by exact vp_8k hk, by exact vp_8k1 hk, trivial⟩ ?_
      exact kk
    · skip
      refine pj_J.go (oX4_resets G) 3 rfl trivial ?_
      refine pj_J.pos (nI_ge_lit (Nat.le_refl 4) (by decide)) ?_
      refine pj_J.go (oX4_resets G) 2 rfl trivial ?_
      refine pj_for (fun k s => pj_J G mX4_resets (d + 1) 72 [some (.ref 59), some (.int (nI k))] [] (sx_mk0 c s) 0 0 _) fm_rsC (fun _ _ => True) 8 (fun k s hk hi => ⟨trivial, fun kk => ?_⟩) 8 0 _ (by simp) trivial (fun hi => ?_)
      · rw [← nI_add1] at kk
        refine pj_J.go (oX4_resets G) 3 rfl trivial ?_
        refine pj_J.neg (nI_lt_lit hk (by decide)) ?_
        refine pj_J.go (oX4_resets G) 7 rfl ⟨by exact vp_mono (vp_in_lit hk) (by decide), trivial⟩ ?_
        exact kk
      · skip
        refine pj_J.go (oX4_resets G) 3 rfl trivial ?_
        refine pj_J.pos (nI_ge_lit (Nat.le_refl 8) (by decide)) ?_
        refine pj_J.go (oX4_resets G) 19 rfl trivial ?_
        refine pj_J.cal0 kX4_resets_123 (c_X4_clears' (c := c) (m := fm_rsS (it_up fm_rsC 8 0 (it_up fm_rsB 4 0 (it_up fm_rsA 8 0 m)))) (Or.inl rfl)) ⟨_, _, _, rfl, rfl⟩ pj_le0 pj_le0 pj_le0 ?_
        refine pj_J.go (oX4_resets G) 2 rfl trivial ?_
        refine pj_for (fun k s => pj_J G mX4_resets (d + 1) 128 [some (.ref 59), some (.int (nI k))] [] (sx_mk0 c s) 0 0 _) fm_rsD (fun _ _ => True) 12 (fun k s hk hi => ⟨trivial, fun kk => ?_⟩) 12 0 _ (by simp) trivial (fun hi => ?_)
        · rw [← nI_add1] at kk
          refine pj_J.go (oX4_resets G) 3 rfl trivial ?_
          refine pj_J.neg (nI_lt_lit hk (by decide)) ?_
          refine pj_J.go (oX4_resets G) 7 rfl ⟨by exact vp_mono (vp_in_lit hk) (by decide), trivial⟩ ?_
          exact kk
        · skip
          refine pj_J.go (oX4_resets G) 3 rfl trivial ?_
          refine pj_J.pos (nI_ge_lit (Nat.le_refl 12) (by decide)) ?_
          exact pj_vret dX4_resets_147 rfl ⟨rfl, rfl⟩
theorem ly_fr_bgA_0' {G : pj_G} {d : Nat} {c : sx_C} {Q : pj_O → pj_H → Prop} (k : Nat) (hk : k < 8) (kk : pj_J G mX2_begin (d) 2 [some (.ref 10), some (.int (nI k + 1))] [] (sx_mkC (sx_sR c 0 (fr_bgA k (sx_R c 0)))) 0 0 Q) : pj_J G mX2_begin (d) 2 [some (.ref 10), some (.int (nI k))] [] (sx_mkC c) 0 0 Q := by
  unfold fr_bgA at kk
  refine pj_J.go (oX2_begin G) 3 rfl trivial ?_
  refine pj_J.neg (nI_lt_lit hk (by decide)) ?_
  refine pj_J.go (oX2_begin G) 32 rfl ⟨by exact vp_in_lit hk, by exact vp_in_lit hk, by exact vp_in_lit hk, by exact vp_in_lit hk, by exact vp_in_lit hk, by exact vp_in_lit hk, trivial⟩ ?_
  exact pj_J.drp kk ⟨rfl, rfl, trivial⟩
theorem ly_fr_bgB_0' {G : pj_G} {d : Nat} {c : sx_C} {Q : pj_O → pj_H → Prop} (k : Nat) (hk : k < 12) (kk : pj_J G mX2_begin (d) 58 [some (.ref 10), some (.int (nI k + 1))] [] (sx_mkC (sx_sR c 0 (fr_bgB k (sx_R c 0)))) 0 0 Q) : pj_J G mX2_begin (d) 58 [some (.ref 10), some (.int (nI k))] [] (sx_mkC c) 0 0 Q := by
  unfold fr_bgB at kk
  refine pj_J.go (oX2_begin G) 3 rfl trivial ?_
  refine pj_J.neg (nI_lt_lit hk (by decide)) ?_
  refine pj_J.go (oX2_begin G) 12 rfl ⟨by exact vp_in_lit hk, by exact vp_in_lit hk, trivial⟩ ?_
  exact pj_J.drp kk ⟨rfl, rfl, trivial⟩
theorem ly_fr_brA_0' {G : pj_G} {d : Nat} {c : sx_C} {Q : pj_O → pj_H → Prop} (k : Nat) (hk : k < 8) (kk : pj_J G mX2_bare (d) 2 [some (.ref 10), some (.int (nI k + 1))] [] (sx_mkC (sx_sR c 0 (fr_brA k (sx_R c 0)))) 0 0 Q) : pj_J G mX2_bare (d) 2 [some (.ref 10), some (.int (nI k))] [] (sx_mkC c) 0 0 Q := by
  unfold fr_brA at kk
  refine pj_J.go (oX2_bare G) 3 rfl trivial ?_
  refine pj_J.neg (nI_lt_lit hk (by decide)) ?_
  refine pj_J.go (oX2_bare G) 7 rfl ⟨by exact vp_in_lit hk, trivial⟩ ?_
  exact pj_J.drp kk ⟨rfl, rfl, trivial⟩
theorem lz_fr_bgA_0' {G : pj_G} {d : Nat} {c : sx_C} {Q : pj_O → pj_H → Prop}  (kk : pj_J G mX2_begin (d) 58 [some (.ref 10), some (.int (nI 0))] [] (sx_mkC c) 0 0 Q) : pj_J G mX2_begin (d) 2 [some (.ref 10), some (.int (nI 8))] [] (sx_mkC c) 0 0 Q := by
  refine pj_J.go (oX2_begin G) 3 rfl trivial ?_
  refine pj_J.pos (nI_ge_lit (Nat.le_refl _) (by decide)) ?_
  refine pj_J.go (oX2_begin G) 2 rfl trivial ?_
  exact pj_J.drp kk ⟨rfl, rfl, trivial⟩
theorem lz_fr_bgB_0' {G : pj_G} {d : Nat} {c : sx_C} {Q : pj_O → pj_H → Prop} (q : Q (.inl none) (sx_mkC (sx_sR c 0 (sx_si (sx_si (sx_R c 0) 4 0) 5 (-1))))) : pj_J G mX2_begin (d) 58 [some (.ref 10), some (.int (nI 12))] [] (sx_mkC c) 0 0 Q := by
  refine pj_J.go (oX2_begin G) 3 rfl trivial ?_
  refine pj_J.pos (nI_ge_lit (Nat.le_refl _) (by decide)) ?_
  refine pj_J.go (oX2_begin G) 6 rfl ⟨by first | exact Or.inl rfl | exact Or.inr rfl, trivial⟩ ?_
  exact pj_vret dX2_begin_94 rfl q
theorem lz_fr_brA_0' {G : pj_G} {d : Nat} {c : sx_C} {Q : pj_O → pj_H → Prop} (q : Q (.inl none) (sx_mkC (sx_sR c 0 (fr_bareS (sx_R c 0))))) : pj_J G mX2_bare (d) 2 [some (.ref 10), some (.int (nI 8))] [] (sx_mkC c) 0 0 Q := by
  refine pj_J.go (oX2_bare G) 3 rfl trivial ?_
  refine pj_J.pos (nI_ge_lit (Nat.le_refl _) (by decide)) ?_
  refine pj_J.go (oX2_bare G) 12 rfl trivial ?_
  exact pj_vret dX2_bare_41 rfl q
theorem c_X2_begin_0' {G : pj_G} {d : Nat} {c : sx_C} : pj_Rt G mX2_begin d [.ref 10] (sx_mkC c) 0 0 none (sx_mkC (sx_sR c 0 (fr_begin (sx_R c 0)))) := by
  refine pj_Cn.start ?_
  refine pj_J.go (oX2_begin G) 2 rfl trivial ?_
  refine pj_for (fun k s => pj_J G mX2_begin d 2 [some (.ref 10), some (.int (nI k))] [] (sx_mkC (sx_sR c 0 s)) 0 0 _) fr_bgA (fun _ _ => True) 8 (fun k s hk hi => ⟨hi, fun kk => ly_fr_bgA_0' (c := (sx_sR c 0 s)) k hk (by rw [nI_add1]; exact kk)⟩) 8 0 (sx_R c 0) (by simp) trivial (fun hi => lz_fr_bgA_0' (c := (sx_sR c 0 (it_up fr_bgA 8 0 (sx_R c 0)))) ?_)
  exact pj_for (fun k s => pj_J G mX2_begin d 58 [some (.ref 10), some (.int (nI k))] [] (sx_mkC (sx_sR c 0 s)) 0 0 _) fr_bgB (fun _ _ => True) 12 (fun k s hk hi => ⟨hi, fun kk => ly_fr_bgB_0' (c := (sx_sR c 0 s)) k hk (by rw [nI_add1]; exact kk)⟩) 12 0 (it_up fr_bgA 8 0 (sx_R c 0)) (by simp) trivial (fun hi => lz_fr_bgB_0' (c := (sx_sR c 0 (it_up fr_bgB 12 0 (it_up fr_bgA 8 0 (sx_R c 0))))) ⟨rfl, rfl⟩)
theorem c_X2_bare_0' {G : pj_G} {d : Nat} {c : sx_C} : pj_Rt G mX2_bare d [.ref 10] (sx_mkC c) 0 0 none (sx_mkC (sx_sR c 0 (fr_bare (sx_R c 0)))) := by
  refine pj_Cn.start ?_
  refine pj_J.go (oX2_bare G) 2 rfl trivial ?_
  exact pj_for (fun k s => pj_J G mX2_bare d 2 [some (.ref 10), some (.int (nI k))] [] (sx_mkC (sx_sR c 0 s)) 0 0 _) fr_brA (fun _ _ => True) 8 (fun k s hk hi => ⟨hi, fun kk => ly_fr_brA_0' (c := (sx_sR c 0 s)) k hk (by rw [nI_add1]; exact kk)⟩) 8 0 (sx_R c 0) (by simp) trivial (fun hi => lz_fr_brA_0' (c := (sx_sR c 0 (it_up fr_brA 8 0 (sx_R c 0)))) ⟨rfl, rfl⟩)
theorem ly_fc_bgA' {G : pj_G} {d : Nat} {c : sx_C} {Q : pj_O → pj_H → Prop} (k : Nat) (hk : k < 8) (kk : pj_J G mX1_begin (d) 2 [some (.ref 2), some (.int (nI k + 1))] [] (sx_mkC (sx_sM c (fc_bgA k c.1))) 0 0 Q) : pj_J G mX1_begin (d) 2 [some (.ref 2), some (.int (nI k))] [] (sx_mkC c) 0 0 Q := by
  unfold fc_bgA at kk
  refine pj_J.go (oX1_begin G) 3 rfl trivial ?_
  refine pj_J.neg (nI_lt_lit hk (by decide)) ?_
  refine pj_J.go (oX1_begin G) 17 rfl ⟨by exact vp_in_lit (by omega), by exact vp_in_lit (by omega), by exact vp_in_lit (by omega), trivial⟩ ?_
  exact pj_J.drp kk ⟨rfl, rfl, trivial⟩
theorem ly_fc_bgB' {G : pj_G} {d : Nat} {c : sx_C} {Q : pj_O → pj_H → Prop} (k : Nat) (hk : k < 4) (kk : pj_J G mX1_begin (d) 37 [some (.ref 2), some (.int (nI k + 1))] [] (sx_mkC (sx_sM c (fc_bgB k c.1))) 0 0 Q) : pj_J G mX1_begin (d) 37 [some (.ref 2), some (.int (nI k))] [] (sx_mkC c) 0 0 Q := by
  unfold fc_bgB at kk
  refine pj_J.go (oX1_begin G) 3 rfl trivial ?_
  refine pj_J.neg (nI_lt_lit hk (by decide)) ?_
  refine pj_J.go (oX1_begin G) 23 rfl ⟨by exact (by rw [show (8 : Int32) = nI 8 from rfl, pk_mul]; exact vp_in_nI (by omega) (by decide)), by exact (by rw [show (8 : Int32) = nI 8 from rfl, pk_mul, nI_add1]; exact vp_in_nI (by omega) (by decide)), by exact vp_in_lit (by omega), trivial⟩ ?_
  exact pj_J.drp kk ⟨rfl, rfl, trivial⟩
theorem lz_fc_bgA' {G : pj_G} {d : Nat} {c : sx_C} {Q : pj_O → pj_H → Prop}  (kk : pj_J G mX1_begin (d) 37 [some (.ref 2), some (.int (nI 0))] [] (sx_mkC c) 0 0 Q) : pj_J G mX1_begin (d) 2 [some (.ref 2), some (.int (nI 8))] [] (sx_mkC c) 0 0 Q := by
  refine pj_J.go (oX1_begin G) 3 rfl trivial ?_
  refine pj_J.pos (nI_ge_lit (Nat.le_refl _) (by decide)) ?_
  refine pj_J.go (oX1_begin G) 2 rfl trivial ?_
  exact pj_J.drp kk ⟨rfl, rfl, trivial⟩
theorem lz_fc_bgB' {G : pj_G} {d : Nat} {c : sx_C} {Q : pj_O → pj_H → Prop} (q : Q (.inl (some (.int 0))) (sx_mkC (sx_sR (sx_sM c (sx_si (fc_bgS c.1) 24 0)) 0 (fr_bare (fr_begin (sx_R c 0)))))) : pj_J G mX1_begin (d + 1) 37 [some (.ref 2), some (.int (nI 4))] [] (sx_mkC c) 0 0 Q := by
  refine pj_J.go (oX1_begin G) 3 rfl trivial ?_
  refine pj_J.pos (nI_ge_lit (Nat.le_refl _) (by decide)) ?_
  refine pj_J.go (oX1_begin G) 14 rfl trivial ?_
  refine pj_J.cal0 kX1_begin_102 (c_X2_begin_0' (c := (sx_sM c (sx_si (sx_si (sx_si (sx_si c.1 3 (0 : Int32)) 7 (0 : Int32)) 9 (0 : Int32)) 15 (-2 : Int32))))) ⟨_, _, _, rfl, rfl⟩ pj_le0 pj_le0 pj_le0 ?_
  refine pj_J.go (oX1_begin G) 2 rfl trivial ?_
  refine pj_J.cal0 kX1_begin_109 (c_X2_bare_0' (c := (sx_sM (sx_sR c 0 (fr_begin (sx_R c 0))) (sx_si (sx_si (sx_si (sx_si c.1 3 (0 : Int32)) 7 (0 : Int32)) 9 (0 : Int32)) 15 (-2 : Int32))))) ⟨_, _, _, rfl, rfl⟩ pj_le0 pj_le0 pj_le0 ?_
  refine pj_J.go (oX1_begin G) 4 rfl trivial ?_
  exact pj_iret dX1_begin_118 rfl q
theorem fc_bgX' {c : sx_C} (X : sx_M) : sx_mkC (sx_sR (sx_sM (sx_sM c X) (sx_si (fc_bgS (sx_sM c X).1) 24 0)) 0 (fr_bare (fr_begin (sx_R (sx_sM c X) 0)))) = sx_mkC (sx_sR (sx_sM c (sx_si (fc_bgS X) 24 0)) 0 (fr_bare (fr_begin (sx_R c 0)))) := rfl
theorem c_X1_begin' {G : pj_G} {d : Nat} {c : sx_C} : pj_Rt G mX1_begin (d + 1) [.ref 2] (sx_mkC c) 0 0 (some (.int 0)) (sx_mkC (fc_begin c)) := by
  refine pj_Cn.start ?_
  refine pj_J.go (oX1_begin G) 2 rfl trivial ?_
  refine pj_for (fun k s => pj_J G mX1_begin (d + 1) 2 [some (.ref 2), some (.int (nI k))] [] (sx_mkC (sx_sM c s)) 0 0 _) fc_bgA (fun _ _ => True) 8 (fun k s hk hi => ⟨hi, fun kk => ly_fc_bgA' (c := sx_sM c s) k hk (by rw [nI_add1]; exact kk)⟩) 8 0 c.1 (by simp) trivial (fun hi => lz_fc_bgA' (c := sx_sM c (it_up fc_bgA 8 0 c.1)) ?_)
  exact pj_for (fun k s => pj_J G mX1_begin (d + 1) 37 [some (.ref 2), some (.int (nI k))] [] (sx_mkC (sx_sM c s)) 0 0 _) fc_bgB (fun _ _ => True) 4 (fun k s hk hi => ⟨hi, fun kk => ly_fc_bgB' (c := sx_sM c s) k hk (by rw [nI_add1]; exact kk)⟩) 4 0 (it_up fc_bgA 8 0 c.1) (by simp) trivial (fun hi => lz_fc_bgB' (c := sx_sM c (it_up fc_bgB 4 0 (it_up fc_bgA 8 0 c.1))) ⟨rfl, by unfold fc_begin fc_bgU; exact fc_bgX' _⟩)
