/-! PennyJudge: what acts do: Sum, Tax, Flow, Days (by tools/gen_q2.py) -/
set_option maxRecDepth 100000
def fa_sumB (w : sx_M) (t v : Int32) (k : Nat) (a : Int64) (u : sx_M) : Int64 := (a + (sx_I u 8 (nI k).toNatClampNeg).toInt64)
theorem ly_fa_sum_0 {G : pj_G} {d : Nat} {c : sx_C} {m : sx_M} {o : Nat → Int64} {D : pj_H} {Q : pj_O → pj_H → Prop} {i : Nat} {kd s t v : Int32} (ha : D[i]? = some (.inr (5, [.int kd, .int s, .int t, .int v]))) (n : Nat) (hn : n ≤ 12) (en : sx_i (sx_R c 0) 9 = nI n) (k : Nat) (hk : k < n) (a : Int64) (kk : pj_J G mX7_does (d + 3) 5 [some (.ref (i + 98)), some (.ref 10), some (.long (fa_sumB c.1 t v k a (sx_R c 0))), none, some (.int (nI k + 1))] [] (sx_mk c m o D) 0 0 Q) : pj_J G mX7_does (d + 3) 5 [some (.ref (i + 98)), some (.ref 10), some (.long a), none, some (.int (nI k))] [] (sx_mk c m o D) 0 0 Q := by
  refine pj_J.go (oX7_does G) 4 rfl trivial ?_
  refine pj_J.neg (by rw [en]; exact nI_lt_lit hk (by omega)) ?_
  refine pj_J.go (oX7_does G) 10 rfl ⟨by exact vp_in_lit (by omega) (by decide), trivial⟩ ?_
  unfold fa_sumB at kk
  exact pj_J.drp kk ⟨rfl, rfl, rfl, rfl, trivial⟩
theorem lz_fa_sum_0 {G : pj_G} {d : Nat} {c : sx_C} {m : sx_M} {o : Nat → Int64} {D : pj_H} {Q : pj_O → pj_H → Prop} {i : Nat} {kd s t v : Int32} (ha : D[i]? = some (.inr (5, [.int kd, .int s, .int t, .int v]))) (hs : vp_in s 8) (n : Nat) (hn : n ≤ 12) (en : sx_i (sx_R c 0) 9 = nI n) (a : Int64) (hO : -9223372036854775807 ≤ a) (q : Q (.inl (some (.int (fr_put (fr_show (sx_R c 0) s 0) s a 1).1))) (sx_mk (sx_sR c 0 ((fr_put (fr_show (sx_R c 0) s 0) s a 1).2)) m o D)) : pj_J G mX7_does (d + 3) 5 [some (.ref (i + 98)), some (.ref 10), some (.long a), none, some (.int (nI n))] [] (sx_mk c m o D) 0 0 Q := by
  refine pj_J.go (oX7_does G) 4 rfl trivial ?_
  refine pj_J.pos (by rw [en]; exact nI_ge_lit (Nat.le_refl _) (by omega)) ?_
  refine pj_J.go (oX7_does G) 3 rfl trivial ?_
  refine pj_J.cal0 kX7_does_34 (c_X6_show_0 (c := c) ha (by decide) hs (0 : Int32)) ⟨_, _, _, rfl, ha⟩ pj_le0 pj_le0 pj_le0 ?_
  refine pj_J.go (oX7_does G) 2 rfl trivial ?_
  refine pj_J.go1 (pc := 39) (oX7_does G) rfl (po_getD (lo := 5) (hi := 17) (k := 1) (n := 42) (by exact ha) (by decide) (by rfl)) trivial ?_
  refine pj_J.go (oX7_does G) 2 rfl trivial ?_
  refine pj_J.cal0 kX7_does_44 (c_X2_put_0 (c := (sx_sR c 0 (fr_show (sx_R c 0) s (0 : Int32)))) s a (1 : Int64) hs hO (by decide)) ⟨_, _, _, rfl, rfl⟩ pj_le0 pj_le0 pj_le0 ?_
  exact pj_iret dX7_does_47 rfl q
theorem ly_fa_sum_1 {G : pj_G} {d : Nat} {c : sx_C} {m : sx_M} {o : Nat → Int64} {D : pj_H} {Q : pj_O → pj_H → Prop} {i : Nat} {kd s t v : Int32} (ha : D[i]? = some (.inr (5, [.int kd, .int s, .int t, .int v]))) (n : Nat) (hn : n ≤ 12) (en : sx_i (sx_R c 1) 9 = nI n) (k : Nat) (hk : k < n) (a : Int64) (kk : pj_J G mX7_does (d + 3) 5 [some (.ref (i + 98)), some (.ref 21), some (.long (fa_sumB c.1 t v k a (sx_R c 1))), none, some (.int (nI k + 1))] [] (sx_mk c m o D) 0 0 Q) : pj_J G mX7_does (d + 3) 5 [some (.ref (i + 98)), some (.ref 21), some (.long a), none, some (.int (nI k))] [] (sx_mk c m o D) 0 0 Q := by
  refine pj_J.go (oX7_does G) 4 rfl trivial ?_
  refine pj_J.neg (by rw [en]; exact nI_lt_lit hk (by omega)) ?_
  refine pj_J.go (oX7_does G) 10 rfl ⟨by exact vp_in_lit (by omega) (by decide), trivial⟩ ?_
  unfold fa_sumB at kk
  exact pj_J.drp kk ⟨rfl, rfl, rfl, rfl, trivial⟩
theorem lz_fa_sum_1 {G : pj_G} {d : Nat} {c : sx_C} {m : sx_M} {o : Nat → Int64} {D : pj_H} {Q : pj_O → pj_H → Prop} {i : Nat} {kd s t v : Int32} (ha : D[i]? = some (.inr (5, [.int kd, .int s, .int t, .int v]))) (hs : vp_in s 8) (n : Nat) (hn : n ≤ 12) (en : sx_i (sx_R c 1) 9 = nI n) (a : Int64) (hO : -9223372036854775807 ≤ a) (q : Q (.inl (some (.int (fr_put (fr_show (sx_R c 1) s 0) s a 1).1))) (sx_mk (sx_sR c 1 ((fr_put (fr_show (sx_R c 1) s 0) s a 1).2)) m o D)) : pj_J G mX7_does (d + 3) 5 [some (.ref (i + 98)), some (.ref 21), some (.long a), none, some (.int (nI n))] [] (sx_mk c m o D) 0 0 Q := by
  refine pj_J.go (oX7_does G) 4 rfl trivial ?_
  refine pj_J.pos (by rw [en]; exact nI_ge_lit (Nat.le_refl _) (by omega)) ?_
  refine pj_J.go (oX7_does G) 3 rfl trivial ?_
  refine pj_J.cal0 kX7_does_34 (c_X6_show_1 (c := c) ha (by decide) hs (0 : Int32)) ⟨_, _, _, rfl, ha⟩ pj_le0 pj_le0 pj_le0 ?_
  refine pj_J.go (oX7_does G) 2 rfl trivial ?_
  refine pj_J.go1 (pc := 39) (oX7_does G) rfl (po_getD (lo := 5) (hi := 17) (k := 1) (n := 42) (by exact ha) (by decide) (by rfl)) trivial ?_
  refine pj_J.go (oX7_does G) 2 rfl trivial ?_
  refine pj_J.cal0 kX7_does_44 (c_X2_put_1 (c := (sx_sR c 1 (fr_show (sx_R c 1) s (0 : Int32)))) s a (1 : Int64) hs hO (by decide)) ⟨_, _, _, rfl, rfl⟩ pj_le0 pj_le0 pj_le0 ?_
  exact pj_iret dX7_does_47 rfl q
theorem ly_fa_sum_2 {G : pj_G} {d : Nat} {c : sx_C} {m : sx_M} {o : Nat → Int64} {D : pj_H} {Q : pj_O → pj_H → Prop} {i : Nat} {kd s t v : Int32} (ha : D[i]? = some (.inr (5, [.int kd, .int s, .int t, .int v]))) (n : Nat) (hn : n ≤ 12) (en : sx_i (sx_R c 2) 9 = nI n) (k : Nat) (hk : k < n) (a : Int64) (kk : pj_J G mX7_does (d + 3) 5 [some (.ref (i + 98)), some (.ref 32), some (.long (fa_sumB c.1 t v k a (sx_R c 2))), none, some (.int (nI k + 1))] [] (sx_mk c m o D) 0 0 Q) : pj_J G mX7_does (d + 3) 5 [some (.ref (i + 98)), some (.ref 32), some (.long a), none, some (.int (nI k))] [] (sx_mk c m o D) 0 0 Q := by
  refine pj_J.go (oX7_does G) 4 rfl trivial ?_
  refine pj_J.neg (by rw [en]; exact nI_lt_lit hk (by omega)) ?_
  refine pj_J.go (oX7_does G) 10 rfl ⟨by exact vp_in_lit (by omega) (by decide), trivial⟩ ?_
  unfold fa_sumB at kk
  exact pj_J.drp kk ⟨rfl, rfl, rfl, rfl, trivial⟩
theorem lz_fa_sum_2 {G : pj_G} {d : Nat} {c : sx_C} {m : sx_M} {o : Nat → Int64} {D : pj_H} {Q : pj_O → pj_H → Prop} {i : Nat} {kd s t v : Int32} (ha : D[i]? = some (.inr (5, [.int kd, .int s, .int t, .int v]))) (hs : vp_in s 8) (n : Nat) (hn : n ≤ 12) (en : sx_i (sx_R c 2) 9 = nI n) (a : Int64) (hO : -9223372036854775807 ≤ a) (q : Q (.inl (some (.int (fr_put (fr_show (sx_R c 2) s 0) s a 1).1))) (sx_mk (sx_sR c 2 ((fr_put (fr_show (sx_R c 2) s 0) s a 1).2)) m o D)) : pj_J G mX7_does (d + 3) 5 [some (.ref (i + 98)), some (.ref 32), some (.long a), none, some (.int (nI n))] [] (sx_mk c m o D) 0 0 Q := by
  refine pj_J.go (oX7_does G) 4 rfl trivial ?_
  refine pj_J.pos (by rw [en]; exact nI_ge_lit (Nat.le_refl _) (by omega)) ?_
  refine pj_J.go (oX7_does G) 3 rfl trivial ?_
  refine pj_J.cal0 kX7_does_34 (c_X6_show_2 (c := c) ha (by decide) hs (0 : Int32)) ⟨_, _, _, rfl, ha⟩ pj_le0 pj_le0 pj_le0 ?_
  refine pj_J.go (oX7_does G) 2 rfl trivial ?_
  refine pj_J.go1 (pc := 39) (oX7_does G) rfl (po_getD (lo := 5) (hi := 17) (k := 1) (n := 42) (by exact ha) (by decide) (by rfl)) trivial ?_
  refine pj_J.go (oX7_does G) 2 rfl trivial ?_
  refine pj_J.cal0 kX7_does_44 (c_X2_put_2 (c := (sx_sR c 2 (fr_show (sx_R c 2) s (0 : Int32)))) s a (1 : Int64) hs hO (by decide)) ⟨_, _, _, rfl, rfl⟩ pj_le0 pj_le0 pj_le0 ?_
  exact pj_iret dX7_does_47 rfl q
def fa_sumT (u : sx_M) : Int64 := it_up (fun k a => fa_sumB u 0 0 k a u) (sx_i u 9).toNatClampNeg 0 0
def fa_sum (w u : sx_M) (s t v : Int32) : Int32 × sx_M := fr_put (fr_show u s 0) s (fa_sumT u) 1
def fa_sum_ok (w u : sx_M) (s t v : Int32) : Prop := -9223372036854775807 ≤ fa_sumT u
theorem c_X7_does_0 {G : pj_G} {d : Nat} {c : sx_C} {m : sx_M} {o : Nat → Int64} {D : pj_H} {i : Nat} {kd s t v : Int32} (ha : D[i]? = some (.inr (5, [.int kd, .int s, .int t, .int v]))) (hs : vp_in s 8) (ht : vp_in t 8) (hN : vp_in (sx_i (sx_R c 0) 9) 13) (hO : fa_sum_ok c.1 (sx_R c 0) s t v) : pj_Rt G mX7_does (d + 3) [.ref (i + 98), .ref 10] (sx_mk c m o D) 0 0 (some (.int (fa_sum c.1 (sx_R c 0) s t v).1)) (sx_mk (sx_sR c 0 ((fa_sum c.1 (sx_R c 0) s t v).2)) m o D) := by
  obtain ⟨n, hn, en⟩ := vp_in_of hN (by decide)
  unfold fa_sum_ok fa_sumT at hO
  unfold fa_sum fa_sumT
  rw [en, nI_clamp (by omega)] at hO ⊢
  refine pj_Cn.start ?_
  refine pj_J.go (oX7_does G) 4 rfl trivial ?_
  exact pj_for (σ := Int64) (fun (k : Nat) (a : Int64) => pj_J G mX7_does (d + 3) 5 [some (.ref (i + 98)), some (.ref 10), some (.long a), none, some (.int (nI k))] [] (sx_mk c m o D) 0 0 _) (fun k a => fa_sumB (sx_R c 0) 0 0 k a (sx_R c 0)) (fun _ _ => True) n (fun k a hk hi => ⟨hi, fun kk => ly_fa_sum_0 ha n (by omega) en k hk a (by rw [nI_add1]; exact kk)⟩) n 0 0 (by simp) trivial (fun _ => lz_fa_sum_0 ha hs n (by omega) en _ hO ⟨rfl, rfl⟩)
theorem c_X7_does_1 {G : pj_G} {d : Nat} {c : sx_C} {m : sx_M} {o : Nat → Int64} {D : pj_H} {i : Nat} {kd s t v : Int32} (ha : D[i]? = some (.inr (5, [.int kd, .int s, .int t, .int v]))) (hs : vp_in s 8) (ht : vp_in t 8) (hN : vp_in (sx_i (sx_R c 1) 9) 13) (hO : fa_sum_ok c.1 (sx_R c 1) s t v) : pj_Rt G mX7_does (d + 3) [.ref (i + 98), .ref 21] (sx_mk c m o D) 0 0 (some (.int (fa_sum c.1 (sx_R c 1) s t v).1)) (sx_mk (sx_sR c 1 ((fa_sum c.1 (sx_R c 1) s t v).2)) m o D) := by
  obtain ⟨n, hn, en⟩ := vp_in_of hN (by decide)
  unfold fa_sum_ok fa_sumT at hO
  unfold fa_sum fa_sumT
  rw [en, nI_clamp (by omega)] at hO ⊢
  refine pj_Cn.start ?_
  refine pj_J.go (oX7_does G) 4 rfl trivial ?_
  exact pj_for (σ := Int64) (fun (k : Nat) (a : Int64) => pj_J G mX7_does (d + 3) 5 [some (.ref (i + 98)), some (.ref 21), some (.long a), none, some (.int (nI k))] [] (sx_mk c m o D) 0 0 _) (fun k a => fa_sumB (sx_R c 1) 0 0 k a (sx_R c 1)) (fun _ _ => True) n (fun k a hk hi => ⟨hi, fun kk => ly_fa_sum_1 ha n (by omega) en k hk a (by rw [nI_add1]; exact kk)⟩) n 0 0 (by simp) trivial (fun _ => lz_fa_sum_1 ha hs n (by omega) en _ hO ⟨rfl, rfl⟩)
theorem c_X7_does_2 {G : pj_G} {d : Nat} {c : sx_C} {m : sx_M} {o : Nat → Int64} {D : pj_H} {i : Nat} {kd s t v : Int32} (ha : D[i]? = some (.inr (5, [.int kd, .int s, .int t, .int v]))) (hs : vp_in s 8) (ht : vp_in t 8) (hN : vp_in (sx_i (sx_R c 2) 9) 13) (hO : fa_sum_ok c.1 (sx_R c 2) s t v) : pj_Rt G mX7_does (d + 3) [.ref (i + 98), .ref 32] (sx_mk c m o D) 0 0 (some (.int (fa_sum c.1 (sx_R c 2) s t v).1)) (sx_mk (sx_sR c 2 ((fa_sum c.1 (sx_R c 2) s t v).2)) m o D) := by
  obtain ⟨n, hn, en⟩ := vp_in_of hN (by decide)
  unfold fa_sum_ok fa_sumT at hO
  unfold fa_sum fa_sumT
  rw [en, nI_clamp (by omega)] at hO ⊢
  refine pj_Cn.start ?_
  refine pj_J.go (oX7_does G) 4 rfl trivial ?_
  exact pj_for (σ := Int64) (fun (k : Nat) (a : Int64) => pj_J G mX7_does (d + 3) 5 [some (.ref (i + 98)), some (.ref 32), some (.long a), none, some (.int (nI k))] [] (sx_mk c m o D) 0 0 _) (fun k a => fa_sumB (sx_R c 2) 0 0 k a (sx_R c 2)) (fun _ _ => True) n (fun k a hk hi => ⟨hi, fun kk => ly_fa_sum_2 ha n (by omega) en k hk a (by rw [nI_add1]; exact kk)⟩) n 0 0 (by simp) trivial (fun _ => lz_fa_sum_2 ha hs n (by omega) en _ hO ⟨rfl, rfl⟩)
def fa_taxB (w : sx_M) (t v : Int32) (k : Nat) (a : Int64) (u : sx_M) : Int64 × sx_M := ((a + ((vp_updL (sx_L u 7) (nI k).toNatClampNeg (fc_whole ((sx_I u 8 (nI k).toNatClampNeg).toInt64 * (sx_I w 0 t.toNatClampNeg).toInt64) ((sx_I w 1 t.toNatClampNeg).toInt64) v)) (nI k).toNatClampNeg)), sx_sL u 7 (vp_updL (sx_L u 7) (nI k).toNatClampNeg (fc_whole ((sx_I u 8 (nI k).toNatClampNeg).toInt64 * (sx_I w 0 t.toNatClampNeg).toInt64) ((sx_I w 1 t.toNatClampNeg).toInt64) v)))
theorem ly_fa_tax_0 {G : pj_G} {d : Nat} {c : sx_C} {m : sx_M} {o : Nat → Int64} {D : pj_H} {Q : pj_O → pj_H → Prop} {i : Nat} {kd s t v : Int32} (ha : D[i]? = some (.inr (6, [.int kd, .int s, .int t, .int v]))) (ht : vp_in t 8) (hq : ¬ (sx_I c.1 1 t.toNatClampNeg).toInt64 = 0) (n : Nat) (hn : n ≤ 12) (en : sx_i (sx_R c 0) 9 = nI n) (k : Nat) (hk : k < n) (a : Int64) (kk : pj_J G mX8_does (d + 3) 5 [some (.ref (i + 98)), some (.ref 10), some (.long ((fa_taxB c.1 t v k a (sx_R c 0)).1)), none, some (.int (nI k + 1))] [] (sx_mk (sx_sR c 0 ((fa_taxB c.1 t v k a (sx_R c 0)).2)) m o D) 0 0 Q) : pj_J G mX8_does (d + 3) 5 [some (.ref (i + 98)), some (.ref 10), some (.long a), none, some (.int (nI k))] [] (sx_mk c m o D) 0 0 Q := by
  refine pj_J.go (oX8_does G) 4 rfl trivial ?_
  refine pj_J.neg (by rw [en]; exact nI_lt_lit hk (by omega)) ?_
  refine pj_J.go (oX8_does G) 10 rfl ⟨by exact vp_in_lit (by omega) (by decide), trivial⟩ ?_
  refine pj_J.go1 (pc := 30) (oX8_does G) rfl (po_getD (lo := 5) (hi := 17) (k := 2) (n := 33) (by exact ha) (by decide) (by rfl)) trivial ?_
  refine pj_J.cal0 kX8_does_33 (c_X2_p_0 (c := c) t ht) ⟨_, _, _, rfl, rfl⟩ pj_le0 pj_le0 pj_le0 ?_
  refine pj_J.go (oX8_does G) 4 rfl trivial ?_
  refine pj_J.go1 (pc := 40) (oX8_does G) rfl (po_getD (lo := 5) (hi := 17) (k := 2) (n := 43) (by exact ha) (by decide) (by rfl)) trivial ?_
  refine pj_J.cal0 kX8_does_43 (c_X2_q_0 (c := c) t ht) ⟨_, _, _, rfl, rfl⟩ pj_le0 pj_le0 pj_le0 ?_
  refine pj_J.go (oX8_does G) 2 rfl trivial ?_
  refine pj_J.go1 (pc := 48) (oX8_does G) rfl (po_getD (lo := 5) (hi := 17) (k := 3) (n := 51) (by exact ha) (by decide) (by rfl)) trivial ?_
  refine pj_J.cal0 kX8_does_51 (c_X1_whole ((sx_I (sx_R c 0) 8 (nI k).toNatClampNeg).toInt64 * (sx_I c.1 0 t.toNatClampNeg).toInt64) ((sx_I c.1 1 t.toNatClampNeg).toInt64) v hq) trivial pj_le0 pj_le0 pj_le0 ?_
  refine pj_J.go (oX8_does G) 10 rfl ⟨by exact vp_in_lit (by omega) (by decide), by exact vp_in_lit (by omega) (by decide), trivial⟩ ?_
  unfold fa_taxB at kk
  exact pj_J.drp kk ⟨rfl, rfl, rfl, rfl, trivial⟩
theorem lz_fa_tax_0 {G : pj_G} {d : Nat} {c : sx_C} {m : sx_M} {o : Nat → Int64} {D : pj_H} {Q : pj_O → pj_H → Prop} {i : Nat} {kd s t v : Int32} (ha : D[i]? = some (.inr (6, [.int kd, .int s, .int t, .int v]))) (hs : vp_in s 8) (n : Nat) (hn : n ≤ 12) (en : sx_i (sx_R c 0) 9 = nI n) (a : Int64) (hO : -9223372036854775807 ≤ a) (q : Q (.inl (some (.int (fr_put (fr_show (sx_R c 0) s 0) s a 1).1))) (sx_mk (sx_sR c 0 ((fr_put (fr_show (sx_R c 0) s 0) s a 1).2)) m o D)) : pj_J G mX8_does (d + 3) 5 [some (.ref (i + 98)), some (.ref 10), some (.long a), none, some (.int (nI n))] [] (sx_mk c m o D) 0 0 Q := by
  refine pj_J.go (oX8_does G) 4 rfl trivial ?_
  refine pj_J.pos (by rw [en]; exact nI_ge_lit (Nat.le_refl _) (by omega)) ?_
  refine pj_J.go (oX8_does G) 3 rfl trivial ?_
  refine pj_J.cal0 kX8_does_74 (c_X6_show_0 (c := c) ha (by decide) hs (0 : Int32)) ⟨_, _, _, rfl, ha⟩ pj_le0 pj_le0 pj_le0 ?_
  refine pj_J.go (oX8_does G) 2 rfl trivial ?_
  refine pj_J.go1 (pc := 79) (oX8_does G) rfl (po_getD (lo := 5) (hi := 17) (k := 1) (n := 82) (by exact ha) (by decide) (by rfl)) trivial ?_
  refine pj_J.go (oX8_does G) 2 rfl trivial ?_
  refine pj_J.cal0 kX8_does_84 (c_X2_put_0 (c := (sx_sR c 0 (fr_show (sx_R c 0) s (0 : Int32)))) s a (1 : Int64) hs hO (by decide)) ⟨_, _, _, rfl, rfl⟩ pj_le0 pj_le0 pj_le0 ?_
  exact pj_iret dX8_does_87 rfl q
theorem ly_fa_tax_1 {G : pj_G} {d : Nat} {c : sx_C} {m : sx_M} {o : Nat → Int64} {D : pj_H} {Q : pj_O → pj_H → Prop} {i : Nat} {kd s t v : Int32} (ha : D[i]? = some (.inr (6, [.int kd, .int s, .int t, .int v]))) (ht : vp_in t 8) (hq : ¬ (sx_I c.1 1 t.toNatClampNeg).toInt64 = 0) (n : Nat) (hn : n ≤ 12) (en : sx_i (sx_R c 1) 9 = nI n) (k : Nat) (hk : k < n) (a : Int64) (kk : pj_J G mX8_does (d + 3) 5 [some (.ref (i + 98)), some (.ref 21), some (.long ((fa_taxB c.1 t v k a (sx_R c 1)).1)), none, some (.int (nI k + 1))] [] (sx_mk (sx_sR c 1 ((fa_taxB c.1 t v k a (sx_R c 1)).2)) m o D) 0 0 Q) : pj_J G mX8_does (d + 3) 5 [some (.ref (i + 98)), some (.ref 21), some (.long a), none, some (.int (nI k))] [] (sx_mk c m o D) 0 0 Q := by
  refine pj_J.go (oX8_does G) 4 rfl trivial ?_
  refine pj_J.neg (by rw [en]; exact nI_lt_lit hk (by omega)) ?_
  refine pj_J.go (oX8_does G) 10 rfl ⟨by exact vp_in_lit (by omega) (by decide), trivial⟩ ?_
  refine pj_J.go1 (pc := 30) (oX8_does G) rfl (po_getD (lo := 5) (hi := 17) (k := 2) (n := 33) (by exact ha) (by decide) (by rfl)) trivial ?_
  refine pj_J.cal0 kX8_does_33 (c_X2_p_1 (c := c) t ht) ⟨_, _, _, rfl, rfl⟩ pj_le0 pj_le0 pj_le0 ?_
  refine pj_J.go (oX8_does G) 4 rfl trivial ?_
  refine pj_J.go1 (pc := 40) (oX8_does G) rfl (po_getD (lo := 5) (hi := 17) (k := 2) (n := 43) (by exact ha) (by decide) (by rfl)) trivial ?_
  refine pj_J.cal0 kX8_does_43 (c_X2_q_1 (c := c) t ht) ⟨_, _, _, rfl, rfl⟩ pj_le0 pj_le0 pj_le0 ?_
  refine pj_J.go (oX8_does G) 2 rfl trivial ?_
  refine pj_J.go1 (pc := 48) (oX8_does G) rfl (po_getD (lo := 5) (hi := 17) (k := 3) (n := 51) (by exact ha) (by decide) (by rfl)) trivial ?_
  refine pj_J.cal0 kX8_does_51 (c_X1_whole ((sx_I (sx_R c 1) 8 (nI k).toNatClampNeg).toInt64 * (sx_I c.1 0 t.toNatClampNeg).toInt64) ((sx_I c.1 1 t.toNatClampNeg).toInt64) v hq) trivial pj_le0 pj_le0 pj_le0 ?_
  refine pj_J.go (oX8_does G) 10 rfl ⟨by exact vp_in_lit (by omega) (by decide), by exact vp_in_lit (by omega) (by decide), trivial⟩ ?_
  unfold fa_taxB at kk
  exact pj_J.drp kk ⟨rfl, rfl, rfl, rfl, trivial⟩
theorem lz_fa_tax_1 {G : pj_G} {d : Nat} {c : sx_C} {m : sx_M} {o : Nat → Int64} {D : pj_H} {Q : pj_O → pj_H → Prop} {i : Nat} {kd s t v : Int32} (ha : D[i]? = some (.inr (6, [.int kd, .int s, .int t, .int v]))) (hs : vp_in s 8) (n : Nat) (hn : n ≤ 12) (en : sx_i (sx_R c 1) 9 = nI n) (a : Int64) (hO : -9223372036854775807 ≤ a) (q : Q (.inl (some (.int (fr_put (fr_show (sx_R c 1) s 0) s a 1).1))) (sx_mk (sx_sR c 1 ((fr_put (fr_show (sx_R c 1) s 0) s a 1).2)) m o D)) : pj_J G mX8_does (d + 3) 5 [some (.ref (i + 98)), some (.ref 21), some (.long a), none, some (.int (nI n))] [] (sx_mk c m o D) 0 0 Q := by
  refine pj_J.go (oX8_does G) 4 rfl trivial ?_
  refine pj_J.pos (by rw [en]; exact nI_ge_lit (Nat.le_refl _) (by omega)) ?_
  refine pj_J.go (oX8_does G) 3 rfl trivial ?_
  refine pj_J.cal0 kX8_does_74 (c_X6_show_1 (c := c) ha (by decide) hs (0 : Int32)) ⟨_, _, _, rfl, ha⟩ pj_le0 pj_le0 pj_le0 ?_
  refine pj_J.go (oX8_does G) 2 rfl trivial ?_
  refine pj_J.go1 (pc := 79) (oX8_does G) rfl (po_getD (lo := 5) (hi := 17) (k := 1) (n := 82) (by exact ha) (by decide) (by rfl)) trivial ?_
  refine pj_J.go (oX8_does G) 2 rfl trivial ?_
  refine pj_J.cal0 kX8_does_84 (c_X2_put_1 (c := (sx_sR c 1 (fr_show (sx_R c 1) s (0 : Int32)))) s a (1 : Int64) hs hO (by decide)) ⟨_, _, _, rfl, rfl⟩ pj_le0 pj_le0 pj_le0 ?_
  exact pj_iret dX8_does_87 rfl q
theorem ly_fa_tax_2 {G : pj_G} {d : Nat} {c : sx_C} {m : sx_M} {o : Nat → Int64} {D : pj_H} {Q : pj_O → pj_H → Prop} {i : Nat} {kd s t v : Int32} (ha : D[i]? = some (.inr (6, [.int kd, .int s, .int t, .int v]))) (ht : vp_in t 8) (hq : ¬ (sx_I c.1 1 t.toNatClampNeg).toInt64 = 0) (n : Nat) (hn : n ≤ 12) (en : sx_i (sx_R c 2) 9 = nI n) (k : Nat) (hk : k < n) (a : Int64) (kk : pj_J G mX8_does (d + 3) 5 [some (.ref (i + 98)), some (.ref 32), some (.long ((fa_taxB c.1 t v k a (sx_R c 2)).1)), none, some (.int (nI k + 1))] [] (sx_mk (sx_sR c 2 ((fa_taxB c.1 t v k a (sx_R c 2)).2)) m o D) 0 0 Q) : pj_J G mX8_does (d + 3) 5 [some (.ref (i + 98)), some (.ref 32), some (.long a), none, some (.int (nI k))] [] (sx_mk c m o D) 0 0 Q := by
  refine pj_J.go (oX8_does G) 4 rfl trivial ?_
  refine pj_J.neg (by rw [en]; exact nI_lt_lit hk (by omega)) ?_
  refine pj_J.go (oX8_does G) 10 rfl ⟨by exact vp_in_lit (by omega) (by decide), trivial⟩ ?_
  refine pj_J.go1 (pc := 30) (oX8_does G) rfl (po_getD (lo := 5) (hi := 17) (k := 2) (n := 33) (by exact ha) (by decide) (by rfl)) trivial ?_
  refine pj_J.cal0 kX8_does_33 (c_X2_p_2 (c := c) t ht) ⟨_, _, _, rfl, rfl⟩ pj_le0 pj_le0 pj_le0 ?_
  refine pj_J.go (oX8_does G) 4 rfl trivial ?_
  refine pj_J.go1 (pc := 40) (oX8_does G) rfl (po_getD (lo := 5) (hi := 17) (k := 2) (n := 43) (by exact ha) (by decide) (by rfl)) trivial ?_
  refine pj_J.cal0 kX8_does_43 (c_X2_q_2 (c := c) t ht) ⟨_, _, _, rfl, rfl⟩ pj_le0 pj_le0 pj_le0 ?_
  refine pj_J.go (oX8_does G) 2 rfl trivial ?_
  refine pj_J.go1 (pc := 48) (oX8_does G) rfl (po_getD (lo := 5) (hi := 17) (k := 3) (n := 51) (by exact ha) (by decide) (by rfl)) trivial ?_
  refine pj_J.cal0 kX8_does_51 (c_X1_whole ((sx_I (sx_R c 2) 8 (nI k).toNatClampNeg).toInt64 * (sx_I c.1 0 t.toNatClampNeg).toInt64) ((sx_I c.1 1 t.toNatClampNeg).toInt64) v hq) trivial pj_le0 pj_le0 pj_le0 ?_
  refine pj_J.go (oX8_does G) 10 rfl ⟨by exact vp_in_lit (by omega) (by decide), by exact vp_in_lit (by omega) (by decide), trivial⟩ ?_
  unfold fa_taxB at kk
  exact pj_J.drp kk ⟨rfl, rfl, rfl, rfl, trivial⟩
theorem lz_fa_tax_2 {G : pj_G} {d : Nat} {c : sx_C} {m : sx_M} {o : Nat → Int64} {D : pj_H} {Q : pj_O → pj_H → Prop} {i : Nat} {kd s t v : Int32} (ha : D[i]? = some (.inr (6, [.int kd, .int s, .int t, .int v]))) (hs : vp_in s 8) (n : Nat) (hn : n ≤ 12) (en : sx_i (sx_R c 2) 9 = nI n) (a : Int64) (hO : -9223372036854775807 ≤ a) (q : Q (.inl (some (.int (fr_put (fr_show (sx_R c 2) s 0) s a 1).1))) (sx_mk (sx_sR c 2 ((fr_put (fr_show (sx_R c 2) s 0) s a 1).2)) m o D)) : pj_J G mX8_does (d + 3) 5 [some (.ref (i + 98)), some (.ref 32), some (.long a), none, some (.int (nI n))] [] (sx_mk c m o D) 0 0 Q := by
  refine pj_J.go (oX8_does G) 4 rfl trivial ?_
  refine pj_J.pos (by rw [en]; exact nI_ge_lit (Nat.le_refl _) (by omega)) ?_
  refine pj_J.go (oX8_does G) 3 rfl trivial ?_
  refine pj_J.cal0 kX8_does_74 (c_X6_show_2 (c := c) ha (by decide) hs (0 : Int32)) ⟨_, _, _, rfl, ha⟩ pj_le0 pj_le0 pj_le0 ?_
  refine pj_J.go (oX8_does G) 2 rfl trivial ?_
  refine pj_J.go1 (pc := 79) (oX8_does G) rfl (po_getD (lo := 5) (hi := 17) (k := 1) (n := 82) (by exact ha) (by decide) (by rfl)) trivial ?_
  refine pj_J.go (oX8_does G) 2 rfl trivial ?_
  refine pj_J.cal0 kX8_does_84 (c_X2_put_2 (c := (sx_sR c 2 (fr_show (sx_R c 2) s (0 : Int32)))) s a (1 : Int64) hs hO (by decide)) ⟨_, _, _, rfl, rfl⟩ pj_le0 pj_le0 pj_le0 ?_
  exact pj_iret dX8_does_87 rfl q
def fa_taxT (w u : sx_M) (t v : Int32) : Int64 × sx_M := it_up (fun k (z : Int64 × sx_M) => fa_taxB w t v k z.1 z.2) (sx_i u 9).toNatClampNeg 0 (0, u)
def fa_tax (w u : sx_M) (s t v : Int32) : Int32 × sx_M := fr_put (fr_show (fa_taxT w u t v).2 s 0) s (fa_taxT w u t v).1 1
def fa_tax_ok (w u : sx_M) (s t v : Int32) : Prop := ¬ (sx_I w 1 t.toNatClampNeg).toInt64 = 0 ∧ -9223372036854775807 ≤ (fa_taxT w u t v).1
theorem c_X8_does_0 {G : pj_G} {d : Nat} {c : sx_C} {m : sx_M} {o : Nat → Int64} {D : pj_H} {i : Nat} {kd s t v : Int32} (ha : D[i]? = some (.inr (6, [.int kd, .int s, .int t, .int v]))) (hs : vp_in s 8) (ht : vp_in t 8) (hN : vp_in (sx_i (sx_R c 0) 9) 13) (hO : fa_tax_ok c.1 (sx_R c 0) s t v) : pj_Rt G mX8_does (d + 3) [.ref (i + 98), .ref 10] (sx_mk c m o D) 0 0 (some (.int (fa_tax c.1 (sx_R c 0) s t v).1)) (sx_mk (sx_sR c 0 ((fa_tax c.1 (sx_R c 0) s t v).2)) m o D) := by
  obtain ⟨n, hn, en⟩ := vp_in_of hN (by decide)
  unfold fa_tax_ok fa_taxT at hO
  unfold fa_tax fa_taxT
  rw [en, nI_clamp (by omega)] at hO ⊢
  obtain ⟨hq, hO⟩ := hO
  refine pj_Cn.start ?_
  refine pj_J.go (oX8_does G) 4 rfl trivial ?_
  refine pj_for (σ := Int64 × sx_M) (fun (k : Nat) (z : Int64 × sx_M) => pj_J G mX8_does (d + 3) 5 [some (.ref (i + 98)), some (.ref 10), some (.long z.1), none, some (.int (nI k))] [] (sx_mk (sx_sR c 0 z.2) m o D) 0 0 _) (fun k z => fa_taxB c.1 t v k z.1 z.2) (fun _ z => sx_i z.2 9 = nI n) n (fun k z hk hi => ?_) n 0 (0, (sx_R c 0)) (by simp) en (fun hi => ?_)
  · obtain ⟨a, u⟩ := z
    exact ⟨hi, fun kk => ly_fa_tax_0 (c := (sx_sR c 0 u)) ha ht hq n (by omega) hi k hk a (by rw [nI_add1]; exact kk)⟩
  · generalize it_up (fun k (z : Int64 × sx_M) => fa_taxB c.1 t v k z.1 z.2) n 0 (0, (sx_R c 0)) = z at hO hi ⊢
    obtain ⟨a, u⟩ := z
    exact lz_fa_tax_0 (c := (sx_sR c 0 u)) ha hs n (by omega) hi a hO ⟨rfl, rfl⟩
theorem c_X8_does_1 {G : pj_G} {d : Nat} {c : sx_C} {m : sx_M} {o : Nat → Int64} {D : pj_H} {i : Nat} {kd s t v : Int32} (ha : D[i]? = some (.inr (6, [.int kd, .int s, .int t, .int v]))) (hs : vp_in s 8) (ht : vp_in t 8) (hN : vp_in (sx_i (sx_R c 1) 9) 13) (hO : fa_tax_ok c.1 (sx_R c 1) s t v) : pj_Rt G mX8_does (d + 3) [.ref (i + 98), .ref 21] (sx_mk c m o D) 0 0 (some (.int (fa_tax c.1 (sx_R c 1) s t v).1)) (sx_mk (sx_sR c 1 ((fa_tax c.1 (sx_R c 1) s t v).2)) m o D) := by
  obtain ⟨n, hn, en⟩ := vp_in_of hN (by decide)
  unfold fa_tax_ok fa_taxT at hO
  unfold fa_tax fa_taxT
  rw [en, nI_clamp (by omega)] at hO ⊢
  obtain ⟨hq, hO⟩ := hO
  refine pj_Cn.start ?_
  refine pj_J.go (oX8_does G) 4 rfl trivial ?_
  refine pj_for (σ := Int64 × sx_M) (fun (k : Nat) (z : Int64 × sx_M) => pj_J G mX8_does (d + 3) 5 [some (.ref (i + 98)), some (.ref 21), some (.long z.1), none, some (.int (nI k))] [] (sx_mk (sx_sR c 1 z.2) m o D) 0 0 _) (fun k z => fa_taxB c.1 t v k z.1 z.2) (fun _ z => sx_i z.2 9 = nI n) n (fun k z hk hi => ?_) n 0 (0, (sx_R c 1)) (by simp) en (fun hi => ?_)
  · obtain ⟨a, u⟩ := z
    exact ⟨hi, fun kk => ly_fa_tax_1 (c := (sx_sR c 1 u)) ha ht hq n (by omega) hi k hk a (by rw [nI_add1]; exact kk)⟩
  · generalize it_up (fun k (z : Int64 × sx_M) => fa_taxB c.1 t v k z.1 z.2) n 0 (0, (sx_R c 1)) = z at hO hi ⊢
    obtain ⟨a, u⟩ := z
    exact lz_fa_tax_1 (c := (sx_sR c 1 u)) ha hs n (by omega) hi a hO ⟨rfl, rfl⟩
theorem c_X8_does_2 {G : pj_G} {d : Nat} {c : sx_C} {m : sx_M} {o : Nat → Int64} {D : pj_H} {i : Nat} {kd s t v : Int32} (ha : D[i]? = some (.inr (6, [.int kd, .int s, .int t, .int v]))) (hs : vp_in s 8) (ht : vp_in t 8) (hN : vp_in (sx_i (sx_R c 2) 9) 13) (hO : fa_tax_ok c.1 (sx_R c 2) s t v) : pj_Rt G mX8_does (d + 3) [.ref (i + 98), .ref 32] (sx_mk c m o D) 0 0 (some (.int (fa_tax c.1 (sx_R c 2) s t v).1)) (sx_mk (sx_sR c 2 ((fa_tax c.1 (sx_R c 2) s t v).2)) m o D) := by
  obtain ⟨n, hn, en⟩ := vp_in_of hN (by decide)
  unfold fa_tax_ok fa_taxT at hO
  unfold fa_tax fa_taxT
  rw [en, nI_clamp (by omega)] at hO ⊢
  obtain ⟨hq, hO⟩ := hO
  refine pj_Cn.start ?_
  refine pj_J.go (oX8_does G) 4 rfl trivial ?_
  refine pj_for (σ := Int64 × sx_M) (fun (k : Nat) (z : Int64 × sx_M) => pj_J G mX8_does (d + 3) 5 [some (.ref (i + 98)), some (.ref 32), some (.long z.1), none, some (.int (nI k))] [] (sx_mk (sx_sR c 2 z.2) m o D) 0 0 _) (fun k z => fa_taxB c.1 t v k z.1 z.2) (fun _ z => sx_i z.2 9 = nI n) n (fun k z hk hi => ?_) n 0 (0, (sx_R c 2)) (by simp) en (fun hi => ?_)
  · obtain ⟨a, u⟩ := z
    exact ⟨hi, fun kk => ly_fa_tax_2 (c := (sx_sR c 2 u)) ha ht hq n (by omega) hi k hk a (by rw [nI_add1]; exact kk)⟩
  · generalize it_up (fun k (z : Int64 × sx_M) => fa_taxB c.1 t v k z.1 z.2) n 0 (0, (sx_R c 2)) = z at hO hi ⊢
    obtain ⟨a, u⟩ := z
    exact lz_fa_tax_2 (c := (sx_sR c 2 u)) ha hs n (by omega) hi a hO ⟨rfl, rfl⟩
def fa_flowB (w : sx_M) (t v : Int32) (k : Nat) (a b : Int64) (u : sx_M) : Int64 × Int64 × sx_M := ((a + (sx_I u 8 (nI k).toNatClampNeg).toInt64), (b + ((vp_updL (sx_L u 7) (nI k).toNatClampNeg ((fc_whole ((a + (sx_I u 8 (nI k).toNatClampNeg).toInt64) * (sx_I w 0 t.toNatClampNeg).toInt64) ((sx_I w 1 t.toNatClampNeg).toInt64) v) - b)) (nI k).toNatClampNeg)), sx_sL u 7 (vp_updL (sx_L u 7) (nI k).toNatClampNeg ((fc_whole ((a + (sx_I u 8 (nI k).toNatClampNeg).toInt64) * (sx_I w 0 t.toNatClampNeg).toInt64) ((sx_I w 1 t.toNatClampNeg).toInt64) v) - b)))
theorem ly_fa_flow_0 {G : pj_G} {d : Nat} {c : sx_C} {m : sx_M} {o : Nat → Int64} {D : pj_H} {Q : pj_O → pj_H → Prop} {i : Nat} {kd s t v : Int32} (ha : D[i]? = some (.inr (7, [.int kd, .int s, .int t, .int v]))) (ht : vp_in t 8) (hq : ¬ (sx_I c.1 1 t.toNatClampNeg).toInt64 = 0) (n : Nat) (hn : n ≤ 12) (en : sx_i (sx_R c 0) 9 = nI n) (k : Nat) (hk : k < n) (a b : Int64) (kk : pj_J G mX9_does (d + 3) 8 [some (.ref (i + 98)), some (.ref 10), some (.long ((fa_flowB c.1 t v k a b (sx_R c 0)).1)), none, some (.long ((fa_flowB c.1 t v k a b (sx_R c 0)).2.1)), none, some (.int (nI k + 1))] [] (sx_mk (sx_sR c 0 ((fa_flowB c.1 t v k a b (sx_R c 0)).2.2)) m o D) 0 0 Q) : pj_J G mX9_does (d + 3) 8 [some (.ref (i + 98)), some (.ref 10), some (.long a), none, some (.long b), none, some (.int (nI k))] [] (sx_mk c m o D) 0 0 Q := by
  refine pj_J.go (oX9_does G) 4 rfl trivial ?_
  refine pj_J.neg (by rw [en]; exact nI_lt_lit hk (by omega)) ?_
  refine pj_J.go (oX9_does G) 14 rfl ⟨by exact vp_in_lit (by omega) (by decide), trivial⟩ ?_
  refine pj_J.go1 (pc := 37) (oX9_does G) rfl (po_getD (lo := 5) (hi := 17) (k := 2) (n := 40) (by exact ha) (by decide) (by rfl)) trivial ?_
  refine pj_J.cal0 kX9_does_40 (c_X2_p_0 (c := c) t ht) ⟨_, _, _, rfl, rfl⟩ pj_le0 pj_le0 pj_le0 ?_
  refine pj_J.go (oX9_does G) 4 rfl trivial ?_
  refine pj_J.go1 (pc := 47) (oX9_does G) rfl (po_getD (lo := 5) (hi := 17) (k := 2) (n := 50) (by exact ha) (by decide) (by rfl)) trivial ?_
  refine pj_J.cal0 kX9_does_50 (c_X2_q_0 (c := c) t ht) ⟨_, _, _, rfl, rfl⟩ pj_le0 pj_le0 pj_le0 ?_
  refine pj_J.go (oX9_does G) 2 rfl trivial ?_
  refine pj_J.go1 (pc := 55) (oX9_does G) rfl (po_getD (lo := 5) (hi := 17) (k := 3) (n := 58) (by exact ha) (by decide) (by rfl)) trivial ?_
  refine pj_J.cal0 kX9_does_58 (c_X1_whole ((a + (sx_I (sx_R c 0) 8 (nI k).toNatClampNeg).toInt64) * (sx_I c.1 0 t.toNatClampNeg).toInt64) ((sx_I c.1 1 t.toNatClampNeg).toInt64) v hq) trivial pj_le0 pj_le0 pj_le0 ?_
  refine pj_J.go (oX9_does G) 12 rfl ⟨by exact vp_in_lit (by omega) (by decide), by exact vp_in_lit (by omega) (by decide), trivial⟩ ?_
  unfold fa_flowB at kk
  exact pj_J.drp kk ⟨rfl, rfl, rfl, rfl, rfl, trivial⟩
theorem lz_fa_flow_0 {G : pj_G} {d : Nat} {c : sx_C} {m : sx_M} {o : Nat → Int64} {D : pj_H} {Q : pj_O → pj_H → Prop} {i : Nat} {kd s t v : Int32} (ha : D[i]? = some (.inr (7, [.int kd, .int s, .int t, .int v]))) (hs : vp_in s 8) (n : Nat) (hn : n ≤ 12) (en : sx_i (sx_R c 0) 9 = nI n) (a b : Int64) (hO : -9223372036854775807 ≤ b) (q : Q (.inl (some (.int (fr_put (fr_show (sx_R c 0) s 0) s b 1).1))) (sx_mk (sx_sR c 0 ((fr_put (fr_show (sx_R c 0) s 0) s b 1).2)) m o D)) : pj_J G mX9_does (d + 3) 8 [some (.ref (i + 98)), some (.ref 10), some (.long a), none, some (.long b), none, some (.int (nI n))] [] (sx_mk c m o D) 0 0 Q := by
  refine pj_J.go (oX9_does G) 4 rfl trivial ?_
  refine pj_J.pos (by rw [en]; exact nI_ge_lit (Nat.le_refl _) (by omega)) ?_
  refine pj_J.go (oX9_does G) 3 rfl trivial ?_
  refine pj_J.cal0 kX9_does_86 (c_X6_show_0 (c := c) ha (by decide) hs (0 : Int32)) ⟨_, _, _, rfl, ha⟩ pj_le0 pj_le0 pj_le0 ?_
  refine pj_J.go (oX9_does G) 2 rfl trivial ?_
  refine pj_J.go1 (pc := 91) (oX9_does G) rfl (po_getD (lo := 5) (hi := 17) (k := 1) (n := 94) (by exact ha) (by decide) (by rfl)) trivial ?_
  refine pj_J.go (oX9_does G) 2 rfl trivial ?_
  refine pj_J.cal0 kX9_does_97 (c_X2_put_0 (c := (sx_sR c 0 (fr_show (sx_R c 0) s (0 : Int32)))) s b (1 : Int64) hs hO (by decide)) ⟨_, _, _, rfl, rfl⟩ pj_le0 pj_le0 pj_le0 ?_
  exact pj_iret dX9_does_100 rfl q
theorem ly_fa_flow_1 {G : pj_G} {d : Nat} {c : sx_C} {m : sx_M} {o : Nat → Int64} {D : pj_H} {Q : pj_O → pj_H → Prop} {i : Nat} {kd s t v : Int32} (ha : D[i]? = some (.inr (7, [.int kd, .int s, .int t, .int v]))) (ht : vp_in t 8) (hq : ¬ (sx_I c.1 1 t.toNatClampNeg).toInt64 = 0) (n : Nat) (hn : n ≤ 12) (en : sx_i (sx_R c 1) 9 = nI n) (k : Nat) (hk : k < n) (a b : Int64) (kk : pj_J G mX9_does (d + 3) 8 [some (.ref (i + 98)), some (.ref 21), some (.long ((fa_flowB c.1 t v k a b (sx_R c 1)).1)), none, some (.long ((fa_flowB c.1 t v k a b (sx_R c 1)).2.1)), none, some (.int (nI k + 1))] [] (sx_mk (sx_sR c 1 ((fa_flowB c.1 t v k a b (sx_R c 1)).2.2)) m o D) 0 0 Q) : pj_J G mX9_does (d + 3) 8 [some (.ref (i + 98)), some (.ref 21), some (.long a), none, some (.long b), none, some (.int (nI k))] [] (sx_mk c m o D) 0 0 Q := by
  refine pj_J.go (oX9_does G) 4 rfl trivial ?_
  refine pj_J.neg (by rw [en]; exact nI_lt_lit hk (by omega)) ?_
  refine pj_J.go (oX9_does G) 14 rfl ⟨by exact vp_in_lit (by omega) (by decide), trivial⟩ ?_
  refine pj_J.go1 (pc := 37) (oX9_does G) rfl (po_getD (lo := 5) (hi := 17) (k := 2) (n := 40) (by exact ha) (by decide) (by rfl)) trivial ?_
  refine pj_J.cal0 kX9_does_40 (c_X2_p_1 (c := c) t ht) ⟨_, _, _, rfl, rfl⟩ pj_le0 pj_le0 pj_le0 ?_
  refine pj_J.go (oX9_does G) 4 rfl trivial ?_
  refine pj_J.go1 (pc := 47) (oX9_does G) rfl (po_getD (lo := 5) (hi := 17) (k := 2) (n := 50) (by exact ha) (by decide) (by rfl)) trivial ?_
  refine pj_J.cal0 kX9_does_50 (c_X2_q_1 (c := c) t ht) ⟨_, _, _, rfl, rfl⟩ pj_le0 pj_le0 pj_le0 ?_
  refine pj_J.go (oX9_does G) 2 rfl trivial ?_
  refine pj_J.go1 (pc := 55) (oX9_does G) rfl (po_getD (lo := 5) (hi := 17) (k := 3) (n := 58) (by exact ha) (by decide) (by rfl)) trivial ?_
  refine pj_J.cal0 kX9_does_58 (c_X1_whole ((a + (sx_I (sx_R c 1) 8 (nI k).toNatClampNeg).toInt64) * (sx_I c.1 0 t.toNatClampNeg).toInt64) ((sx_I c.1 1 t.toNatClampNeg).toInt64) v hq) trivial pj_le0 pj_le0 pj_le0 ?_
  refine pj_J.go (oX9_does G) 12 rfl ⟨by exact vp_in_lit (by omega) (by decide), by exact vp_in_lit (by omega) (by decide), trivial⟩ ?_
  unfold fa_flowB at kk
  exact pj_J.drp kk ⟨rfl, rfl, rfl, rfl, rfl, trivial⟩
theorem lz_fa_flow_1 {G : pj_G} {d : Nat} {c : sx_C} {m : sx_M} {o : Nat → Int64} {D : pj_H} {Q : pj_O → pj_H → Prop} {i : Nat} {kd s t v : Int32} (ha : D[i]? = some (.inr (7, [.int kd, .int s, .int t, .int v]))) (hs : vp_in s 8) (n : Nat) (hn : n ≤ 12) (en : sx_i (sx_R c 1) 9 = nI n) (a b : Int64) (hO : -9223372036854775807 ≤ b) (q : Q (.inl (some (.int (fr_put (fr_show (sx_R c 1) s 0) s b 1).1))) (sx_mk (sx_sR c 1 ((fr_put (fr_show (sx_R c 1) s 0) s b 1).2)) m o D)) : pj_J G mX9_does (d + 3) 8 [some (.ref (i + 98)), some (.ref 21), some (.long a), none, some (.long b), none, some (.int (nI n))] [] (sx_mk c m o D) 0 0 Q := by
  refine pj_J.go (oX9_does G) 4 rfl trivial ?_
  refine pj_J.pos (by rw [en]; exact nI_ge_lit (Nat.le_refl _) (by omega)) ?_
  refine pj_J.go (oX9_does G) 3 rfl trivial ?_
  refine pj_J.cal0 kX9_does_86 (c_X6_show_1 (c := c) ha (by decide) hs (0 : Int32)) ⟨_, _, _, rfl, ha⟩ pj_le0 pj_le0 pj_le0 ?_
  refine pj_J.go (oX9_does G) 2 rfl trivial ?_
  refine pj_J.go1 (pc := 91) (oX9_does G) rfl (po_getD (lo := 5) (hi := 17) (k := 1) (n := 94) (by exact ha) (by decide) (by rfl)) trivial ?_
  refine pj_J.go (oX9_does G) 2 rfl trivial ?_
  refine pj_J.cal0 kX9_does_97 (c_X2_put_1 (c := (sx_sR c 1 (fr_show (sx_R c 1) s (0 : Int32)))) s b (1 : Int64) hs hO (by decide)) ⟨_, _, _, rfl, rfl⟩ pj_le0 pj_le0 pj_le0 ?_
  exact pj_iret dX9_does_100 rfl q
theorem ly_fa_flow_2 {G : pj_G} {d : Nat} {c : sx_C} {m : sx_M} {o : Nat → Int64} {D : pj_H} {Q : pj_O → pj_H → Prop} {i : Nat} {kd s t v : Int32} (ha : D[i]? = some (.inr (7, [.int kd, .int s, .int t, .int v]))) (ht : vp_in t 8) (hq : ¬ (sx_I c.1 1 t.toNatClampNeg).toInt64 = 0) (n : Nat) (hn : n ≤ 12) (en : sx_i (sx_R c 2) 9 = nI n) (k : Nat) (hk : k < n) (a b : Int64) (kk : pj_J G mX9_does (d + 3) 8 [some (.ref (i + 98)), some (.ref 32), some (.long ((fa_flowB c.1 t v k a b (sx_R c 2)).1)), none, some (.long ((fa_flowB c.1 t v k a b (sx_R c 2)).2.1)), none, some (.int (nI k + 1))] [] (sx_mk (sx_sR c 2 ((fa_flowB c.1 t v k a b (sx_R c 2)).2.2)) m o D) 0 0 Q) : pj_J G mX9_does (d + 3) 8 [some (.ref (i + 98)), some (.ref 32), some (.long a), none, some (.long b), none, some (.int (nI k))] [] (sx_mk c m o D) 0 0 Q := by
  refine pj_J.go (oX9_does G) 4 rfl trivial ?_
  refine pj_J.neg (by rw [en]; exact nI_lt_lit hk (by omega)) ?_
  refine pj_J.go (oX9_does G) 14 rfl ⟨by exact vp_in_lit (by omega) (by decide), trivial⟩ ?_
  refine pj_J.go1 (pc := 37) (oX9_does G) rfl (po_getD (lo := 5) (hi := 17) (k := 2) (n := 40) (by exact ha) (by decide) (by rfl)) trivial ?_
  refine pj_J.cal0 kX9_does_40 (c_X2_p_2 (c := c) t ht) ⟨_, _, _, rfl, rfl⟩ pj_le0 pj_le0 pj_le0 ?_
  refine pj_J.go (oX9_does G) 4 rfl trivial ?_
  refine pj_J.go1 (pc := 47) (oX9_does G) rfl (po_getD (lo := 5) (hi := 17) (k := 2) (n := 50) (by exact ha) (by decide) (by rfl)) trivial ?_
  refine pj_J.cal0 kX9_does_50 (c_X2_q_2 (c := c) t ht) ⟨_, _, _, rfl, rfl⟩ pj_le0 pj_le0 pj_le0 ?_
  refine pj_J.go (oX9_does G) 2 rfl trivial ?_
  refine pj_J.go1 (pc := 55) (oX9_does G) rfl (po_getD (lo := 5) (hi := 17) (k := 3) (n := 58) (by exact ha) (by decide) (by rfl)) trivial ?_
  refine pj_J.cal0 kX9_does_58 (c_X1_whole ((a + (sx_I (sx_R c 2) 8 (nI k).toNatClampNeg).toInt64) * (sx_I c.1 0 t.toNatClampNeg).toInt64) ((sx_I c.1 1 t.toNatClampNeg).toInt64) v hq) trivial pj_le0 pj_le0 pj_le0 ?_
  refine pj_J.go (oX9_does G) 12 rfl ⟨by exact vp_in_lit (by omega) (by decide), by exact vp_in_lit (by omega) (by decide), trivial⟩ ?_
  unfold fa_flowB at kk
  exact pj_J.drp kk ⟨rfl, rfl, rfl, rfl, rfl, trivial⟩
theorem lz_fa_flow_2 {G : pj_G} {d : Nat} {c : sx_C} {m : sx_M} {o : Nat → Int64} {D : pj_H} {Q : pj_O → pj_H → Prop} {i : Nat} {kd s t v : Int32} (ha : D[i]? = some (.inr (7, [.int kd, .int s, .int t, .int v]))) (hs : vp_in s 8) (n : Nat) (hn : n ≤ 12) (en : sx_i (sx_R c 2) 9 = nI n) (a b : Int64) (hO : -9223372036854775807 ≤ b) (q : Q (.inl (some (.int (fr_put (fr_show (sx_R c 2) s 0) s b 1).1))) (sx_mk (sx_sR c 2 ((fr_put (fr_show (sx_R c 2) s 0) s b 1).2)) m o D)) : pj_J G mX9_does (d + 3) 8 [some (.ref (i + 98)), some (.ref 32), some (.long a), none, some (.long b), none, some (.int (nI n))] [] (sx_mk c m o D) 0 0 Q := by
  refine pj_J.go (oX9_does G) 4 rfl trivial ?_
  refine pj_J.pos (by rw [en]; exact nI_ge_lit (Nat.le_refl _) (by omega)) ?_
  refine pj_J.go (oX9_does G) 3 rfl trivial ?_
  refine pj_J.cal0 kX9_does_86 (c_X6_show_2 (c := c) ha (by decide) hs (0 : Int32)) ⟨_, _, _, rfl, ha⟩ pj_le0 pj_le0 pj_le0 ?_
  refine pj_J.go (oX9_does G) 2 rfl trivial ?_
  refine pj_J.go1 (pc := 91) (oX9_does G) rfl (po_getD (lo := 5) (hi := 17) (k := 1) (n := 94) (by exact ha) (by decide) (by rfl)) trivial ?_
  refine pj_J.go (oX9_does G) 2 rfl trivial ?_
  refine pj_J.cal0 kX9_does_97 (c_X2_put_2 (c := (sx_sR c 2 (fr_show (sx_R c 2) s (0 : Int32)))) s b (1 : Int64) hs hO (by decide)) ⟨_, _, _, rfl, rfl⟩ pj_le0 pj_le0 pj_le0 ?_
  exact pj_iret dX9_does_100 rfl q
def fa_flowT (w u : sx_M) (t v : Int32) : Int64 × Int64 × sx_M := it_up (fun k (z : Int64 × Int64 × sx_M) => fa_flowB w t v k z.1 z.2.1 z.2.2) (sx_i u 9).toNatClampNeg 0 (0, 0, u)
def fa_flow (w u : sx_M) (s t v : Int32) : Int32 × sx_M := fr_put (fr_show (fa_flowT w u t v).2.2 s 0) s (fa_flowT w u t v).2.1 1
def fa_flow_ok (w u : sx_M) (s t v : Int32) : Prop := ¬ (sx_I w 1 t.toNatClampNeg).toInt64 = 0 ∧ -9223372036854775807 ≤ (fa_flowT w u t v).2.1
theorem c_X9_does_0 {G : pj_G} {d : Nat} {c : sx_C} {m : sx_M} {o : Nat → Int64} {D : pj_H} {i : Nat} {kd s t v : Int32} (ha : D[i]? = some (.inr (7, [.int kd, .int s, .int t, .int v]))) (hs : vp_in s 8) (ht : vp_in t 8) (hN : vp_in (sx_i (sx_R c 0) 9) 13) (hO : fa_flow_ok c.1 (sx_R c 0) s t v) : pj_Rt G mX9_does (d + 3) [.ref (i + 98), .ref 10] (sx_mk c m o D) 0 0 (some (.int (fa_flow c.1 (sx_R c 0) s t v).1)) (sx_mk (sx_sR c 0 ((fa_flow c.1 (sx_R c 0) s t v).2)) m o D) := by
  obtain ⟨n, hn, en⟩ := vp_in_of hN (by decide)
  unfold fa_flow_ok fa_flowT at hO
  unfold fa_flow fa_flowT
  rw [en, nI_clamp (by omega)] at hO ⊢
  obtain ⟨hq, hO⟩ := hO
  refine pj_Cn.start ?_
  refine pj_J.go (oX9_does G) 6 rfl trivial ?_
  refine pj_for (σ := Int64 × Int64 × sx_M) (fun (k : Nat) (z : Int64 × Int64 × sx_M) => pj_J G mX9_does (d + 3) 8 [some (.ref (i + 98)), some (.ref 10), some (.long z.1), none, some (.long z.2.1), none, some (.int (nI k))] [] (sx_mk (sx_sR c 0 z.2.2) m o D) 0 0 _) (fun k z => fa_flowB c.1 t v k z.1 z.2.1 z.2.2) (fun _ z => sx_i z.2.2 9 = nI n) n (fun k z hk hi => ?_) n 0 (0, 0, (sx_R c 0)) (by simp) en (fun hi => ?_)
  · obtain ⟨a, b, u⟩ := z
    exact ⟨hi, fun kk => ly_fa_flow_0 (c := (sx_sR c 0 u)) ha ht hq n (by omega) hi k hk a b (by rw [nI_add1]; exact kk)⟩
  · generalize it_up (fun k (z : Int64 × Int64 × sx_M) => fa_flowB c.1 t v k z.1 z.2.1 z.2.2) n 0 (0, 0, (sx_R c 0)) = z at hO hi ⊢
    obtain ⟨a, b, u⟩ := z
    exact lz_fa_flow_0 (c := (sx_sR c 0 u)) ha hs n (by omega) hi a b hO ⟨rfl, rfl⟩
theorem c_X9_does_1 {G : pj_G} {d : Nat} {c : sx_C} {m : sx_M} {o : Nat → Int64} {D : pj_H} {i : Nat} {kd s t v : Int32} (ha : D[i]? = some (.inr (7, [.int kd, .int s, .int t, .int v]))) (hs : vp_in s 8) (ht : vp_in t 8) (hN : vp_in (sx_i (sx_R c 1) 9) 13) (hO : fa_flow_ok c.1 (sx_R c 1) s t v) : pj_Rt G mX9_does (d + 3) [.ref (i + 98), .ref 21] (sx_mk c m o D) 0 0 (some (.int (fa_flow c.1 (sx_R c 1) s t v).1)) (sx_mk (sx_sR c 1 ((fa_flow c.1 (sx_R c 1) s t v).2)) m o D) := by
  obtain ⟨n, hn, en⟩ := vp_in_of hN (by decide)
  unfold fa_flow_ok fa_flowT at hO
  unfold fa_flow fa_flowT
  rw [en, nI_clamp (by omega)] at hO ⊢
  obtain ⟨hq, hO⟩ := hO
  refine pj_Cn.start ?_
  refine pj_J.go (oX9_does G) 6 rfl trivial ?_
  refine pj_for (σ := Int64 × Int64 × sx_M) (fun (k : Nat) (z : Int64 × Int64 × sx_M) => pj_J G mX9_does (d + 3) 8 [some (.ref (i + 98)), some (.ref 21), some (.long z.1), none, some (.long z.2.1), none, some (.int (nI k))] [] (sx_mk (sx_sR c 1 z.2.2) m o D) 0 0 _) (fun k z => fa_flowB c.1 t v k z.1 z.2.1 z.2.2) (fun _ z => sx_i z.2.2 9 = nI n) n (fun k z hk hi => ?_) n 0 (0, 0, (sx_R c 1)) (by simp) en (fun hi => ?_)
  · obtain ⟨a, b, u⟩ := z
    exact ⟨hi, fun kk => ly_fa_flow_1 (c := (sx_sR c 1 u)) ha ht hq n (by omega) hi k hk a b (by rw [nI_add1]; exact kk)⟩
  · generalize it_up (fun k (z : Int64 × Int64 × sx_M) => fa_flowB c.1 t v k z.1 z.2.1 z.2.2) n 0 (0, 0, (sx_R c 1)) = z at hO hi ⊢
    obtain ⟨a, b, u⟩ := z
    exact lz_fa_flow_1 (c := (sx_sR c 1 u)) ha hs n (by omega) hi a b hO ⟨rfl, rfl⟩
theorem c_X9_does_2 {G : pj_G} {d : Nat} {c : sx_C} {m : sx_M} {o : Nat → Int64} {D : pj_H} {i : Nat} {kd s t v : Int32} (ha : D[i]? = some (.inr (7, [.int kd, .int s, .int t, .int v]))) (hs : vp_in s 8) (ht : vp_in t 8) (hN : vp_in (sx_i (sx_R c 2) 9) 13) (hO : fa_flow_ok c.1 (sx_R c 2) s t v) : pj_Rt G mX9_does (d + 3) [.ref (i + 98), .ref 32] (sx_mk c m o D) 0 0 (some (.int (fa_flow c.1 (sx_R c 2) s t v).1)) (sx_mk (sx_sR c 2 ((fa_flow c.1 (sx_R c 2) s t v).2)) m o D) := by
  obtain ⟨n, hn, en⟩ := vp_in_of hN (by decide)
  unfold fa_flow_ok fa_flowT at hO
  unfold fa_flow fa_flowT
  rw [en, nI_clamp (by omega)] at hO ⊢
  obtain ⟨hq, hO⟩ := hO
  refine pj_Cn.start ?_
  refine pj_J.go (oX9_does G) 6 rfl trivial ?_
  refine pj_for (σ := Int64 × Int64 × sx_M) (fun (k : Nat) (z : Int64 × Int64 × sx_M) => pj_J G mX9_does (d + 3) 8 [some (.ref (i + 98)), some (.ref 32), some (.long z.1), none, some (.long z.2.1), none, some (.int (nI k))] [] (sx_mk (sx_sR c 2 z.2.2) m o D) 0 0 _) (fun k z => fa_flowB c.1 t v k z.1 z.2.1 z.2.2) (fun _ z => sx_i z.2.2 9 = nI n) n (fun k z hk hi => ?_) n 0 (0, 0, (sx_R c 2)) (by simp) en (fun hi => ?_)
  · obtain ⟨a, b, u⟩ := z
    exact ⟨hi, fun kk => ly_fa_flow_2 (c := (sx_sR c 2 u)) ha ht hq n (by omega) hi k hk a b (by rw [nI_add1]; exact kk)⟩
  · generalize it_up (fun k (z : Int64 × Int64 × sx_M) => fa_flowB c.1 t v k z.1 z.2.1 z.2.2) n 0 (0, 0, (sx_R c 2)) = z at hO hi ⊢
    obtain ⟨a, b, u⟩ := z
    exact lz_fa_flow_2 (c := (sx_sR c 2 u)) ha hs n (by omega) hi a b hO ⟨rfl, rfl⟩
def fa_dayP (w u : sx_M) (s t : Int32) : Int32 × sx_M := fr_put u s (sx_L u 0 s.toNatClampNeg + fc_whole (sx_L u 0 s.toNatClampNeg * (sx_I w 0 t.toNatClampNeg).toInt64) (sx_L u 1 s.toNatClampNeg * (sx_I w 1 t.toNatClampNeg).toInt64) 1 * sx_L u 1 s.toNatClampNeg) (sx_L u 1 s.toNatClampNeg)
def fa_dayO (w u : sx_M) (s t : Int32) : Prop := ¬ sx_L u 1 s.toNatClampNeg * (sx_I w 1 t.toNatClampNeg).toInt64 = 0 ∧ -9223372036854775807 ≤ sx_L u 0 s.toNatClampNeg + fc_whole (sx_L u 0 s.toNatClampNeg * (sx_I w 0 t.toNatClampNeg).toInt64) (sx_L u 1 s.toNatClampNeg * (sx_I w 1 t.toNatClampNeg).toInt64) 1 * sx_L u 1 s.toNatClampNeg ∧ 0 < sx_L u 1 s.toNatClampNeg
def fa_dayL (w : sx_M) (s t : Int32) : Nat → sx_M → Int32 × sx_M
  | 0, u => (0, u)
  | e + 1, u => if (fa_dayP w u s t).1 = 0 then fa_dayL w s t e (fa_dayP w u s t).2 else fa_dayP w u s t
/-- what the days ask, day by day -/
def fa_dayA (w : sx_M) (s t : Int32) : Nat → sx_M → Prop
  | 0, _ => True
  | e + 1, u => fa_dayO w u s t ∧ ((fa_dayP w u s t).1 = 0 → fa_dayA w s t e (fa_dayP w u s t).2)
def fa_days (w u : sx_M) (s t v : Int32) : Int32 × sx_M := fa_dayL w s t v.toNatClampNeg u
def fa_days_ok (w u : sx_M) (s t v : Int32) : Prop := fa_dayA w s t v.toNatClampNeg u
theorem lb_fa_day_0 {G : pj_G} {d : Nat} {c : sx_C} {m : sx_M} {o : Nat → Int64} {D : pj_H} {Q : pj_O → pj_H → Prop} {i : Nat} {kd s t v : Int32} (ha : D[i]? = some (.inr (17, [.int kd, .int s, .int t, .int v]))) (hs : vp_in s 8) (ht : vp_in t 8) (n : Nat) (hn : n ≤ 30) (ev : v = nI n) (k : Nat) (hk : k < n) (hO : fa_dayO c.1 (sx_R c 0) s t) (q : ¬ (fa_dayP c.1 (sx_R c 0) s t).1 = 0 → Q (.inl (some (.int (fa_dayP c.1 (sx_R c 0) s t).1))) (sx_mk (sx_sR c 0 ((fa_dayP c.1 (sx_R c 0) s t).2)) m o D)) (kk : (fa_dayP c.1 (sx_R c 0) s t).1 = 0 → pj_J G mX19_does (d + 3) 2 [some (.ref (i + 98)), some (.ref 10), some (.int (nI k + 1)), none, none, none] [] (sx_mk (sx_sR c 0 ((fa_dayP c.1 (sx_R c 0) s t).2)) m o D) 0 0 Q) : pj_J G mX19_does (d + 3) 2 [some (.ref (i + 98)), some (.ref 10), some (.int (nI k)), none, none, none] [] (sx_mk c m o D) 0 0 Q := by
  refine pj_J.go (oX19_does G) 2 rfl trivial ?_
  refine pj_J.go1 (pc := 4) (oX19_does G) rfl (po_getD (lo := 5) (hi := 17) (k := 3) (n := 7) (by exact ha) (by decide) (by rfl)) trivial ?_
  refine pj_J.go (oX19_does G) 1 rfl trivial ?_
  refine pj_J.neg (by rw [ev]; exact nI_lt_lit hk (by omega)) ?_
  refine pj_J.go (oX19_does G) 3 rfl trivial ?_
  refine pj_J.go1 (pc := 15) (oX19_does G) rfl (po_getD (lo := 5) (hi := 17) (k := 1) (n := 18) (by exact ha) (by decide) (by rfl)) trivial ?_
  refine pj_J.go (oX19_does G) 3 rfl ⟨by exact hs, trivial⟩ ?_
  refine pj_J.go1 (pc := 21) (oX19_does G) rfl (po_getD (lo := 5) (hi := 17) (k := 2) (n := 24) (by exact ha) (by decide) (by rfl)) trivial ?_
  refine pj_J.cal0 kX19_does_24 (c_X2_p_0 (c := c) t ht) ⟨_, _, _, rfl, rfl⟩ pj_le0 pj_le0 pj_le0 ?_
  refine pj_J.go (oX19_does G) 5 rfl trivial ?_
  refine pj_J.go1 (pc := 34) (oX19_does G) rfl (po_getD (lo := 5) (hi := 17) (k := 1) (n := 37) (by exact ha) (by decide) (by rfl)) trivial ?_
  refine pj_J.go (oX19_does G) 3 rfl ⟨by exact hs, trivial⟩ ?_
  refine pj_J.go1 (pc := 40) (oX19_does G) rfl (po_getD (lo := 5) (hi := 17) (k := 2) (n := 43) (by exact ha) (by decide) (by rfl)) trivial ?_
  refine pj_J.cal0 kX19_does_43 (c_X2_q_0 (c := c) t ht) ⟨_, _, _, rfl, rfl⟩ pj_le0 pj_le0 pj_le0 ?_
  refine pj_J.go (oX19_does G) 3 rfl trivial ?_
  refine pj_J.cal0 kX19_does_49 (c_X1_whole ((sx_L (sx_R c 0) 0 s.toNatClampNeg) * (sx_I c.1 0 t.toNatClampNeg).toInt64) ((sx_L (sx_R c 0) 1 s.toNatClampNeg) * (sx_I c.1 1 t.toNatClampNeg).toInt64) (1 : Int32) hO.1) trivial pj_le0 pj_le0 pj_le0 ?_
  refine pj_J.go (oX19_does G) 3 rfl trivial ?_
  refine pj_J.go1 (pc := 55) (oX19_does G) rfl (po_getD (lo := 5) (hi := 17) (k := 1) (n := 58) (by exact ha) (by decide) (by rfl)) trivial ?_
  refine pj_J.go (oX19_does G) 3 rfl trivial ?_
  refine pj_J.go1 (pc := 63) (oX19_does G) rfl (po_getD (lo := 5) (hi := 17) (k := 1) (n := 66) (by exact ha) (by decide) (by rfl)) trivial ?_
  refine pj_J.go (oX19_does G) 5 rfl ⟨by exact hs, trivial⟩ ?_
  refine pj_J.go1 (pc := 73) (oX19_does G) rfl (po_getD (lo := 5) (hi := 17) (k := 1) (n := 76) (by exact ha) (by decide) (by rfl)) trivial ?_
  refine pj_J.go (oX19_does G) 6 rfl ⟨by exact hs, trivial⟩ ?_
  refine pj_J.go1 (pc := 84) (oX19_does G) rfl (po_getD (lo := 5) (hi := 17) (k := 1) (n := 87) (by exact ha) (by decide) (by rfl)) trivial ?_
  refine pj_J.go (oX19_does G) 1 rfl ⟨by exact hs, trivial⟩ ?_
  refine pj_J.cal0 kX19_does_88 (c_X2_put_0 (c := c) s ((sx_L (sx_R c 0) 0 s.toNatClampNeg) + ((fc_whole ((sx_L (sx_R c 0) 0 s.toNatClampNeg) * (sx_I c.1 0 t.toNatClampNeg).toInt64) ((sx_L (sx_R c 0) 1 s.toNatClampNeg) * (sx_I c.1 1 t.toNatClampNeg).toInt64) (1 : Int32)) * (sx_L (sx_R c 0) 1 s.toNatClampNeg))) (sx_L (sx_R c 0) 1 s.toNatClampNeg) hs hO.2.1 hO.2.2) ⟨_, _, _, rfl, rfl⟩ pj_le0 pj_le0 pj_le0 ?_
  refine pj_J.go (oX19_does G) 3 rfl trivial ?_
  refine pj_J.ite (fun hc95 => ?_) (fun hc95 => ?_)
  · skip
    refine pj_J.go (oX19_does G) 2 rfl trivial ?_
    exact pj_J.drp (kk hc95) ⟨rfl, rfl, rfl, trivial⟩
  · skip
    refine pj_J.go (oX19_does G) 1 rfl trivial ?_
    exact pj_iret dX19_does_100 rfl (q hc95)
theorem lz_fa_day_0 {G : pj_G} {d : Nat} {c : sx_C} {m : sx_M} {o : Nat → Int64} {D : pj_H} {Q : pj_O → pj_H → Prop} {i : Nat} {kd s t v : Int32} (ha : D[i]? = some (.inr (17, [.int kd, .int s, .int t, .int v]))) (n : Nat) (hn : n ≤ 30) (ev : v = nI n) (q : Q (.inl (some (.int 0))) (sx_mk c m o D)) : pj_J G mX19_does (d + 3) 2 [some (.ref (i + 98)), some (.ref 10), some (.int (nI n)), none, none, none] [] (sx_mk c m o D) 0 0 Q := by
  refine pj_J.go (oX19_does G) 2 rfl trivial ?_
  refine pj_J.go1 (pc := 4) (oX19_does G) rfl (po_getD (lo := 5) (hi := 17) (k := 3) (n := 7) (by exact ha) (by decide) (by rfl)) trivial ?_
  refine pj_J.go (oX19_does G) 1 rfl trivial ?_
  refine pj_J.pos (by rw [ev]; exact nI_ge_lit (Nat.le_refl _) (by omega)) ?_
  refine pj_J.go (oX19_does G) 1 rfl trivial ?_
  exact pj_iret dX19_does_108 rfl q
theorem lp_fa_day_0 {G : pj_G} {d : Nat} {c : sx_C} {m : sx_M} {o : Nat → Int64} {D : pj_H} {Q : pj_O → pj_H → Prop} {i : Nat} {kd s t v : Int32} (ha : D[i]? = some (.inr (17, [.int kd, .int s, .int t, .int v]))) (hs : vp_in s 8) (ht : vp_in t 8) (n : Nat) (hn : n ≤ 30) (ev : v = nI n) : ∀ (e k : Nat) (u : sx_M), k + e = n → fa_dayA c.1 s t e u → Q (.inl (some (.int (fa_dayL c.1 s t e u).1))) (sx_mk (sx_sR c 0 ((fa_dayL c.1 s t e u).2)) m o D) → pj_J G mX19_does (d + 3) 2 [some (.ref (i + 98)), some (.ref 10), some (.int (nI k)), none, none, none] [] (sx_mk (sx_sR c 0 u) m o D) 0 0 Q := by
  intro e
  induction e with
  | zero =>
    intro k u hk hO q
    have : k = n := by omega
    subst this
    exact lz_fa_day_0 (c := (sx_sR c 0 u)) ha k hn ev q
  | succ e ih =>
    intro k u hk hO q
    unfold fa_dayL at q
    refine lb_fa_day_0 (c := (sx_sR c 0 u)) ha hs ht n hn ev k (by omega) hO.1 (fun h => ?_) (fun h => ?_)
    · rw [if_neg (show ¬ (fa_dayP c.1 u s t).1 = 0 from h)] at q
      exact q
    · rw [if_pos (show (fa_dayP c.1 u s t).1 = 0 from h)] at q
      rw [nI_add1]
      exact ih (k + 1) _ (by omega) (hO.2 h) q
theorem c_X19_does_0 {G : pj_G} {d : Nat} {c : sx_C} {m : sx_M} {o : Nat → Int64} {D : pj_H} {i : Nat} {kd s t v : Int32} (ha : D[i]? = some (.inr (17, [.int kd, .int s, .int t, .int v]))) (hs : vp_in s 8) (ht : vp_in t 8) (hv : vp_in v 31) (hO : fa_days_ok c.1 (sx_R c 0) s t v) : pj_Rt G mX19_does (d + 3) [.ref (i + 98), .ref 10] (sx_mk c m o D) 0 0 (some (.int (fa_days c.1 (sx_R c 0) s t v).1)) (sx_mk (sx_sR c 0 ((fa_days c.1 (sx_R c 0) s t v).2)) m o D) := by
  obtain ⟨n, hn, ev⟩ := vp_in_of hv (by decide)
  unfold fa_days_ok at hO
  unfold fa_days
  rw [ev, nI_clamp (by omega)] at hO ⊢
  refine pj_Cn.start ?_
  refine pj_J.go (oX19_does G) 2 rfl trivial ?_
  refine pj_J.drop (L' := [some (.ref (i + 98)), some (.ref 10), some (.int (nI 0)), none, none, none]) ⟨rfl, rfl, rfl, trivial⟩ ?_
  exact lp_fa_day_0 ha hs ht n (by omega) ev n 0 (sx_R c 0) (by omega) hO ⟨rfl, rfl⟩
theorem lb_fa_day_1 {G : pj_G} {d : Nat} {c : sx_C} {m : sx_M} {o : Nat → Int64} {D : pj_H} {Q : pj_O → pj_H → Prop} {i : Nat} {kd s t v : Int32} (ha : D[i]? = some (.inr (17, [.int kd, .int s, .int t, .int v]))) (hs : vp_in s 8) (ht : vp_in t 8) (n : Nat) (hn : n ≤ 30) (ev : v = nI n) (k : Nat) (hk : k < n) (hO : fa_dayO c.1 (sx_R c 1) s t) (q : ¬ (fa_dayP c.1 (sx_R c 1) s t).1 = 0 → Q (.inl (some (.int (fa_dayP c.1 (sx_R c 1) s t).1))) (sx_mk (sx_sR c 1 ((fa_dayP c.1 (sx_R c 1) s t).2)) m o D)) (kk : (fa_dayP c.1 (sx_R c 1) s t).1 = 0 → pj_J G mX19_does (d + 3) 2 [some (.ref (i + 98)), some (.ref 21), some (.int (nI k + 1)), none, none, none] [] (sx_mk (sx_sR c 1 ((fa_dayP c.1 (sx_R c 1) s t).2)) m o D) 0 0 Q) : pj_J G mX19_does (d + 3) 2 [some (.ref (i + 98)), some (.ref 21), some (.int (nI k)), none, none, none] [] (sx_mk c m o D) 0 0 Q := by
  refine pj_J.go (oX19_does G) 2 rfl trivial ?_
  refine pj_J.go1 (pc := 4) (oX19_does G) rfl (po_getD (lo := 5) (hi := 17) (k := 3) (n := 7) (by exact ha) (by decide) (by rfl)) trivial ?_
  refine pj_J.go (oX19_does G) 1 rfl trivial ?_
  refine pj_J.neg (by rw [ev]; exact nI_lt_lit hk (by omega)) ?_
  refine pj_J.go (oX19_does G) 3 rfl trivial ?_
  refine pj_J.go1 (pc := 15) (oX19_does G) rfl (po_getD (lo := 5) (hi := 17) (k := 1) (n := 18) (by exact ha) (by decide) (by rfl)) trivial ?_
  refine pj_J.go (oX19_does G) 3 rfl ⟨by exact hs, trivial⟩ ?_
  refine pj_J.go1 (pc := 21) (oX19_does G) rfl (po_getD (lo := 5) (hi := 17) (k := 2) (n := 24) (by exact ha) (by decide) (by rfl)) trivial ?_
  refine pj_J.cal0 kX19_does_24 (c_X2_p_1 (c := c) t ht) ⟨_, _, _, rfl, rfl⟩ pj_le0 pj_le0 pj_le0 ?_
  refine pj_J.go (oX19_does G) 5 rfl trivial ?_
  refine pj_J.go1 (pc := 34) (oX19_does G) rfl (po_getD (lo := 5) (hi := 17) (k := 1) (n := 37) (by exact ha) (by decide) (by rfl)) trivial ?_
  refine pj_J.go (oX19_does G) 3 rfl ⟨by exact hs, trivial⟩ ?_
  refine pj_J.go1 (pc := 40) (oX19_does G) rfl (po_getD (lo := 5) (hi := 17) (k := 2) (n := 43) (by exact ha) (by decide) (by rfl)) trivial ?_
  refine pj_J.cal0 kX19_does_43 (c_X2_q_1 (c := c) t ht) ⟨_, _, _, rfl, rfl⟩ pj_le0 pj_le0 pj_le0 ?_
  refine pj_J.go (oX19_does G) 3 rfl trivial ?_
  refine pj_J.cal0 kX19_does_49 (c_X1_whole ((sx_L (sx_R c 1) 0 s.toNatClampNeg) * (sx_I c.1 0 t.toNatClampNeg).toInt64) ((sx_L (sx_R c 1) 1 s.toNatClampNeg) * (sx_I c.1 1 t.toNatClampNeg).toInt64) (1 : Int32) hO.1) trivial pj_le0 pj_le0 pj_le0 ?_
  refine pj_J.go (oX19_does G) 3 rfl trivial ?_
  refine pj_J.go1 (pc := 55) (oX19_does G) rfl (po_getD (lo := 5) (hi := 17) (k := 1) (n := 58) (by exact ha) (by decide) (by rfl)) trivial ?_
  refine pj_J.go (oX19_does G) 3 rfl trivial ?_
  refine pj_J.go1 (pc := 63) (oX19_does G) rfl (po_getD (lo := 5) (hi := 17) (k := 1) (n := 66) (by exact ha) (by decide) (by rfl)) trivial ?_
  refine pj_J.go (oX19_does G) 5 rfl ⟨by exact hs, trivial⟩ ?_
  refine pj_J.go1 (pc := 73) (oX19_does G) rfl (po_getD (lo := 5) (hi := 17) (k := 1) (n := 76) (by exact ha) (by decide) (by rfl)) trivial ?_
  refine pj_J.go (oX19_does G) 6 rfl ⟨by exact hs, trivial⟩ ?_
  refine pj_J.go1 (pc := 84) (oX19_does G) rfl (po_getD (lo := 5) (hi := 17) (k := 1) (n := 87) (by exact ha) (by decide) (by rfl)) trivial ?_
  refine pj_J.go (oX19_does G) 1 rfl ⟨by exact hs, trivial⟩ ?_
  refine pj_J.cal0 kX19_does_88 (c_X2_put_1 (c := c) s ((sx_L (sx_R c 1) 0 s.toNatClampNeg) + ((fc_whole ((sx_L (sx_R c 1) 0 s.toNatClampNeg) * (sx_I c.1 0 t.toNatClampNeg).toInt64) ((sx_L (sx_R c 1) 1 s.toNatClampNeg) * (sx_I c.1 1 t.toNatClampNeg).toInt64) (1 : Int32)) * (sx_L (sx_R c 1) 1 s.toNatClampNeg))) (sx_L (sx_R c 1) 1 s.toNatClampNeg) hs hO.2.1 hO.2.2) ⟨_, _, _, rfl, rfl⟩ pj_le0 pj_le0 pj_le0 ?_
  refine pj_J.go (oX19_does G) 3 rfl trivial ?_
  refine pj_J.ite (fun hc95 => ?_) (fun hc95 => ?_)
  · skip
    refine pj_J.go (oX19_does G) 2 rfl trivial ?_
    exact pj_J.drp (kk hc95) ⟨rfl, rfl, rfl, trivial⟩
  · skip
    refine pj_J.go (oX19_does G) 1 rfl trivial ?_
    exact pj_iret dX19_does_100 rfl (q hc95)
theorem lz_fa_day_1 {G : pj_G} {d : Nat} {c : sx_C} {m : sx_M} {o : Nat → Int64} {D : pj_H} {Q : pj_O → pj_H → Prop} {i : Nat} {kd s t v : Int32} (ha : D[i]? = some (.inr (17, [.int kd, .int s, .int t, .int v]))) (n : Nat) (hn : n ≤ 30) (ev : v = nI n) (q : Q (.inl (some (.int 0))) (sx_mk c m o D)) : pj_J G mX19_does (d + 3) 2 [some (.ref (i + 98)), some (.ref 21), some (.int (nI n)), none, none, none] [] (sx_mk c m o D) 0 0 Q := by
  refine pj_J.go (oX19_does G) 2 rfl trivial ?_
  refine pj_J.go1 (pc := 4) (oX19_does G) rfl (po_getD (lo := 5) (hi := 17) (k := 3) (n := 7) (by exact ha) (by decide) (by rfl)) trivial ?_
  refine pj_J.go (oX19_does G) 1 rfl trivial ?_
  refine pj_J.pos (by rw [ev]; exact nI_ge_lit (Nat.le_refl _) (by omega)) ?_
  refine pj_J.go (oX19_does G) 1 rfl trivial ?_
  exact pj_iret dX19_does_108 rfl q
theorem lp_fa_day_1 {G : pj_G} {d : Nat} {c : sx_C} {m : sx_M} {o : Nat → Int64} {D : pj_H} {Q : pj_O → pj_H → Prop} {i : Nat} {kd s t v : Int32} (ha : D[i]? = some (.inr (17, [.int kd, .int s, .int t, .int v]))) (hs : vp_in s 8) (ht : vp_in t 8) (n : Nat) (hn : n ≤ 30) (ev : v = nI n) : ∀ (e k : Nat) (u : sx_M), k + e = n → fa_dayA c.1 s t e u → Q (.inl (some (.int (fa_dayL c.1 s t e u).1))) (sx_mk (sx_sR c 1 ((fa_dayL c.1 s t e u).2)) m o D) → pj_J G mX19_does (d + 3) 2 [some (.ref (i + 98)), some (.ref 21), some (.int (nI k)), none, none, none] [] (sx_mk (sx_sR c 1 u) m o D) 0 0 Q := by
  intro e
  induction e with
  | zero =>
    intro k u hk hO q
    have : k = n := by omega
    subst this
    exact lz_fa_day_1 (c := (sx_sR c 1 u)) ha k hn ev q
  | succ e ih =>
    intro k u hk hO q
    unfold fa_dayL at q
    refine lb_fa_day_1 (c := (sx_sR c 1 u)) ha hs ht n hn ev k (by omega) hO.1 (fun h => ?_) (fun h => ?_)
    · rw [if_neg (show ¬ (fa_dayP c.1 u s t).1 = 0 from h)] at q
      exact q
    · rw [if_pos (show (fa_dayP c.1 u s t).1 = 0 from h)] at q
      rw [nI_add1]
      exact ih (k + 1) _ (by omega) (hO.2 h) q
theorem c_X19_does_1 {G : pj_G} {d : Nat} {c : sx_C} {m : sx_M} {o : Nat → Int64} {D : pj_H} {i : Nat} {kd s t v : Int32} (ha : D[i]? = some (.inr (17, [.int kd, .int s, .int t, .int v]))) (hs : vp_in s 8) (ht : vp_in t 8) (hv : vp_in v 31) (hO : fa_days_ok c.1 (sx_R c 1) s t v) : pj_Rt G mX19_does (d + 3) [.ref (i + 98), .ref 21] (sx_mk c m o D) 0 0 (some (.int (fa_days c.1 (sx_R c 1) s t v).1)) (sx_mk (sx_sR c 1 ((fa_days c.1 (sx_R c 1) s t v).2)) m o D) := by
  obtain ⟨n, hn, ev⟩ := vp_in_of hv (by decide)
  unfold fa_days_ok at hO
  unfold fa_days
  rw [ev, nI_clamp (by omega)] at hO ⊢
  refine pj_Cn.start ?_
  refine pj_J.go (oX19_does G) 2 rfl trivial ?_
  refine pj_J.drop (L' := [some (.ref (i + 98)), some (.ref 21), some (.int (nI 0)), none, none, none]) ⟨rfl, rfl, rfl, trivial⟩ ?_
  exact lp_fa_day_1 ha hs ht n (by omega) ev n 0 (sx_R c 1) (by omega) hO ⟨rfl, rfl⟩
theorem lb_fa_day_2 {G : pj_G} {d : Nat} {c : sx_C} {m : sx_M} {o : Nat → Int64} {D : pj_H} {Q : pj_O → pj_H → Prop} {i : Nat} {kd s t v : Int32} (ha : D[i]? = some (.inr (17, [.int kd, .int s, .int t, .int v]))) (hs : vp_in s 8) (ht : vp_in t 8) (n : Nat) (hn : n ≤ 30) (ev : v = nI n) (k : Nat) (hk : k < n) (hO : fa_dayO c.1 (sx_R c 2) s t) (q : ¬ (fa_dayP c.1 (sx_R c 2) s t).1 = 0 → Q (.inl (some (.int (fa_dayP c.1 (sx_R c 2) s t).1))) (sx_mk (sx_sR c 2 ((fa_dayP c.1 (sx_R c 2) s t).2)) m o D)) (kk : (fa_dayP c.1 (sx_R c 2) s t).1 = 0 → pj_J G mX19_does (d + 3) 2 [some (.ref (i + 98)), some (.ref 32), some (.int (nI k + 1)), none, none, none] [] (sx_mk (sx_sR c 2 ((fa_dayP c.1 (sx_R c 2) s t).2)) m o D) 0 0 Q) : pj_J G mX19_does (d + 3) 2 [some (.ref (i + 98)), some (.ref 32), some (.int (nI k)), none, none, none] [] (sx_mk c m o D) 0 0 Q := by
  refine pj_J.go (oX19_does G) 2 rfl trivial ?_
  refine pj_J.go1 (pc := 4) (oX19_does G) rfl (po_getD (lo := 5) (hi := 17) (k := 3) (n := 7) (by exact ha) (by decide) (by rfl)) trivial ?_
  refine pj_J.go (oX19_does G) 1 rfl trivial ?_
  refine pj_J.neg (by rw [ev]; exact nI_lt_lit hk (by omega)) ?_
  refine pj_J.go (oX19_does G) 3 rfl trivial ?_
  refine pj_J.go1 (pc := 15) (oX19_does G) rfl (po_getD (lo := 5) (hi := 17) (k := 1) (n := 18) (by exact ha) (by decide) (by rfl)) trivial ?_
  refine pj_J.go (oX19_does G) 3 rfl ⟨by exact hs, trivial⟩ ?_
  refine pj_J.go1 (pc := 21) (oX19_does G) rfl (po_getD (lo := 5) (hi := 17) (k := 2) (n := 24) (by exact ha) (by decide) (by rfl)) trivial ?_
  refine pj_J.cal0 kX19_does_24 (c_X2_p_2 (c := c) t ht) ⟨_, _, _, rfl, rfl⟩ pj_le0 pj_le0 pj_le0 ?_
  refine pj_J.go (oX19_does G) 5 rfl trivial ?_
  refine pj_J.go1 (pc := 34) (oX19_does G) rfl (po_getD (lo := 5) (hi := 17) (k := 1) (n := 37) (by exact ha) (by decide) (by rfl)) trivial ?_
  refine pj_J.go (oX19_does G) 3 rfl ⟨by exact hs, trivial⟩ ?_
  refine pj_J.go1 (pc := 40) (oX19_does G) rfl (po_getD (lo := 5) (hi := 17) (k := 2) (n := 43) (by exact ha) (by decide) (by rfl)) trivial ?_
  refine pj_J.cal0 kX19_does_43 (c_X2_q_2 (c := c) t ht) ⟨_, _, _, rfl, rfl⟩ pj_le0 pj_le0 pj_le0 ?_
  refine pj_J.go (oX19_does G) 3 rfl trivial ?_
  refine pj_J.cal0 kX19_does_49 (c_X1_whole ((sx_L (sx_R c 2) 0 s.toNatClampNeg) * (sx_I c.1 0 t.toNatClampNeg).toInt64) ((sx_L (sx_R c 2) 1 s.toNatClampNeg) * (sx_I c.1 1 t.toNatClampNeg).toInt64) (1 : Int32) hO.1) trivial pj_le0 pj_le0 pj_le0 ?_
  refine pj_J.go (oX19_does G) 3 rfl trivial ?_
  refine pj_J.go1 (pc := 55) (oX19_does G) rfl (po_getD (lo := 5) (hi := 17) (k := 1) (n := 58) (by exact ha) (by decide) (by rfl)) trivial ?_
  refine pj_J.go (oX19_does G) 3 rfl trivial ?_
  refine pj_J.go1 (pc := 63) (oX19_does G) rfl (po_getD (lo := 5) (hi := 17) (k := 1) (n := 66) (by exact ha) (by decide) (by rfl)) trivial ?_
  refine pj_J.go (oX19_does G) 5 rfl ⟨by exact hs, trivial⟩ ?_
  refine pj_J.go1 (pc := 73) (oX19_does G) rfl (po_getD (lo := 5) (hi := 17) (k := 1) (n := 76) (by exact ha) (by decide) (by rfl)) trivial ?_
  refine pj_J.go (oX19_does G) 6 rfl ⟨by exact hs, trivial⟩ ?_
  refine pj_J.go1 (pc := 84) (oX19_does G) rfl (po_getD (lo := 5) (hi := 17) (k := 1) (n := 87) (by exact ha) (by decide) (by rfl)) trivial ?_
  refine pj_J.go (oX19_does G) 1 rfl ⟨by exact hs, trivial⟩ ?_
  refine pj_J.cal0 kX19_does_88 (c_X2_put_2 (c := c) s ((sx_L (sx_R c 2) 0 s.toNatClampNeg) + ((fc_whole ((sx_L (sx_R c 2) 0 s.toNatClampNeg) * (sx_I c.1 0 t.toNatClampNeg).toInt64) ((sx_L (sx_R c 2) 1 s.toNatClampNeg) * (sx_I c.1 1 t.toNatClampNeg).toInt64) (1 : Int32)) * (sx_L (sx_R c 2) 1 s.toNatClampNeg))) (sx_L (sx_R c 2) 1 s.toNatClampNeg) hs hO.2.1 hO.2.2) ⟨_, _, _, rfl, rfl⟩ pj_le0 pj_le0 pj_le0 ?_
  refine pj_J.go (oX19_does G) 3 rfl trivial ?_
  refine pj_J.ite (fun hc95 => ?_) (fun hc95 => ?_)
  · skip
    refine pj_J.go (oX19_does G) 2 rfl trivial ?_
    exact pj_J.drp (kk hc95) ⟨rfl, rfl, rfl, trivial⟩
  · skip
    refine pj_J.go (oX19_does G) 1 rfl trivial ?_
    exact pj_iret dX19_does_100 rfl (q hc95)
theorem lz_fa_day_2 {G : pj_G} {d : Nat} {c : sx_C} {m : sx_M} {o : Nat → Int64} {D : pj_H} {Q : pj_O → pj_H → Prop} {i : Nat} {kd s t v : Int32} (ha : D[i]? = some (.inr (17, [.int kd, .int s, .int t, .int v]))) (n : Nat) (hn : n ≤ 30) (ev : v = nI n) (q : Q (.inl (some (.int 0))) (sx_mk c m o D)) : pj_J G mX19_does (d + 3) 2 [some (.ref (i + 98)), some (.ref 32), some (.int (nI n)), none, none, none] [] (sx_mk c m o D) 0 0 Q := by
  refine pj_J.go (oX19_does G) 2 rfl trivial ?_
  refine pj_J.go1 (pc := 4) (oX19_does G) rfl (po_getD (lo := 5) (hi := 17) (k := 3) (n := 7) (by exact ha) (by decide) (by rfl)) trivial ?_
  refine pj_J.go (oX19_does G) 1 rfl trivial ?_
  refine pj_J.pos (by rw [ev]; exact nI_ge_lit (Nat.le_refl _) (by omega)) ?_
  refine pj_J.go (oX19_does G) 1 rfl trivial ?_
  exact pj_iret dX19_does_108 rfl q
theorem lp_fa_day_2 {G : pj_G} {d : Nat} {c : sx_C} {m : sx_M} {o : Nat → Int64} {D : pj_H} {Q : pj_O → pj_H → Prop} {i : Nat} {kd s t v : Int32} (ha : D[i]? = some (.inr (17, [.int kd, .int s, .int t, .int v]))) (hs : vp_in s 8) (ht : vp_in t 8) (n : Nat) (hn : n ≤ 30) (ev : v = nI n) : ∀ (e k : Nat) (u : sx_M), k + e = n → fa_dayA c.1 s t e u → Q (.inl (some (.int (fa_dayL c.1 s t e u).1))) (sx_mk (sx_sR c 2 ((fa_dayL c.1 s t e u).2)) m o D) → pj_J G mX19_does (d + 3) 2 [some (.ref (i + 98)), some (.ref 32), some (.int (nI k)), none, none, none] [] (sx_mk (sx_sR c 2 u) m o D) 0 0 Q := by
  intro e
  induction e with
  | zero =>
    intro k u hk hO q
    have : k = n := by omega
    subst this
    exact lz_fa_day_2 (c := (sx_sR c 2 u)) ha k hn ev q
  | succ e ih =>
    intro k u hk hO q
    unfold fa_dayL at q
    refine lb_fa_day_2 (c := (sx_sR c 2 u)) ha hs ht n hn ev k (by omega) hO.1 (fun h => ?_) (fun h => ?_)
    · rw [if_neg (show ¬ (fa_dayP c.1 u s t).1 = 0 from h)] at q
      exact q
    · rw [if_pos (show (fa_dayP c.1 u s t).1 = 0 from h)] at q
      rw [nI_add1]
      exact ih (k + 1) _ (by omega) (hO.2 h) q
theorem c_X19_does_2 {G : pj_G} {d : Nat} {c : sx_C} {m : sx_M} {o : Nat → Int64} {D : pj_H} {i : Nat} {kd s t v : Int32} (ha : D[i]? = some (.inr (17, [.int kd, .int s, .int t, .int v]))) (hs : vp_in s 8) (ht : vp_in t 8) (hv : vp_in v 31) (hO : fa_days_ok c.1 (sx_R c 2) s t v) : pj_Rt G mX19_does (d + 3) [.ref (i + 98), .ref 32] (sx_mk c m o D) 0 0 (some (.int (fa_days c.1 (sx_R c 2) s t v).1)) (sx_mk (sx_sR c 2 ((fa_days c.1 (sx_R c 2) s t v).2)) m o D) := by
  obtain ⟨n, hn, ev⟩ := vp_in_of hv (by decide)
  unfold fa_days_ok at hO
  unfold fa_days
  rw [ev, nI_clamp (by omega)] at hO ⊢
  refine pj_Cn.start ?_
  refine pj_J.go (oX19_does G) 2 rfl trivial ?_
  refine pj_J.drop (L' := [some (.ref (i + 98)), some (.ref 32), some (.int (nI 0)), none, none, none]) ⟨rfl, rfl, rfl, trivial⟩ ?_
  exact lp_fa_day_2 ha hs ht n (by omega) ev n 0 (sx_R c 2) (by omega) hO ⟨rfl, rfl⟩
