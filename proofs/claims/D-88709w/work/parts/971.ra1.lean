/-! acts: the judge's and the model's do the same. Own work. -/
set_option maxRecDepth 100000
def rl_ok (b p a : Nat) (l0 : Int32) (w u m : sx_M) (s t v : Int32) : Prop :=
  (fa_doesN a w u s t v).1 = sx_i (fm_doesK m (nI p) (nI a) s t v) 32 ∧ rl b p l0 (fa_doesN a w u s t v).2.2 (fa_doesN a w u s t v).2.1 (fm_doesK m (nI p) (nI a) s t v) ∧ rl_f b p m (fm_doesK m (nI p) (nI a) s t v) ∧
  (∃ g, (fa_doesN a w u s t v).2.2 = sx_sL w 14 g) ∧ fa_doOk a w u s t v ∧ fm_doesOk m (nI p) (nI a) s t v
theorem rl_same14 (w : sx_M) : w = sx_sL w 14 (sx_L w 14) := by
  have : va_up w.2.2.2.2.1 14 (sx_L w 14) = w.2.2.2.2.1 := by
    funext i
    unfold va_up
    by_cases h : i = 14
    · rw [if_pos h, h]
    · rw [if_neg h]
  unfold sx_sL
  rw [this]
/-- an act that leaves the judge's own fields alone -/
theorem rl_okI {b p a : Nat} {l0 : Int32} {w u m : sx_M} {s t v : Int32} {e : Int32} {x y : sx_M} (h1 : fa_doesN a w u s t v = (e, x, w)) (h2 : fm_doesK m (nI p) (nI a) s t v = y) (he : e = sx_i y 32) (hr : rl b p l0 w x y) (hf : rl_f b p m y) (o1 : fa_doOk a w u s t v) (o2 : fm_doesOk m (nI p) (nI a) s t v) : rl_ok b p a l0 w u m s t v := by
  unfold rl_ok
  rw [h1, h2]
  exact ⟨he, hr, hf, ⟨_, rl_same14 w⟩, o1, o2⟩
theorem rl_in8 {j : Nat} (h : j < 8) : vp_in (nI j) 8 := vp_in_nI h (by decide)
theorem rl_base {b p : Nat} {l0 : Int32} {w u m : sx_M} (h : rl b p l0 w u m) : (sx_i m 16 = 0 ∨ sx_i m 16 = 1) ∧ vp_in (sx_i m 17) 13 ∧ (∀ i, i < 16 → sx_I m 26 i = 0 ∨ sx_I m 26 i = 1) := by
  refine ⟨?_, ?_, h.2.1.2.2⟩
  · have := h.2.1.2.1
    rw [h.2.1.1]
    rcases (by omega : b = 0 ∨ b = 1) with rfl | rfl
    · exact Or.inl rfl
    · exact Or.inr rfl
  · rw [← h.2.2.2.2.2.1.1]; exact h.2.2.2.1.2.2.2.1
theorem rl_num {b p : Nat} {l0 : Int32} {w u m : sx_M} (h : rl b p l0 w u m) {j : Nat} (hj : j < 8) : sx_L m 19 (8 * b + j) = sx_L u 0 j ∧ sx_L m 20 (8 * b + j) = sx_L u 1 j ∧ sx_I m 26 (8 * b + j) = sx_I u 2 j ∧ sx_L m 21 (8 * b + j) = sx_L u 3 j ∧ bq (sx_L u 0 j) (2 ^ 40) ∧ bq (sx_L u 1 j) (2 ^ 20) ∧ 1 ≤ (sx_L u 1 j).toInt ∧ 0 < sx_L u 1 j ∧ (sx_I u 2 j = 0 ∨ sx_I u 2 j = 1) ∧ bq (sx_L u 3 j) (2 ^ 56) := by
  have s := h.2.2.1
  have n := h.2.2.2.1.1 j hj
  refine ⟨(s.1 j hj).symm, (s.2.1 j hj).symm, (s.2.2.1 j hj).symm, (s.2.2.2.1 j hj).symm, n.1, ?_, n.2.1, ?_, ?_, h.2.2.2.1.2.1 j hj⟩
  · have := n.2.1; have := n.2.2.1; unfold bq; omega
  · rw [pn_lt, pn_l0]; have := n.2.1; omega
  · rw [s.2.2.1 j hj]
    exact h.2.1.2.2 _ (by have := h.2.1.2.1; omega)
theorem rl_rate {b p : Nat} {l0 : Int32} {w u m : sx_M} (h : rl b p l0 w u m) {r : Nat} (hr : r < 8) : sx_I m 1 r = sx_I w 0 r ∧ sx_I m 2 r = sx_I w 1 r ∧ bq (sx_I w 0 r).toInt64 10000 ∧ bq (sx_I w 1 r).toInt64 1000 ∧ 1 ≤ (sx_I w 1 r).toInt64.toInt ∧ 0 < (sx_I w 1 r).toInt64 ∧ ¬ (sx_I w 1 r).toInt64 = 0 := by
  obtain ⟨a, c, d, e, f, g⟩ := h.1.1 r hr
  have q : 1 ≤ (sx_I w 1 r).toInt64.toInt := by rw [Int32.toInt_toInt64]; exact f
  refine ⟨a.symm, c.symm, pn_i (by omega), pn_i (by omega), q, ?_, ?_⟩
  · rw [pn_lt, pn_l0]; omega
  · intro z
    rw [z, pn_l0] at q; omega
/-- products of what is above nothing -/
theorem pn_mulP {a b : Int64} {A B : Nat} (ha : bq a A) (hb : bq b B) (h : A * B < 2 ^ 63) (pa : 1 ≤ a.toInt) (pb : 1 ≤ b.toInt) : 1 ≤ (a * b).toInt ∧ 0 < a * b ∧ ¬ a * b = 0 := by
  have e := pn_mulI ha hb h
  have q : 1 ≤ (a * b).toInt := by
    rw [e]
    have := Int.mul_le_mul pa pb (by omega) (by omega)
    omega
  refine ⟨q, ?_, ?_⟩
  · rw [pn_lt, pn_l0]; omega
  · intro z
    rw [z, pn_l0] at q; omega
/-- an act ends by a slot written and shown so, or it fails -/
theorem rl_fin {b p : Nat} {l0 : Int32} {w u m : sx_M} (h : rl b p l0 w u m) (h0 : sx_i m 32 = 0) {j : Nat} (hj : j < 8) {n d : Int64} (hd : 0 < d) {how : Int32} (hh : how = 0 ∨ how = 1) :
    ∃ e x y, (if (fr_put u (nI j) n d).1 = 0 then ((fr_put u (nI j) n d).1, fr_show (fr_put u (nI j) n d).2 (nI j) how) else ((fr_put u (nI j) n d).1, (fr_put u (nI j) n d).2)) = (e, x) ∧
      (if (fm_becomes m (nI j) n d).1 = 0 then (fm_becomes m (nI j) n d).2 else fm_showA (fm_becomes m (nI j) n d).2 (8 * b + j) how) = y ∧ e = sx_i y 32 ∧ rl b p l0 w x y ∧ rl_f b p m y := by
  rcases rl_put h hj (n := n) hd with ⟨a, c, hn, _, _, e1, e2⟩ | ⟨e1, e2⟩
  · rw [e1, e2]
    obtain ⟨r1, f1, k1⟩ := rl_set h hj hn
    obtain ⟨r2, f2, k2⟩ := rl_show r1 hj hh
    refine ⟨0, _, _, if_pos rfl, if_neg (by decide : ¬ (1 : Int32) = 0), ?_, r2, f1.tr f2⟩
    rw [k2, k1, h0]
  · rw [e1, e2]
    obtain ⟨r1, f1, k1⟩ := rl_bad h (-6)
    exact ⟨-6, _, _, if_neg (by decide : ¬ (-6 : Int32) = 0), if_pos rfl, k1.symm, r1, f1⟩
/-- the same without showing -/
theorem rl_fin0 {b p : Nat} {l0 : Int32} {w u m : sx_M} (h : rl b p l0 w u m) (h0 : sx_i m 32 = 0) {j : Nat} (hj : j < 8) {n d : Int64} (hd : 0 < d) :
    (fr_put u (nI j) n d).1 = sx_i (fm_becomes m (nI j) n d).2 32 ∧ rl b p l0 w (fr_put u (nI j) n d).2 (fm_becomes m (nI j) n d).2 ∧ rl_f b p m (fm_becomes m (nI j) n d).2 := by
  rcases rl_put h hj (n := n) hd with ⟨a, c, hn, _, _, e1, e2⟩ | ⟨e1, e2⟩
  · rw [e1, e2]
    obtain ⟨r1, f1, k1⟩ := rl_set h hj hn
    exact ⟨by show (0 : Int32) = _; rw [k1, h0], r1, f1⟩
  · rw [e1, e2]
    obtain ⟨r1, f1, k1⟩ := rl_bad h (-6)
    exact ⟨k1.symm, r1, f1⟩
theorem fm_showE {b p : Nat} {l0 : Int32} {w u m : sx_M} (h : rl b p l0 w u m) {j : Nat} (hj : j < 8) (v : Int32) : fm_show m (nI j) v = fm_showA m (8 * b + j) v := by
  unfold fm_show fm_showA
  rw [rl_ix h.2.1 hj]
/-- Rated -/
theorem ra_3 {b p : Nat} {l0 : Int32} {w u m : sx_M} (h : rl b p l0 w u m) (h0 : sx_i m 32 = 0) {j i r : Nat} (hj : j < 8) (hi : i < 8) (hr : r < 8) : rl_ok b p 3 l0 w u m (nI j) (nI i) (nI r) := by
  obtain ⟨a1, a2, a3, a4, a5, a6, a7, a8, a9, a10⟩ := rl_num h hi
  obtain ⟨r1, r2, r3, r4, r5, r6, r7⟩ := rl_rate h hr
  have hn := pn_mul a5 r3 (by decide)
  have hd := pn_mulP a6 r4 (by decide) a7 r5
  obtain ⟨e, x, y, q1, q2, q3, q4, q5⟩ := rl_fin h h0 hj (n := sx_L u 0 i * (sx_I w 0 r).toInt64) hd.2.1 a9
  have E2 : fm_doesK m (nI p) (nI 3) (nI j) (nI i) (nI r) = y := by
    show fm_rates m (nI j) (nI i) (nI r) = y
    unfold fm_rates fm_ratesF
    rw [rl_ix h.2.1 hi, rl_c (show r < 100000 by omega), a1, a2, a3, r1, r2, ← q2]
    rcases rl_put h hj (n := sx_L u 0 i * (sx_I w 0 r).toInt64) hd.2.1 with ⟨a, c, hn, _, _, e1, e2⟩ | ⟨e1, e2⟩
    · rw [e2]
      dsimp only; rw [if_neg (by decide : ¬ (1 : Int32) = 0), if_neg (by decide : ¬ (1 : Int32) = 0), fm_showE (rl_set h hj hn).1 hj]
    · rw [e2]; rfl
  refine rl_okI (e := e) (x := x) (y := y) ?_ E2 q3 q4 q5 ⟨rl_in8 hj, ⟨rl_in8 hi, rl_in8 hr⟩, ?_⟩ ?_
  · show ((fa_rated w u (nI j) (nI i) (nI r)).1, (fa_rated w u (nI j) (nI i) (nI r)).2, w) = _
    have : fa_rated w u (nI j) (nI i) (nI r) = (e, x) := by
      unfold fa_rated
      rw [rl_c (show i < 100000 by omega), rl_c (show r < 100000 by omega)]
      exact q1
    rw [this]
  · unfold fa_rated_ok
    rw [rl_c (show i < 100000 by omega), rl_c (show r < 100000 by omega)]
    exact ⟨pn_lo hn (by decide), hd.2.1, True.intro⟩
  · have S : vp_in (nI i) 8 ∧ vp_in (nI r) 8 ∧ fm_lo (sx_L m 19 (8 * sx_i m 16 + nI i).toNatClampNeg * (sx_I m 1 (nI r).toNatClampNeg).toInt64) ∧ 0 < sx_L m 20 (8 * sx_i m 16 + nI i).toNatClampNeg * (sx_I m 2 (nI r).toNatClampNeg).toInt64 := by
      rw [rl_ix h.2.1 hi, rl_c (show r < 100000 by omega), a1, a2, r1, r2]
      exact ⟨rl_in8 hi, rl_in8 hr, pn_lo hn (by decide), hd.2.1⟩
    exact ⟨(rl_base h).1, rl_in8 hj, (rl_base h).2.1, (rl_base h).2.2, fun q => absurd q (by decide), fun q => absurd q (by decide), fun q => absurd q (by decide), fun _ => S, fun q => absurd q (by decide), fun q => absurd q (by decide), fun q => absurd q (by decide), fun q => absurd q (by decide), fun q => absurd q (by decide), fun q => absurd q (by decide), fun q => absurd q (by decide), fun q => absurd q (by decide)⟩
/-- Rounded -/
theorem ra_4 {b p : Nat} {l0 : Int32} {w u m : sx_M} (h : rl b p l0 w u m) (h0 : sx_i m 32 = 0) {j : Nat} (hj : j < 8) (t : Int32) {v : Int32} (v1 : 1 ≤ v.toInt) (v2 : v.toInt ≤ 100) : rl_ok b p 4 l0 w u m (nI j) t v := by
  obtain ⟨a1, a2, a3, a4, a5, a6, a7, a8, a9, a10⟩ := rl_num h hj
  have bv : bq v.toInt64 100 := pn_i (by omega)
  have pv : 1 ≤ v.toInt64.toInt := by rw [Int32.toInt_toInt64]; exact v1
  have hd := pn_mulP a6 bv (by decide) a7 pv
  have hw : fc_whole (sx_L u 0 j) (sx_L u 1 j * v.toInt64) t = fm_times (sx_L u 0 j) (sx_L u 1 j * v.toInt64) t := law_whole hd.2.1 t
  have hN := pn_mul (pn_timesB (md := t) hd.2.1 a5 (by decide)) bv (by decide)
  obtain ⟨q1, q2, q3⟩ := rl_fin0 h h0 hj (n := fm_times (sx_L u 0 j) (sx_L u 1 j * v.toInt64) t * v.toInt64) (d := 1) (by decide)
  have EN : fm_roundN m (8 * sx_i m 16 + nI j).toNatClampNeg t v = fm_times (sx_L u 0 j) (sx_L u 1 j * v.toInt64) t * v.toInt64 := by
    unfold fm_roundN
    rw [rl_ix h.2.1 hj, a1, a2, Int64.mul_comm]
  have E2 : fm_doesK m (nI p) (nI 4) (nI j) t v = (fm_becomes m (nI j) (fm_times (sx_L u 0 j) (sx_L u 1 j * v.toInt64) t * v.toInt64) 1).2 := by
    show (fm_becomes m (nI j) (fm_roundN m (8 * sx_i m 16 + nI j).toNatClampNeg t v) 1).2 = _
    rw [EN]
  refine rl_okI (e := _) (x := _) ?_ E2 q1 q2 q3 ⟨rl_in8 hj, True.intro, ?_⟩ ?_
  · show ((fa_rounded w u (nI j) t v).1, (fa_rounded w u (nI j) t v).2, w) = _
    unfold fa_rounded
    rw [rl_c (show j < 100000 by omega), hw]
  · unfold fa_rounded_ok
    rw [rl_c (show j < 100000 by omega), hw]
    exact ⟨hd.2.2, pn_lo hN (by decide), True.intro⟩
  · have S : ¬ sx_L m 20 (8 * sx_i m 16 + nI j).toNatClampNeg * v.toInt64 = 0 ∧ fm_lo (fm_roundN m (8 * sx_i m 16 + nI j).toNatClampNeg t v) := by
      rw [EN, rl_ix h.2.1 hj, a2]
      exact ⟨hd.2.2, pn_lo hN (by decide)⟩
    exact ⟨(rl_base h).1, rl_in8 hj, (rl_base h).2.1, (rl_base h).2.2, fun q => absurd q (by decide), fun q => absurd q (by decide), fun q => absurd q (by decide), fun q => absurd q (by decide), fun _ => S, fun q => absurd q (by decide), fun q => absurd q (by decide), fun q => absurd q (by decide), fun q => absurd q (by decide), fun q => absurd q (by decide), fun q => absurd q (by decide), fun q => absurd q (by decide)⟩
/-- Part -/
theorem ra_7 {b p : Nat} {l0 : Int32} {w u m : sx_M} (h : rl b p l0 w u m) (h0 : sx_i m 32 = 0) {j i : Nat} (hj : j < 8) (hi : i < 8) (v : Int32) : rl_ok b p 7 l0 w u m (nI j) (nI i) v := by
  obtain ⟨a1, a2, a3, a4, a5, a6, a7, a8, a9, a10⟩ := rl_num h hi
  have hs : sx_i u 4 = 0 ∨ sx_i u 4 = 1 := by rw [h.2.2.2.2.1.1]; exact h.2.2.2.2.1.2.1
  obtain ⟨e, x, y, q1, q2, q3, q4, q5⟩ := rl_fin h h0 hj (n := sx_L u 3 i) (d := 1) (by decide) hs
  have EP : fm_pt m (nI i) = sx_L u 3 i := by
    unfold fm_pt
    rw [rl_ix h.2.1 hi, a4]
  have E2 : fm_doesK m (nI p) (nI 7) (nI j) (nI i) v = y := by
    show (if (fm_becomes m (nI j) (fm_pt m (nI i)) 1).1 = 0 then (fm_becomes m (nI j) (fm_pt m (nI i)) 1).2 else fm_showA (fm_becomes m (nI j) (fm_pt m (nI i)) 1).2 (8 * sx_i m 16 + nI j).toNatClampNeg (sx_i (fm_becomes m (nI j) (fm_pt m (nI i)) 1).2 28)) = y
    rw [rl_ix h.2.1 hj, EP, ← q2]
    rcases rl_put h hj (n := sx_L u 3 i) (d := 1) (by decide) with ⟨a, c, hn, _, _, e1, e2⟩ | ⟨e1, e2⟩
    · rw [e2, h.2.2.2.2.1.1]
      rfl
    · rw [e2]
      rfl
  refine rl_okI (e := e) (x := x) (y := y) ?_ E2 q3 q4 q5 ⟨rl_in8 hj, rl_in8 hi, ?_⟩ ?_
  · show ((fa_part w u (nI j) (nI i) v).1, (fa_part w u (nI j) (nI i) v).2, w) = _
    have : fa_part w u (nI j) (nI i) v = (e, x) := by
      unfold fa_part
      rw [rl_c (show i < 100000 by omega), ← q1]
      rcases rl_put h hj (n := sx_L u 3 i) (d := 1) (by decide) with ⟨a, c, hn, _, _, e1, e2⟩ | ⟨e1, e2⟩
      · rw [e1]; rfl
      · rw [e1]
    rw [this]
  · unfold fa_part_ok
    rw [rl_c (show i < 100000 by omega)]
    exact ⟨pn_lo a10 (by decide), True.intro⟩
  · have S : vp_in (nI i) 8 ∧ fm_lo (fm_pt m (nI i)) := by
      rw [EP]
      exact ⟨rl_in8 hi, pn_lo a10 (by decide)⟩
    exact ⟨(rl_base h).1, rl_in8 hj, (rl_base h).2.1, (rl_base h).2.2, fun q => absurd q (by decide), fun q => absurd q (by decide), fun q => absurd q (by decide), fun q => absurd q (by decide), fun q => absurd q (by decide), fun q => absurd q (by decide), fun q => absurd q (by decide), fun _ => S, fun q => absurd q (by decide), fun q => absurd q (by decide), fun q => absurd q (by decide), fun q => absurd q (by decide)⟩
/-- Show -/
theorem ra_11 {b p : Nat} {l0 : Int32} {w u m : sx_M} (h : rl b p l0 w u m) (h0 : sx_i m 32 = 0) {j i : Nat} (hj : j < 8) (hi : i < 8) (v : Int32) : rl_ok b p 11 l0 w u m (nI j) (nI i) v := by
  obtain ⟨a1, a2, a3, a4, a5, a6, a7, a8, a9, a10⟩ := rl_num h hi
  have hw : fc_whole (sx_L u 0 i) (sx_L u 1 i) v = fm_times (sx_L u 0 i) (sx_L u 1 i) v := law_whole a8 v
  have hN := pn_timesB (md := v) a8 a5 (by decide)
  have hd0 : ¬ sx_L u 1 i = 0 := fun z => by rw [z, pn_l0] at a7; omega
  obtain ⟨e, x, y, q1, q2, q3, q4, q5⟩ := rl_fin h h0 hj (n := fm_times (sx_L u 0 i) (sx_L u 1 i) v) (d := 1) (by decide) (Or.inr rfl : (1 : Int32) = 0 ∨ (1 : Int32) = 1)
  have EP : fm_showN m (nI i) v = fm_times (sx_L u 0 i) (sx_L u 1 i) v := by
    unfold fm_showN
    rw [rl_ix h.2.1 hi, a1, a2]
  have E2 : fm_doesK m (nI p) (nI 11) (nI j) (nI i) v = y := by
    show (if (fm_becomes m (nI j) (fm_showN m (nI i) v) 1).1 = 0 then (fm_becomes m (nI j) (fm_showN m (nI i) v) 1).2 else fm_showA (fm_becomes m (nI j) (fm_showN m (nI i) v) 1).2 (8 * sx_i m 16 + nI j).toNatClampNeg 1) = y
    rw [rl_ix h.2.1 hj, EP, ← q2]
  refine rl_okI (e := e) (x := x) (y := y) ?_ E2 q3 q4 q5 ⟨rl_in8 hj, rl_in8 hi, ?_⟩ ?_
  · show ((fa_show w u (nI j) (nI i) v).1, (fa_show w u (nI j) (nI i) v).2, w) = _
    have : fa_show w u (nI j) (nI i) v = (e, x) := by
      unfold fa_show
      rw [rl_c (show i < 100000 by omega), hw]
      exact q1
    rw [this]
  · unfold fa_show_ok
    rw [rl_c (show i < 100000 by omega), hw]
    exact ⟨hd0, pn_lo hN (by decide), True.intro⟩
  · have S : vp_in (nI i) 8 ∧ ¬ sx_L m 20 (8 * sx_i m 16 + nI i).toNatClampNeg = 0 ∧ fm_lo (fm_showN m (nI i) v) := by
      rw [EP, rl_ix h.2.1 hi, a2]
      exact ⟨rl_in8 hi, hd0, pn_lo hN (by decide)⟩
    exact ⟨(rl_base h).1, rl_in8 hj, (rl_base h).2.1, (rl_base h).2.2, fun q => absurd q (by decide), fun q => absurd q (by decide), fun q => absurd q (by decide), fun q => absurd q (by decide), fun q => absurd q (by decide), fun q => absurd q (by decide), fun q => absurd q (by decide), fun q => absurd q (by decide), fun q => absurd q (by decide), fun q => absurd q (by decide), fun _ => S, fun q => absurd q (by decide)⟩
/-- Added -/
theorem pn_1mul (a : Int64) : 1 * a = a := Int64.one_mul a
theorem pn_m1mul (a : Int64) : -1 * a = -a := by rw [Int64.neg_mul, Int64.one_mul]
theorem ra_5 {b p : Nat} {l0 : Int32} {w u m : sx_M} (h : rl b p l0 w u m) (h0 : sx_i m 32 = 0) {j i : Nat} (hj : j < 8) (hi : i < 8) (v : Int32) : rl_ok b p 5 l0 w u m (nI j) (nI i) v := by
  obtain ⟨a1, a2, a3, a4, a5, a6, a7, a8, a9, a10⟩ := rl_num h hi
  obtain ⟨c1, c2, c3, c4, c5, c6, c7, c8, c9, c10⟩ := rl_num h hj
  have hd := pn_mulP c6 a6 (by decide) c7 a7
  have x1 := pn_mul c5 a6 (by decide)
  have x2 := pn_mul a5 c6 (by decide)
  generalize hN : (sx_L u 0 j * sx_L u 1 i + if v = 0 then sx_L u 0 i * sx_L u 1 j else -(sx_L u 0 i * sx_L u 1 j)) = N
  have bN : bq N (2 ^ 40 * 2 ^ 20 + 2 ^ 40 * 2 ^ 20) := by
    rw [← hN]
    refine pn_add x1 ?_ (by decide)
    split
    · exact x2
    · exact pn_neg x2 (by decide)
  have hH : (if sx_I u 2 j = 0 then (if sx_I u 2 i = 0 then (0 : Int32) else 1) else 1) = 0 ∨ (if sx_I u 2 j = 0 then (if sx_I u 2 i = 0 then (0 : Int32) else 1) else 1) = 1 := by
    repeat' split
    all_goals decide
  obtain ⟨e, x, y, q1, q2, q3, q4, q5⟩ := rl_fin h h0 hj (n := N) hd.2.1 hH
  have EN : fm_addsN m (nI j) (nI i) v = N := by
    unfold fm_addsN
    rw [rl_ix h.2.1 hi, rl_ix h.2.1 hj, a1, a2, c1, c2, hN]
  have ED : fm_addsD m (nI j) (nI i) = sx_L u 1 j * sx_L u 1 i := by
    unfold fm_addsD
    rw [rl_ix h.2.1 hi, rl_ix h.2.1 hj, a2, c2]
  have EH : fm_addsH m (nI j) (nI i) = (if sx_I u 2 j = 0 then (if sx_I u 2 i = 0 then (0 : Int32) else 1) else 1) := by
    unfold fm_addsH
    rw [rl_ix h.2.1 hi, rl_ix h.2.1 hj, a3, c3]
  have E2 : fm_doesK m (nI p) (nI 5) (nI j) (nI i) v = y := by
    show fm_adds m (nI j) (nI i) v = y
    unfold fm_adds
    rw [rl_ix h.2.1 hj, EN, ED, EH, ← q2]
  refine rl_okI (e := e) (x := x) (y := y) ?_ E2 q3 q4 q5 ⟨rl_in8 hj, rl_in8 hi, ?_⟩ ?_
  · show ((fa_added w u (nI j) (nI i) v).1, (fa_added w u (nI j) (nI i) v).2, w) = _
    have : fa_added w u (nI j) (nI i) v = (e, x) := by
      unfold fa_added
      rw [rl_c (show i < 100000 by omega), rl_c (show j < 100000 by omega), ← q1]
      simp only [pn_1mul, pn_m1mul, Int64.neg_mul]
      by_cases hv : v = 0
      · rw [if_pos hv] at hN
        simp only [if_pos hv, hN]
        repeat' split
        all_goals rfl
      · rw [if_neg hv] at hN
        simp only [if_neg hv, hN]
        repeat' split
        all_goals rfl
    rw [this]
  · unfold fa_added_ok
    rw [rl_c (show i < 100000 by omega), rl_c (show j < 100000 by omega)]
    simp only [pn_1mul, pn_m1mul, Int64.neg_mul]
    by_cases hv : v = 0
    · rw [if_pos hv] at hN
      rw [hN]
      have := pn_lo bN (by decide)
      simp [hv, this, hd.2.1]
    · rw [if_neg hv] at hN
      rw [hN]
      have := pn_lo bN (by decide)
      simp [hv, this, hd.2.1]
  · have S : vp_in (nI i) 8 ∧ fm_lo (fm_addsN m (nI j) (nI i) v) ∧ 0 < fm_addsD m (nI j) (nI i) := by
      rw [EN, ED]
      exact ⟨rl_in8 hi, pn_lo bN (by decide), hd.2.1⟩
    exact ⟨(rl_base h).1, rl_in8 hj, (rl_base h).2.1, (rl_base h).2.2, fun q => absurd q (by decide), fun q => absurd q (by decide), fun q => absurd q (by decide), fun q => absurd q (by decide), fun q => absurd q (by decide), fun _ => S, fun q => absurd q (by decide), fun q => absurd q (by decide), fun q => absurd q (by decide), fun q => absurd q (by decide), fun q => absurd q (by decide), fun q => absurd q (by decide)⟩
