/-! acts: Cap, Book, Carry, Days. Own work. -/
set_option maxRecDepth 100000
/-- Cap -/
theorem ra_9 {b p : Nat} {l0 : Int32} {w u m : sx_M} (h : rl b p l0 w u m) (h0 : sx_i m 32 = 0) {j : Nat} (hj : j < 8) (t : Int32) {v : Int32} (v1 : 0 ≤ v.toInt) (v2 : v.toInt ≤ 1000000) : rl_ok b p 9 l0 w u m (nI j) t v := by
  obtain ⟨a1, a2, a3, a4, a5, a6, a7, a8, a9, a10⟩ := rl_num h hj
  have bv : bq v.toInt64 (2 ^ 40) := pn_i (by omega)
  have lo := pn_lo bv (by decide)
  obtain ⟨n1, e1, e2⟩ := rl_putW h hj bv
  obtain ⟨r1, f1, k1⟩ := rl_set h hj n1
  have eY : fm_capY m (nI j) v.toInt64 = rm_set m (8 * b + j) v.toInt64 1 := by
    unfold fm_capY
    rw [rl_ix h.2.1 hj]; rfl
  have hok : fa_doOk 9 w u (nI j) t v := ⟨rl_in8 hj, True.intro, fun _ _ => lo, fun _ _ => lo, True.intro⟩
  have hok2 : fm_doesOk m (nI p) (nI 9) (nI j) t v := ⟨(rl_base h).1, rl_in8 hj, (rl_base h).2.1, (rl_base h).2.2, fun q => absurd q (by decide), fun q => absurd q (by decide), fun q => absurd q (by decide), fun q => absurd q (by decide), fun q => absurd q (by decide), fun q => absurd q (by decide), fun q => absurd q (by decide), fun q => absurd q (by decide), fun q => absurd q (by decide), fun q => absurd q (by decide), fun q => absurd q (by decide), fun q => absurd q (by decide)⟩
  have E1 : fa_doesN 9 w u (nI j) t v = ((fa_cap w u (nI j) t v).1, (fa_cap w u (nI j) t v).2, w) := rfl
  have E2 : fm_doesK m (nI p) (nI 9) (nI j) t v = fm_caps m (nI j) t v.toInt64 := rfl
  unfold fa_cap at E1
  unfold fm_caps at E2
  rw [rl_c (show j < 100000 by omega), e1] at E1
  rw [rl_ix h.2.1 hj, a1, a2, eY] at E2
  by_cases ht : t = 0
  · rw [if_pos ht] at E1 E2
    by_cases hc : sx_L u 0 j ≤ v.toInt64 * sx_L u 1 j
    · rw [if_pos hc] at E1 E2
      exact rl_okI E1 E2 h0.symm h (rl_f.refl _ _ _) hok hok2
    · rw [if_neg hc] at E1 E2
      exact rl_okI E1 E2 (by rw [k1, h0]) r1 f1 hok hok2
  · rw [if_neg ht] at E1 E2
    by_cases hc : v.toInt64 * sx_L u 1 j ≤ sx_L u 0 j
    · rw [if_pos hc] at E1 E2
      exact rl_okI E1 E2 h0.symm h (rl_f.refl _ _ _) hok hok2
    · rw [if_neg hc] at E1 E2
      exact rl_okI E1 E2 (by rw [k1, h0]) r1 f1 hok hok2
/-- an account -/
theorem rl_acc {b p : Nat} {l0 : Int32} {w u m : sx_M} (h : rl b p l0 w u m) {i : Nat} (hi : i < 8) (x : Int64) (q : Int32) :
    rl b p l0 w (sx_si (sx_sL u 12 (vp_updL (sx_L u 12) i (sx_L u 12 i + x))) 13 (sx_i u 13 + q)) (sx_si (sx_sL m 23 (vp_updL (sx_L m 23) (8 * b + i) (sx_L m 23 (8 * b + i) + x))) 31 (sx_i m 31 + q)) ∧
    rl_f b p m (sx_si (sx_sL m 23 (vp_updL (sx_L m 23) (8 * b + i) (sx_L m 23 (8 * b + i) + x))) 31 (sx_i m 31 + q)) := by
  obtain ⟨hw, hh, hs, hn, hp, hb, ⟨a0, a1, a2, a3⟩⟩ := h
  refine ⟨⟨hw, hh, hs, hn, hp, hb, ⟨?_, a1, a2, ?_⟩⟩, ⟨fun i _ _ _ a _ => if_neg a, fun _ _ => rfl, rfl, fun _ _ => rfl, fun _ _ => rfl, ?_, ?_, fun _ _ => rfl, fun _ _ => ⟨rfl, rfl⟩, rfl⟩⟩
  · intro k hk
    have := a0 k hk
    have e2 := a0 i hi
    simp only [rg_LL, rg_Li]
    by_cases e : k = i
    · subst e; simp [rg_uL, e2]
    · simp [rg_uL, e, this, show ¬ (8 * b + k = 8 * b + i) by omega]
  · show sx_i u 13 + q = l0 + (sx_i m 31 + q)
    rw [a3, Int32.add_assoc]
  · intro i a
    simp only [rg_LL, rg_Li]
    rw [if_neg (by omega)]
  · intro i2 k a c
    rcases a with rfl | rfl | rfl | rfl <;> simp [rg_LL, rg_Li, rg_uL, show ¬ (k = 8 * b + i) by omega]
theorem rl_si0 (u : sx_M) (f : Nat → Int64) : sx_si (sx_sL u 12 f) 13 (sx_i u 13 + 0) = sx_sL u 12 f := by
  have : va_up (sx_sL u 12 f).1 13 (sx_i u 13 + 0) = (sx_sL u 12 f).1 := by
    funext i
    unfold va_up
    by_cases h : i = 13
    · rw [if_pos h, h, Int32.add_zero]; rfl
    · rw [if_neg h]
  unfold sx_si
  rw [this]
/-- Book -/
theorem ra_10 {b p : Nat} {l0 : Int32} {w u m : sx_M} (h : rl b p l0 w u m) (h0 : sx_i m 32 = 0) {j i : Nat} (hj : j < 8) (hi : i < 8) (v : Int32) : rl_ok b p 10 l0 w u m (nI j) (nI i) v := by
  obtain ⟨a1, a2, a3, a4, a5, a6, a7, a8, a9, a10⟩ := rl_num h hj
  have hok : fa_doOk 10 w u (nI j) (nI i) v := ⟨rl_in8 hj, rl_in8 hi, True.intro⟩
  have hok2 : fm_doesOk m (nI p) (nI 10) (nI j) (nI i) v := ⟨(rl_base h).1, rl_in8 hj, (rl_base h).2.1, (rl_base h).2.2, fun q => absurd q (by decide), fun q => absurd q (by decide), fun q => absurd q (by decide), fun q => absurd q (by decide), fun q => absurd q (by decide), fun q => absurd q (by decide), fun q => absurd q (by decide), fun q => absurd q (by decide), fun q => absurd q (by decide), fun _ => rl_in8 hi, fun q => absurd q (by decide), fun q => absurd q (by decide)⟩
  have E1 : fa_doesN 10 w u (nI j) (nI i) v = ((fa_book w u (nI j) (nI i) v).1, (fa_book w u (nI j) (nI i) v).2, w) := rfl
  have E2 : fm_doesK m (nI p) (nI 10) (nI j) (nI i) v = fm_books m (nI j) (nI i) v := rfl
  unfold fa_book fr_isWhole at E1
  unfold fm_books fm_bk at E2
  rw [rl_c (show j < 100000 by omega), rl_c (show i < 100000 by omega)] at E1
  rw [rl_ix h.2.1 hj, rl_ix h.2.1 hi, a1, a2, a3] at E2
  by_cases hd : sx_L u 1 j = 1
  · rw [if_pos hd] at E2
    rw [if_pos hd, if_neg (by decide : ¬ (1 : Int32) = 0)] at E1
    have key := fun x q => rl_acc h hi x q
    by_cases hv : v = 0
    · rw [if_pos hv] at E1 E2
      by_cases hs : sx_I u 2 j = 0
      · rw [if_pos hs] at E1 E2
        obtain ⟨r, f⟩ := key (sx_L u 0 j) 0
        rw [rl_si0] at r
        exact rl_okI E1 E2 h0.symm r f hok hok2
      · rw [if_neg hs] at E1 E2
        obtain ⟨r, f⟩ := key (sx_L u 0 j) 1
        exact rl_okI E1 E2 h0.symm r f hok hok2
    · rw [if_neg hv] at E1 E2
      by_cases hs : sx_I u 2 j = 0
      · rw [if_pos hs] at E1 E2
        obtain ⟨r, f⟩ := key (-(sx_L u 0 j)) 0
        rw [rl_si0] at r
        exact rl_okI E1 E2 h0.symm r f hok hok2
      · rw [if_neg hs] at E1 E2
        obtain ⟨r, f⟩ := key (-(sx_L u 0 j)) 1
        exact rl_okI E1 E2 h0.symm r f hok hok2
  · rw [if_neg hd] at E2
    rw [if_neg hd, if_pos rfl] at E1
    obtain ⟨r1, f1, k1⟩ := rl_bad h (-5)
    exact rl_okI E1 E2 k1.symm r1 f1 hok hok2
/-- one day -/
theorem ra_day {b p : Nat} {l0 : Int32} {w u m : sx_M} (h : rl b p l0 w u m) (h0 : sx_i m 32 = 0) {j r : Nat} (hj : j < 8) (hr : r < 8) :
    (fa_dayP w u (nI j) (nI r)).1 = sx_i (fm_day m (nI j) (nI r)) 32 ∧ rl b p l0 w (fa_dayP w u (nI j) (nI r)).2 (fm_day m (nI j) (nI r)) ∧ rl_f b p m (fm_day m (nI j) (nI r)) ∧ fa_dayO w u (nI j) (nI r) ∧ fm_dayOk m (nI j) (nI r) := by
  obtain ⟨a1, a2, a3, a4, a5, a6, a7, a8, a9, a10⟩ := rl_num h hj
  obtain ⟨r1, r2, r3, r4, r5, r6, r7⟩ := rl_rate h hr
  have hn := pn_mul a5 r3 (by decide)
  have hd := pn_mulP a6 r4 (by decide) a7 r5
  have hw : fc_whole (sx_L u 0 j * (sx_I w 0 r).toInt64) (sx_L u 1 j * (sx_I w 1 r).toInt64) 1 = fm_times (sx_L u 0 j * (sx_I w 0 r).toInt64) (sx_L u 1 j * (sx_I w 1 r).toInt64) 1 := law_whole hd.2.1 1
  have hW : bq (fm_times (sx_L u 0 j * (sx_I w 0 r).toInt64) (sx_L u 1 j * (sx_I w 1 r).toInt64) 1 * sx_L u 1 j) (2 ^ 62) := by
    have e1 := pn_mulI a6 r4 (by decide)
    have e2 : (fm_floor (sx_L u 0 j * (sx_I w 0 r).toInt64) (sx_L u 1 j * (sx_I w 1 r).toInt64)).toInt.natAbs * (sx_L u 1 j).toInt.natAbs ≤ 2 ^ 40 * 10000 + 2 ^ 20 * 1000 := by
      have hB : 0 < (sx_L u 1 j * (sx_I w 1 r).toInt64).toInt := pn_lt.mp hd.2.1
      have h1 := Int.emod_nonneg (sx_L u 0 j * (sx_I w 0 r).toInt64).toInt (Int.ne_of_gt hB)
      have h2 := Int.emod_lt_of_pos (sx_L u 0 j * (sx_I w 0 r).toInt64).toInt hB
      have h3 := Int.mul_ediv_add_emod (sx_L u 0 j * (sx_I w 0 r).toInt64).toInt (sx_L u 1 j * (sx_I w 1 r).toInt64).toInt
      have h4 := pn_mul a6 r4 (by decide)
      rw [pn_floor hd.2.1]
      unfold bq at hn h4
      generalize (sx_L u 0 j * (sx_I w 0 r).toInt64).toInt = N at *
      have h5 : (N / (sx_L u 1 j * (sx_I w 1 r).toInt64).toInt).natAbs * ((sx_L u 1 j).toInt.natAbs * (sx_I w 1 r).toInt64.toInt.natAbs) ≤ 2 ^ 40 * 10000 + 2 ^ 20 * 1000 := by
        rw [← Int.natAbs_mul (sx_L u 1 j).toInt, ← e1, ← Int.natAbs_mul, Int.mul_comm]
        omega
      have h6 : 1 ≤ (sx_I w 1 r).toInt64.toInt.natAbs := by omega
      rw [← Nat.mul_assoc] at h5
      exact Nat.le_trans (Nat.le_mul_of_pos_right _ h6) h5
    have e3 : bq (fm_floor (sx_L u 0 j * (sx_I w 0 r).toInt64) (sx_L u 1 j * (sx_I w 1 r).toInt64) * sx_L u 1 j) (2 ^ 40 * 10000 + 2 ^ 20 * 1000) := by
      unfold bq
      rw [Int64.toInt_mul, pn_bmod (by rw [Int.natAbs_mul]; exact Nat.lt_of_le_of_lt e2 (by decide)), Int.natAbs_mul]
      exact e2
    rcases pn_times (n := sx_L u 0 j * (sx_I w 0 r).toInt64) (d := sx_L u 1 j * (sx_I w 1 r).toInt64) (md := 1) with q | q
    · rw [q]; exact bq_mono e3 (by decide)
    · rw [q, Int64.add_mul, pn_1mul]; exact bq_mono (pn_add e3 a6 (by decide)) (by decide)
  have hN := pn_add a5 hW (by decide)
  obtain ⟨q1, q2, q3⟩ := rl_fin0 h h0 hj (n := sx_L u 0 j + fm_times (sx_L u 0 j * (sx_I w 0 r).toInt64) (sx_L u 1 j * (sx_I w 1 r).toInt64) 1 * sx_L u 1 j) a8
  have EM : fm_dayM m (nI j) (nI r) = fm_times (sx_L u 0 j * (sx_I w 0 r).toInt64) (sx_L u 1 j * (sx_I w 1 r).toInt64) 1 := by
    unfold fm_dayM
    rw [rl_ix h.2.1 hj, rl_c (show r < 100000 by omega), a1, a2, r1, r2]
  have E1 : fa_dayP w u (nI j) (nI r) = fr_put u (nI j) (sx_L u 0 j + fm_times (sx_L u 0 j * (sx_I w 0 r).toInt64) (sx_L u 1 j * (sx_I w 1 r).toInt64) 1 * sx_L u 1 j) (sx_L u 1 j) := by
    unfold fa_dayP
    rw [rl_c (show r < 100000 by omega), rl_c (show j < 100000 by omega), hw]
  have E2 : fm_day m (nI j) (nI r) = (fm_becomes m (nI j) (sx_L u 0 j + fm_times (sx_L u 0 j * (sx_I w 0 r).toInt64) (sx_L u 1 j * (sx_I w 1 r).toInt64) 1 * sx_L u 1 j) (sx_L u 1 j)).2 := by
    unfold fm_day
    rw [EM, rl_ix h.2.1 hj, a1, a2]
  rw [E1, E2]
  refine ⟨q1, q2, q3, ?_, ?_⟩
  · unfold fa_dayO
    rw [rl_c (show r < 100000 by omega), rl_c (show j < 100000 by omega), hw]
    exact ⟨hd.2.2, pn_lo hN (by decide), a8⟩
  · unfold fm_dayOk
    rw [EM, rl_ix h.2.1 hj, rl_c (show r < 100000 by omega), a1, a2, r2]
    exact ⟨hd.2.2, pn_lo hN (by decide), a8⟩
theorem ra_daysL {b p : Nat} {l0 : Int32} {w : sx_M} {j r : Nat} (hj : j < 8) (hr : r < 8) : ∀ (n : Nat) (u m : sx_M), rl b p l0 w u m → sx_i m 32 = 0 → (fa_dayL w (nI j) (nI r) n u).1 = sx_i (fm_daysL (nI j) (nI r) n m) 32 ∧ rl b p l0 w (fa_dayL w (nI j) (nI r) n u).2 (fm_daysL (nI j) (nI r) n m) ∧ rl_f b p m (fm_daysL (nI j) (nI r) n m) ∧ fa_dayA w (nI j) (nI r) n u
  | 0, u, m, h, h0 => ⟨h0.symm, h, rl_f.refl _ _ _, True.intro⟩
  | n + 1, u, m, h, h0 => by
    obtain ⟨q1, q2, q3, q4, q5⟩ := ra_day h h0 hj hr
    unfold fa_dayL fm_daysL fa_dayA
    rw [if_pos h0]
    by_cases hc : (fa_dayP w u (nI j) (nI r)).1 = 0
    · rw [if_pos hc]
      obtain ⟨w1, w2, w3, w4⟩ := ra_daysL hj hr n _ _ q2 (by rw [← q1]; exact hc)
      exact ⟨w1, w2, q3.tr w3, q4, fun _ => w4⟩
    · rw [if_neg hc]
      have e : fm_daysL (nI j) (nI r) n (fm_day m (nI j) (nI r)) = fm_day m (nI j) (nI r) := by
        cases n with
        | zero => rfl
        | succ n => unfold fm_daysL; rw [if_neg (by rw [← q1]; exact hc)]
      rw [e]
      exact ⟨q1, q2, q3, q4, fun q => absurd q hc⟩
/-- Days -/
theorem ra_12 {b p : Nat} {l0 : Int32} {w u m : sx_M} (h : rl b p l0 w u m) (h0 : sx_i m 32 = 0) {j r : Nat} (hj : j < 8) (hr : r < 8) {v : Int32} (hv : vp_in v 31) : rl_ok b p 12 l0 w u m (nI j) (nI r) v := by
  obtain ⟨q1, q2, q3, q4⟩ := ra_daysL (b := b) (p := p) (l0 := l0) (w := w) hj hr v.toNatClampNeg u m h h0
  refine rl_okI (e := _) (x := _) (y := _) rfl rfl q1 q2 q3 ⟨rl_in8 hj, ⟨rl_in8 hr, hv⟩, q4⟩ ?_
  have S : vp_in (nI r) 8 ∧ vp_in v 31 ∧ ∃ inv : sx_M → Prop, inv m ∧ ∀ m', inv m' → sx_i m' 16 = sx_i m 16 ∧ (sx_i m' 32 = 0 → fm_dayOk m' (nI j) (nI r) ∧ inv (fm_day m' (nI j) (nI r))) := by
    refine ⟨rl_in8 hr, hv, fun m' => ∃ u', rl b p l0 w u' m', ⟨u, h⟩, ?_⟩
    intro m' ⟨u', h'⟩
    refine ⟨by rw [h'.2.1.1, h.2.1.1], fun z => ?_⟩
    obtain ⟨w1, w2, w3, w4, w5⟩ := ra_day h' z hj hr
    exact ⟨w5, _, w2⟩
  exact ⟨(rl_base h).1, rl_in8 hj, (rl_base h).2.1, (rl_base h).2.2, fun q => absurd q (by decide), fun q => absurd q (by decide), fun q => absurd q (by decide), fun q => absurd q (by decide), fun q => absurd q (by decide), fun q => absurd q (by decide), fun q => absurd q (by decide), fun q => absurd q (by decide), fun q => absurd q (by decide), fun q => absurd q (by decide), fun q => absurd q (by decide), fun _ => S⟩
