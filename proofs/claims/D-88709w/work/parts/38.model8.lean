/-! PennyJudgeModel: taxes, days (by tools/gen_m8.py) -/
set_option maxRecDepth 100000
/-- taxes: what stands behind each line: the sum, what is up to the line, the model -/
def fm_txA (fl : Int32) (all : Int64) (x : Int32) : Int64 := if fl = 0 then x.toInt64 else all + x.toInt64
def fm_txV (m : sx_M) (r md fl : Int32) (sum all : Int64) (x : Int32) : Int64 := fm_times (fm_txA fl all x * (sx_I m 1 r.toNatClampNeg).toInt64) (sx_I m 2 r.toNatClampNeg).toInt64 md - (if fl = 0 then 0 else sum)
def fm_txB (r md fl : Int32) (k : Nat) (z : Int64 × Int64 × sx_M) : Int64 × Int64 × sx_M :=
  (z.1 + fm_txV z.2.2 r md fl z.1 z.2.1 (sx_I z.2.2 18 (nI k).toNatClampNeg), fm_txA fl z.2.1 (sx_I z.2.2 18 (nI k).toNatClampNeg),
   sx_sL z.2.2 22 (vp_updL (sx_L z.2.2 22) (12 * sx_i z.2.2 16 + nI k).toNatClampNeg (fm_txV z.2.2 r md fl z.1 z.2.1 (sx_I z.2.2 18 (nI k).toNatClampNeg))))
def fm_txZ (m : sx_M) (r md fl : Int32) : Int64 × Int64 × sx_M := it_up (fm_txB r md fl) (sx_i m 17).toNatClampNeg 0 (0, 0, m)
def fm_taxes (m : sx_M) (s r md fl : Int32) : sx_M := fm_plain (fm_txZ m r md fl).2.2 s (fm_txZ m r md fl).1
theorem vp_in_b12 {b x : Int32} (hb : b = 0 ∨ b = 1) (hx : vp_in x 12) : vp_in (12 * b + x) 24 := by
  obtain ⟨j, hj, rfl⟩ := vp_in_of hx (by decide)
  rcases hb with rfl | rfl
  · rw [show (12 * 0 + nI j : Int32) = nI j by rw [show (12 * 0 : Int32) = nI 0 from rfl, nI_add, Nat.zero_add]]
    exact vp_in_nI (by omega) (by decide)
  · rw [show (12 * 1 + nI j : Int32) = nI (12 + j) by rw [show (12 * 1 : Int32) = nI 12 from rfl, nI_add]]
    exact vp_in_nI (by omega) (by decide)
theorem c_X4_taxes0 {G : pj_G} {d : Nat} {c : sx_C} {m : sx_M} {o : Nat → Int64} {D : pj_H} (s r md : Int32) (hb : sx_i m 16 = 0 ∨ sx_i m 16 = 1) (hs : vp_in s 8) (hr : vp_in r 8) (hm : vp_in (sx_i m 17) 13) (hq : ¬ (sx_I m 2 r.toNatClampNeg).toInt64 = 0) (hn : -9223372036854775807 ≤ (fm_txZ m r md 0).1) : pj_Rt G mX4_taxes (d + 4) [.ref 59, .int s, .int r, .int md, .int 0] (sx_mk c m o D) 0 0 none (sx_mk c (fm_taxes m s r md 0) o D) := by
  refine pj_Cn.start ?_
  obtain ⟨n, hn13, e⟩ := vp_in_of hm (by decide)
  have ep : (sx_i m 17).toNatClampNeg = n := by rw [e, nI_clamp (by omega)]
  refine pj_J.go (oX4_taxes G) 6 rfl trivial ?_
  refine pj_for (fun k (z : Int64 × Int64 × sx_M) => pj_J G mX4_taxes (d + 4) 9 [some (.ref 59), some (.int s), some (.int r), some (.int md), some (.int 0), some (.long z.1), none, some (.long z.2.1), none, some (.int (nI k)), none, none] [] (sx_mk c z.2.2 o D) 0 0 _) (fm_txB r md 0) (fun _ z => sx_i z.2.2 16 = sx_i m 16 ∧ sx_i z.2.2 17 = nI n ∧ sx_I z.2.2 2 = sx_I m 2) n (fun k z hk hi => ⟨hi, fun kk => ?_⟩) n 0 (0, 0, m) (by simp) ⟨rfl, e, rfl⟩ (fun hi => ?_)
  · rw [← nI_add1] at kk
    refine pj_J.go (oX4_taxes G) 4 rfl trivial ?_
    refine pj_J.neg (by rw [hi.2.1]; exact nI_lt_lit hk (by omega)) ?_
    refine pj_J.go (oX4_taxes G) 2 rfl trivial ?_
    refine pj_J.pos (rfl) ?_
    refine pj_J.go (oX4_taxes G) 19 rfl ⟨by exact vp_in_lit (by omega), by exact hr, by exact hr, trivial⟩ ?_
    refine pj_J.cal0 kX4_taxes_65 (c_X4_times _ _ _ (by rw [hi.2.2]; exact hq)) trivial pj_le0 pj_le0 pj_le0 ?_
    refine pj_J.go (oX4_taxes G) 2 rfl trivial ?_
    refine pj_J.pos (rfl) ?_
    refine pj_J.go (oX4_taxes G) 19 rfl ⟨by exact vp_in_b12 (by rw [hi.1]; exact hb) (vp_in_lit (by omega)), trivial⟩ ?_
    refine pj_J.drop ?_ kk
    exact ⟨rfl, rfl, rfl, rfl, rfl, rfl, rfl, rfl, trivial⟩
  · skip
    refine pj_J.go (oX4_taxes G) 4 rfl trivial ?_
    refine pj_J.pos (by rw [hi.2.1]; exact nI_ge_lit (Nat.le_refl n) (by omega)) ?_
    refine pj_J.go (oX4_taxes G) 3 rfl trivial ?_
    refine pj_J.cal0 kX4_taxes_116 (c_X4_plain (m := (it_up (fm_txB r md 0) n 0 (0, 0, m)).2.2) (c := c) (o := o) (D := D) s (it_up (fm_txB r md 0) n 0 (0, 0, m)).1 (by rw [hi.1]; exact vp_in_b8 hb hs) (by unfold fm_txZ at hn; rw [ep] at hn; exact hn)) ⟨_, _, _, rfl, rfl⟩ pj_le0 pj_le0 pj_le0 ?_
    refine pj_vret dX4_taxes_119 rfl ?_
    show _ = _ ∧ _ = _
    unfold fm_taxes fm_txZ
    rw [ep]
    exact ⟨rfl, rfl⟩
theorem c_X4_taxes1 {G : pj_G} {d : Nat} {c : sx_C} {m : sx_M} {o : Nat → Int64} {D : pj_H} (s r md : Int32) (hb : sx_i m 16 = 0 ∨ sx_i m 16 = 1) (hs : vp_in s 8) (hr : vp_in r 8) (hm : vp_in (sx_i m 17) 13) (hq : ¬ (sx_I m 2 r.toNatClampNeg).toInt64 = 0) (hn : -9223372036854775807 ≤ (fm_txZ m r md 1).1) : pj_Rt G mX4_taxes (d + 4) [.ref 59, .int s, .int r, .int md, .int 1] (sx_mk c m o D) 0 0 none (sx_mk c (fm_taxes m s r md 1) o D) := by
  refine pj_Cn.start ?_
  obtain ⟨n, hn13, e⟩ := vp_in_of hm (by decide)
  have ep : (sx_i m 17).toNatClampNeg = n := by rw [e, nI_clamp (by omega)]
  refine pj_J.go (oX4_taxes G) 6 rfl trivial ?_
  refine pj_for (fun k (z : Int64 × Int64 × sx_M) => pj_J G mX4_taxes (d + 4) 9 [some (.ref 59), some (.int s), some (.int r), some (.int md), some (.int 1), some (.long z.1), none, some (.long z.2.1), none, some (.int (nI k)), none, none] [] (sx_mk c z.2.2 o D) 0 0 _) (fm_txB r md 1) (fun _ z => sx_i z.2.2 16 = sx_i m 16 ∧ sx_i z.2.2 17 = nI n ∧ sx_I z.2.2 2 = sx_I m 2) n (fun k z hk hi => ⟨hi, fun kk => ?_⟩) n 0 (0, 0, m) (by simp) ⟨rfl, e, rfl⟩ (fun hi => ?_)
  · rw [← nI_add1] at kk
    refine pj_J.go (oX4_taxes G) 4 rfl trivial ?_
    refine pj_J.neg (by rw [hi.2.1]; exact nI_lt_lit hk (by omega)) ?_
    refine pj_J.go (oX4_taxes G) 2 rfl trivial ?_
    refine pj_J.neg (by decide) ?_
    refine pj_J.go (oX4_taxes G) 22 rfl ⟨by exact vp_in_lit (by omega), by exact hr, by exact hr, trivial⟩ ?_
    refine pj_J.cal0 kX4_taxes_65 (c_X4_times _ _ _ (by rw [hi.2.2]; exact hq)) trivial pj_le0 pj_le0 pj_le0 ?_
    refine pj_J.go (oX4_taxes G) 2 rfl trivial ?_
    refine pj_J.neg (by decide) ?_
    refine pj_J.go (oX4_taxes G) 20 rfl ⟨by exact vp_in_b12 (by rw [hi.1]; exact hb) (vp_in_lit (by omega)), trivial⟩ ?_
    refine pj_J.drop ?_ kk
    exact ⟨rfl, rfl, rfl, rfl, rfl, rfl, rfl, rfl, trivial⟩
  · skip
    refine pj_J.go (oX4_taxes G) 4 rfl trivial ?_
    refine pj_J.pos (by rw [hi.2.1]; exact nI_ge_lit (Nat.le_refl n) (by omega)) ?_
    refine pj_J.go (oX4_taxes G) 3 rfl trivial ?_
    refine pj_J.cal0 kX4_taxes_116 (c_X4_plain (m := (it_up (fm_txB r md 1) n 0 (0, 0, m)).2.2) (c := c) (o := o) (D := D) s (it_up (fm_txB r md 1) n 0 (0, 0, m)).1 (by rw [hi.1]; exact vp_in_b8 hb hs) (by unfold fm_txZ at hn; rw [ep] at hn; exact hn)) ⟨_, _, _, rfl, rfl⟩ pj_le0 pj_le0 pj_le0 ?_
    refine pj_vret dX4_taxes_119 rfl ?_
    show _ = _ ∧ _ = _
    unfold fm_taxes fm_txZ
    rw [ep]
    exact ⟨rfl, rfl⟩
def fm_dayM (m : sx_M) (s r : Int32) : Int64 := fm_times (sx_L m 19 (8 * sx_i m 16 + s).toNatClampNeg * (sx_I m 1 r.toNatClampNeg).toInt64) (sx_L m 20 (8 * sx_i m 16 + s).toNatClampNeg * (sx_I m 2 r.toNatClampNeg).toInt64) 1
def fm_day (m : sx_M) (s r : Int32) : sx_M := (fm_becomes m s (sx_L m 19 (8 * sx_i m 16 + s).toNatClampNeg + fm_dayM m s r * sx_L m 20 (8 * sx_i m 16 + s).toNatClampNeg) (sx_L m 20 (8 * sx_i m 16 + s).toNatClampNeg)).2
def fm_daysL (s r : Int32) : Nat → sx_M → sx_M
  | 0, m => m
  | n + 1, m => if sx_i m 32 = 0 then fm_daysL s r n (fm_day m s r) else m
/-- what a day asks of the model -/
def fm_dayOk (m : sx_M) (s r : Int32) : Prop := ¬ sx_L m 20 (8 * sx_i m 16 + s).toNatClampNeg * (sx_I m 2 r.toNatClampNeg).toInt64 = 0 ∧ -9223372036854775807 ≤ sx_L m 19 (8 * sx_i m 16 + s).toNatClampNeg + fm_dayM m s r * sx_L m 20 (8 * sx_i m 16 + s).toNatClampNeg ∧ 0 < sx_L m 20 (8 * sx_i m 16 + s).toNatClampNeg
theorem lp_X4_days {G : pj_G} {d : Nat} {c : sx_C} {o : Nat → Int64} {D : pj_H} {Q : pj_O → pj_H → Prop} (s r : Int32) (b : Int32) (hb : b = 0 ∨ b = 1) (hs : vp_in s 8) (hr : vp_in r 8) (N : Nat) (hN : N < 2 ^ 31) (inv : sx_M → Prop) (hinv : ∀ m, inv m → sx_i m 16 = b ∧ (sx_i m 32 = 0 → fm_dayOk m s r ∧ inv (fm_day m s r))) :
    ∀ (n k : Nat) (m : sx_M), k + n = N → inv m → (∀ k', pj_J G mX4_days (d + 2) 101 [some (.ref 59), some (.int s), some (.int r), some (.int (nI N)), some (.int (8 * b + s)), some (.int (nI k')), none, none, none] [] (sx_mk c (fm_daysL s r n m) o D) 0 0 Q) →
    pj_J G mX4_days (d + 2) 14 [some (.ref 59), some (.int s), some (.int r), some (.int (nI N)), some (.int (8 * b + s)), some (.int (nI k)), none, none, none] [] (sx_mk c m o D) 0 0 Q := by
  intro n
  induction n with
  | zero =>
    intro k m hk hi q
    have : k = N := by omega
    subst this
    refine pj_J.go (oX4_days G) 3 rfl trivial ?_
    refine pj_J.pos (nI_ge_lit (Nat.le_refl _) hN) ?_
    exact q k
  | succ n ih =>
    intro k m hk hi q
    obtain ⟨hbase, hstep⟩ := hinv m hi
    subst hbase
    refine pj_J.go (oX4_days G) 3 rfl trivial ?_
    refine pj_J.neg (nI_lt_lit (by omega) hN) ?_
    refine pj_J.go (oX4_days G) 3 rfl trivial ?_
    refine pj_J.ite (fun hc24 => ?_) (fun hc24 => ?_)
    · skip
      refine pj_J.go (oX4_days G) 21 rfl ⟨by exact vp_in_b8 hb hs, by exact hr, by exact vp_in_b8 hb hs, by exact hr, trivial⟩ ?_
      refine pj_J.cal0 kX4_days_58 (c_X4_times _ _ _ (hstep hc24).1.1) trivial pj_le0 pj_le0 pj_le0 ?_
      refine pj_J.go (oX4_days G) 18 rfl ⟨by exact vp_in_b8 hb hs, by exact vp_in_b8 hb hs, by exact vp_in_b8 hb hs, trivial⟩ ?_
      refine pj_J.cal0 kX4_days_90 (c_X4_becomes (m := m) s _ _ (vp_in_b8 (by exact hb) hs) (hstep hc24).1.2.1 (hstep hc24).1.2.2) ⟨_, _, _, rfl, rfl⟩ pj_le0 pj_le0 pj_le0 ?_
      refine pj_J.go (oX4_days G) 3 rfl trivial ?_
      rw [fm_daysL, if_pos hc24] at q
      refine pj_J.drop (L' := [some (.ref 59), some (.int s), some (.int r), some (.int (nI N)), some (.int (8 * sx_i m 16 + s)), some (.int (nI (k + 1))), none, none, none]) ⟨rfl, rfl, rfl, rfl, rfl, by rw [← nI_add1], trivial⟩ (ih (k + 1) (fm_day m s r) (by omega) (hstep hc24).2 q)
    · skip
      rw [fm_daysL, if_neg hc24] at q
      exact q k
theorem c_X4_days {G : pj_G} {d : Nat} {c : sx_C} {m : sx_M} {o : Nat → Int64} {D : pj_H} (s r : Int32) (N : Nat) (hN : N < 2 ^ 31) (hb : sx_i m 16 = 0 ∨ sx_i m 16 = 1) (hs : vp_in s 8) (hr : vp_in r 8) (inv : sx_M → Prop) (hm : inv m) (hinv : ∀ m', inv m' → sx_i m' 16 = sx_i m 16 ∧ (sx_i m' 32 = 0 → fm_dayOk m' s r ∧ inv (fm_day m' s r))) : pj_Rt G mX4_days (d + 2) [.ref 59, .int s, .int r, .int (nI N)] (sx_mk c m o D) 0 0 none (sx_mk c (fm_daysL s r N m) o D) := by
  refine pj_Cn.start ?_
  refine pj_J.go (oX4_days G) 9 rfl trivial ?_
  refine lp_X4_days s r (sx_i m 16) hb hs hr N hN inv hinv N 0 m (by omega) hm (fun k => ?_)
  exact pj_vret dX4_days_101 rfl ⟨rfl, rfl⟩
