/-! a whole run in both. Own work. -/
set_option maxRecDepth 100000
theorem rl_sL1 (m : sx_M) (i : Nat) : m = sx_sL m i (sx_L m i) := by
  have : va_up m.2.2.2.2.1 i (sx_L m i) = m.2.2.2.2.1 := by
    funext k
    unfold va_up
    by_cases h : k = i
    · rw [if_pos h, h]
    · rw [if_neg h]
  unfold sx_sL
  rw [this]
theorem rl_sI1 (m : sx_M) (i : Nat) : m = sx_sI m i (sx_I m i) := by
  have : va_up m.2.2.2.1 i (sx_I m i) = m.2.2.2.1 := by
    funext k
    unfold va_up
    by_cases h : k = i
    · rw [if_pos h, h]
    · rw [if_neg h]
  unfold sx_sI
  rw [this]
theorem rl_sI2 (m : sx_M) (i : Nat) (F G : Nat → Int32) : sx_sI (sx_sI m i F) i G = sx_sI m i G := by
  have : va_up (va_up m.2.2.2.1 i F) i G = va_up m.2.2.2.1 i G := by
    funext k
    unfold va_up
    by_cases h : k = i
    · rw [if_pos h, if_pos h]
    · rw [if_neg h, if_neg h, if_neg h]
  unfold sx_sI
  show (m.1, m.2.1, m.2.2.1, va_up (va_up m.2.2.2.1 i F) i G, m.2.2.2.2) = _
  rw [this]
/-- what the model's run leaves: its frame -/
def rl_g (b p : Nat) (m x : sx_M) : Prop := ∃ f41, rl_f b p (sx_sL m 41 f41) x
theorem rp_41 {A : fp_A} {n p : Nat} {m : sx_M} {f : Nat → Int64} : rp A n p (sx_sL m 41 f) ↔ rp A n p m := Iff.rfl
def rn_inv (A : fp_A) (n b p : Nat) (l0 : Int32) (_ : Nat) (m : sx_M) : Prop := ∃ w u, rl b p l0 w u m ∧ sx_i m 32 = 0 ∧ rp A n p m
theorem rn_ok (A : fp_A) {n b p : Nat} (hp : p < 4) (l0 : Int32) : fm_runOk (nI p) (nI b) n (rn_inv A n b p l0) := by
  intro k m ⟨w, u, h, h0, hA⟩
  refine ⟨?_, h.2.1.1, fun hk => ?_⟩
  · rw [rl_c (show p < 100000 by omega)]; exact hA.2.1
  · obtain ⟨o1, o2, o3, o4, o5, o6, o7⟩ := rp_one hA hp hk h h0
    exact ⟨o6, o7, o2.2.1.1, fun z => ⟨_, _, o2, z, rp_f hA o3⟩⟩
/-- how the two runs end -/
def rn_end (b p : Nat) (n : Nat) (w u m : sx_M) (R : Option (Nat × Int32) × sx_M × sx_M) (M : Int32 × sx_M) : Prop :=
  rl_g b p m M.2 ∧ (∃ g, R.2.1 = sx_sL w 14 g) ∧ rl_x b p R.2.1 R.2.2 M.2 ∧
  ((R.1 = none ∧ M.1 = -2 ∧ rl b p (sx_i u 13) R.2.1 R.2.2 M.2 ∧ sx_i M.2 32 = 0) ∨
   (∃ i r, i < n ∧ R.1 = some (i, r) ∧ ¬ r = 0 ∧ r < 0 ∧ M.1 = nI i ∧ sx_i M.2 32 = r ∧ sx_i M.2 31 = 0 ∧ (∀ q, q < 8 → sx_L M.2 23 (8 * b + q) = sx_L m 23 (8 * b + q)) ∧ sx_L M.2 24 (4 * b + p) = sx_L m 24 (4 * b + p) ∧ sx_L M.2 25 (4 * b + p) = sx_L m 25 (4 * b + p)))
theorem rn_run {A : fp_A} {n b p : Nat} {w u m : sx_M} (hp : p < 4) (h : rb b p w u m) (hA : rp A n p m) :
    fa_runA A n 0 (w, fr_begin u) ∧ rn_inv A n b p (sx_i u 13) 0 (fm_rn0 m) ∧ rn_end b p n w u m (fa_runL A n 0 (w, fr_begin u)) (fm_runs m (nI p)) := by
  obtain ⟨f41, r, f, e41, h32⟩ := rb_begin h
  have hA0 : rp A n p (fm_rn0 m) := rp_f (rp_41.mpr hA) f
  obtain ⟨l1, l2⟩ := rn_loop (A := A) (n := n) hp (sx_L m 24 (4 * b + p)) (sx_L m 25 (4 * b + p)) n 0 w (fr_begin u) (fm_rn0 m) (by omega) hA0 r h32
  have E : fm_runs m (nI p) = fm_rnL (nI p) (4 * nI b + nI p) (sx_L m 24 (4 * b + p)) (sx_L m 25 (4 * b + p)) n 0 (fm_rn0 m) := by
    unfold fm_runs
    rw [rl_ix4 h.2.1 hp, h.2.1.1, rl_c (show p < 100000 by omega), hA.2.1, rl_c (by have := hA.1; omega)]
  refine ⟨l1, ⟨w, fr_begin u, r, h32, hA0⟩, ?_⟩
  rw [E]
  rcases l2 with ⟨j1, j2, j3, j4, j5, j6⟩ | ⟨i, e, j1, j2, j3, j4, j5, j6, j7, j8, j9, j10, j11, j12, j13⟩
  · exact ⟨⟨f41, f.tr j4⟩, j6, ⟨j3.1, j3.2.1, j3.2.2.1, j3.2.2.2.1, j3.2.2.2.2.1, j3.2.2.2.2.2.1⟩, Or.inl ⟨j1, j2, j3, j5⟩⟩
  · exact ⟨⟨f41, f.tr j9⟩, j10, j8, Or.inr ⟨i, e, j1, j2, j3, j4, j5, j6, j7, fun q hq => by rw [j11 q hq, e41 q hq], j12, j13⟩⟩
/-- fields that a tried or a real run leaves alone -/
theorem rl_g.I {b p : Nat} {m x : sx_M} (h : rl_g b p m x) {i : Nat} (hi : i ≠ 26) : sx_I x i = sx_I m i := by
  obtain ⟨f, g⟩ := h
  rw [g.2.2.2.1 i hi]; rfl
theorem rl_g.i {b p : Nat} {m x : sx_M} (h : rl_g b p m x) {i : Nat} (h1 : i ≠ 27) (h2 : i ≠ 28) (h3 : i ≠ 30) (h4 : i ≠ 31) (h5 : i ≠ 32) : sx_i x i = sx_i m i := by
  obtain ⟨f, g⟩ := h
  rw [g.1 i h1 h2 h3 h4 h5]; rfl
theorem rl_g.L {b p : Nat} {m x : sx_M} (h : rl_g b p m x) {i : Nat} (h1 : i < 19 ∨ 25 < i) (h2 : i ≠ 41) : sx_L x i = sx_L m i := by
  obtain ⟨f, g⟩ := h
  rw [g.2.2.2.2.2.1 i h1, rg_LL, if_neg h2]
theorem rl_g.O {b p : Nat} {m x : sx_M} (h : rl_g b p m x) {i k : Nat} (h1 : i = 19 ∨ i = 20 ∨ i = 21 ∨ i = 23) (h2 : k < 8 * b ∨ 8 * b + 8 ≤ k) : sx_L x i k = sx_L m i k := by
  obtain ⟨f, g⟩ := h
  rw [g.2.2.2.2.2.2.1 i k h1 h2, rg_LL, if_neg (by omega)]
theorem rl_g.S {b p : Nat} {m x : sx_M} (h : rl_g b p m x) {k : Nat} (h2 : k < 8 * b ∨ 8 * b + 8 ≤ k) : sx_I x 26 k = sx_I m 26 k := by
  obtain ⟨f, g⟩ := h
  rw [g.2.2.2.2.1 k h2]; rfl
theorem rl_g.R {b p : Nat} {m x : sx_M} (h : rl_g b p m x) {k : Nat} (h2 : k < 12 * b ∨ 12 * b + 12 ≤ k) : sx_L x 22 k = sx_L m 22 k := by
  obtain ⟨f, g⟩ := h
  rw [g.2.2.2.2.2.2.2.1 k h2]; rfl
theorem rl_g.C {b p : Nat} {m x : sx_M} (h : rl_g b p m x) {k : Nat} (h2 : k ≠ 4 * b + p) : sx_L x 24 k = sx_L m 24 k ∧ sx_L x 25 k = sx_L m 25 k := by
  obtain ⟨f, g⟩ := h
  exact g.2.2.2.2.2.2.2.2.1 k h2
theorem rl_g.W {b p : Nat} {w m x : sx_M} (h : rl_g b p m x) (hw : rl_w w m) : rl_w w x := by
  unfold rl_w
  rw [h.I (i := 1) (by decide), h.I (i := 2) (by decide), h.I (i := 5) (by decide), h.I (i := 6) (by decide)]
  exact hw
theorem rp_g {A : fp_A} {n p b q : Nat} {m x : sx_M} (h : rp A n p m) (f : rl_g b q m x) : rp A n p x := by
  obtain ⟨g, f⟩ := f
  exact rp_f (rp_41.mpr h) f
/-- bills -/
theorem bl_u (u : sx_M) (f : Nat → Int32) {n : Nat} (hn : n ≤ 12) : ∃ g, fr_bill u f n = sx_si (sx_sI u 8 g) 9 (nI n) ∧ (∀ k, k < n → g k = f k) ∧ ∀ k, n ≤ k → g k = sx_I u 8 k := by
  unfold fr_bill
  have := it_inv (P := fun k (z : sx_M) => ∃ g, z = sx_sI u 8 g ∧ (∀ i, i < k → g i = f i) ∧ ∀ i, k ≤ i → g i = sx_I u 8 i) (f := fr_blA f) (n := n) (fun k z hk ⟨g, e, h1, h2⟩ => by
    subst e
    unfold fr_blA
    rw [rl_c (show k < 100000 by omega)]
    refine ⟨upd g k (f k), ?_, fun i hi => ?_, fun i hi => ?_⟩
    · show sx_sI (sx_sI u 8 g) 8 _ = _
      exact rl_sI2 u 8 g _
    · rw [rg_u]
      by_cases e : i = k
      · rw [if_pos e, e]
      · rw [if_neg e]; exact h1 i (by omega)
    · rw [rg_u, if_neg (by omega)]; exact h2 i (by omega)) n 0 u (by omega) ⟨sx_I u 8, rl_sI1 u 8, fun i hi => absurd hi (by omega), fun _ _ => rfl⟩
  obtain ⟨g, e, h1, h2⟩ := this
  exact ⟨g, by rw [e], h1, h2⟩
/-- accounts and what is carried are nothing -/
theorem br_u (u : sx_M) : ∃ g, fr_bare u = fr_bareS (sx_sL u 12 g) ∧ ∀ k, k < 8 → g k = 0 := by
  unfold fr_bare
  have := it_inv (P := fun k (z : sx_M) => ∃ g, z = sx_sL u 12 g ∧ ∀ i, i < k → g i = 0) (f := fr_brA) (n := 8) (fun k z hk ⟨g, e, h1⟩ => by
    subst e
    unfold fr_brA
    rw [rl_c (show k < 100000 by omega), rl_ss]
    refine ⟨_, rfl, fun i hi => ?_⟩
    rw [rg_uL]
    by_cases e : i = k
    · rw [if_pos e]
    · rw [if_neg e]; exact h1 i (by omega)) 8 0 u (by omega) ⟨sx_L u 12, rl_sL1 u 12, fun i hi => absurd hi (by omega)⟩
  obtain ⟨g, e, h1⟩ := this
  exact ⟨g, by rw [e], h1⟩
/-- the model's accounts of what is tried are nothing -/
theorem tr_m (m : sx_M) {p : Nat} (hp : p < 4) : ∃ g, fm_tr0 m (nI p) = fm_trC (nI p) (sx_sL (sx_si m 16 1) 23 g) ∧ (∀ k, k < 8 → g (8 + k) = 0) ∧ ∀ k, k < 8 ∨ 16 ≤ k → g k = sx_L m 23 k := by
  unfold fm_tr0
  have := it_inv (P := fun k (z : sx_M) => ∃ g, z = sx_sL (sx_si m 16 1) 23 g ∧ (∀ i, i < k → g (8 + i) = 0) ∧ ∀ i, i < 8 ∨ 16 ≤ i → g i = sx_L m 23 i) (f := fm_trB) (n := 8) (fun k z hk ⟨g, e, h1, h2⟩ => by
    subst e
    unfold fm_trB
    rw [show (8 + nI k : Int32).toNatClampNeg = 8 + k by rw [show (8 + nI k : Int32) = nI (8 + k) from nI_add 8 k, nI_clamp (by omega)], rl_ss]
    refine ⟨_, rfl, fun i hi => ?_, fun i hi => ?_⟩
    · rw [rg_uL]
      by_cases e : i = k
      · rw [if_pos (by omega)]
      · rw [if_neg (by omega)]; exact h1 i (by omega)
    · rw [rg_uL, if_neg (by omega)]; exact h2 i hi) 8 0 (sx_si m 16 1) (by omega) ⟨sx_L m 23, rl_sL1 (sx_si m 16 1) 23, fun i hi => absurd hi (by omega), fun _ _ => rfl⟩
  obtain ⟨g, e, h1, h2⟩ := this
  exact ⟨g, by rw [e], h1, h2⟩
