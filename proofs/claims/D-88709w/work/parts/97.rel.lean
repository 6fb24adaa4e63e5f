/-! a run of the judge and a half of the model: the relation, and what a slot's writing does to it. Own work. -/
set_option maxRecDepth 100000
theorem rg_ii (m : sx_M) (k : Nat) (f : Int32) (i : Nat) : sx_i (sx_si m k f) i = if i = k then f else sx_i m i := rfl
theorem rg_il (m : sx_M) (k : Nat) (f : Int64) (i : Nat) : sx_i (sx_sl m k f) i = sx_i m i := rfl
theorem rg_iI (m : sx_M) (k : Nat) (f : Nat → Int32) (i : Nat) : sx_i (sx_sI m k f) i = sx_i m i := rfl
theorem rg_iL (m : sx_M) (k : Nat) (f : Nat → Int64) (i : Nat) : sx_i (sx_sL m k f) i = sx_i m i := rfl
theorem rg_id (m : sx_M) (k : Nat) (f : UInt64) (i : Nat) : sx_i (sx_sd m k f) i = sx_i m i := rfl
theorem rg_iD (m : sx_M) (k : Nat) (f : Nat → UInt64) (i : Nat) : sx_i (sx_sD m k f) i = sx_i m i := rfl
theorem rg_li (m : sx_M) (k : Nat) (f : Int32) (i : Nat) : sx_l (sx_si m k f) i = sx_l m i := rfl
theorem rg_ll (m : sx_M) (k : Nat) (f : Int64) (i : Nat) : sx_l (sx_sl m k f) i = if i = k then f else sx_l m i := rfl
theorem rg_lI (m : sx_M) (k : Nat) (f : Nat → Int32) (i : Nat) : sx_l (sx_sI m k f) i = sx_l m i := rfl
theorem rg_lL (m : sx_M) (k : Nat) (f : Nat → Int64) (i : Nat) : sx_l (sx_sL m k f) i = sx_l m i := rfl
theorem rg_ld (m : sx_M) (k : Nat) (f : UInt64) (i : Nat) : sx_l (sx_sd m k f) i = sx_l m i := rfl
theorem rg_lD (m : sx_M) (k : Nat) (f : Nat → UInt64) (i : Nat) : sx_l (sx_sD m k f) i = sx_l m i := rfl
theorem rg_Ii (m : sx_M) (k : Nat) (f : Int32) (i : Nat) : sx_I (sx_si m k f) i = sx_I m i := rfl
theorem rg_Il (m : sx_M) (k : Nat) (f : Int64) (i : Nat) : sx_I (sx_sl m k f) i = sx_I m i := rfl
theorem rg_II (m : sx_M) (k : Nat) (f : Nat → Int32) (i : Nat) : sx_I (sx_sI m k f) i = if i = k then f else sx_I m i := rfl
theorem rg_IL (m : sx_M) (k : Nat) (f : Nat → Int64) (i : Nat) : sx_I (sx_sL m k f) i = sx_I m i := rfl
theorem rg_Id (m : sx_M) (k : Nat) (f : UInt64) (i : Nat) : sx_I (sx_sd m k f) i = sx_I m i := rfl
theorem rg_ID (m : sx_M) (k : Nat) (f : Nat → UInt64) (i : Nat) : sx_I (sx_sD m k f) i = sx_I m i := rfl
theorem rg_Li (m : sx_M) (k : Nat) (f : Int32) (i : Nat) : sx_L (sx_si m k f) i = sx_L m i := rfl
theorem rg_Ll (m : sx_M) (k : Nat) (f : Int64) (i : Nat) : sx_L (sx_sl m k f) i = sx_L m i := rfl
theorem rg_LI (m : sx_M) (k : Nat) (f : Nat → Int32) (i : Nat) : sx_L (sx_sI m k f) i = sx_L m i := rfl
theorem rg_LL (m : sx_M) (k : Nat) (f : Nat → Int64) (i : Nat) : sx_L (sx_sL m k f) i = if i = k then f else sx_L m i := rfl
theorem rg_Ld (m : sx_M) (k : Nat) (f : UInt64) (i : Nat) : sx_L (sx_sd m k f) i = sx_L m i := rfl
theorem rg_LD (m : sx_M) (k : Nat) (f : Nat → UInt64) (i : Nat) : sx_L (sx_sD m k f) i = sx_L m i := rfl
theorem rg_di (m : sx_M) (k : Nat) (f : Int32) (i : Nat) : sx_d (sx_si m k f) i = sx_d m i := rfl
theorem rg_dl (m : sx_M) (k : Nat) (f : Int64) (i : Nat) : sx_d (sx_sl m k f) i = sx_d m i := rfl
theorem rg_dI (m : sx_M) (k : Nat) (f : Nat → Int32) (i : Nat) : sx_d (sx_sI m k f) i = sx_d m i := rfl
theorem rg_dL (m : sx_M) (k : Nat) (f : Nat → Int64) (i : Nat) : sx_d (sx_sL m k f) i = sx_d m i := rfl
theorem rg_dd (m : sx_M) (k : Nat) (f : UInt64) (i : Nat) : sx_d (sx_sd m k f) i = if i = k then f else sx_d m i := rfl
theorem rg_dD (m : sx_M) (k : Nat) (f : Nat → UInt64) (i : Nat) : sx_d (sx_sD m k f) i = sx_d m i := rfl
theorem rg_Di (m : sx_M) (k : Nat) (f : Int32) (i : Nat) : sx_D (sx_si m k f) i = sx_D m i := rfl
theorem rg_Dl (m : sx_M) (k : Nat) (f : Int64) (i : Nat) : sx_D (sx_sl m k f) i = sx_D m i := rfl
theorem rg_DI (m : sx_M) (k : Nat) (f : Nat → Int32) (i : Nat) : sx_D (sx_sI m k f) i = sx_D m i := rfl
theorem rg_DL (m : sx_M) (k : Nat) (f : Nat → Int64) (i : Nat) : sx_D (sx_sL m k f) i = sx_D m i := rfl
theorem rg_Dd (m : sx_M) (k : Nat) (f : UInt64) (i : Nat) : sx_D (sx_sd m k f) i = sx_D m i := rfl
theorem rg_DD (m : sx_M) (k : Nat) (f : Nat → UInt64) (i : Nat) : sx_D (sx_sD m k f) i = if i = k then f else sx_D m i := rfl
theorem rg_u (f : Nat → Int32) (k : Nat) (x : Int32) (j : Nat) : upd f k x j = if j = k then x else f j := rfl
theorem rg_uL (f : Nat → Int64) (k : Nat) (x : Int64) (j : Nat) : vp_updL f k x j = if j = k then x else f j := rfl
theorem rg_uD (f : Nat → UInt64) (k : Nat) (x : UInt64) (j : Nat) : vf_upd f k x j = if j = k then x else f j := rfl
/-- rates and weights agree, within their bounds -/
def rl_w (w m : sx_M) : Prop :=
  (∀ k, k < 8 → sx_I w 0 k = sx_I m 1 k ∧ sx_I w 1 k = sx_I m 2 k ∧ 0 ≤ (sx_I w 0 k).toInt ∧ (sx_I w 0 k).toInt ≤ 10000 ∧ 1 ≤ (sx_I w 1 k).toInt ∧ (sx_I w 1 k).toInt ≤ 1000) ∧
  (∀ k, k < 4 → sx_I w 5 k = sx_I m 5 k ∧ vp_in (sx_I w 5 k) 9) ∧
  (∀ k, k < 32 → sx_I w 4 k = sx_I m 6 k ∧ 0 ≤ (sx_I w 4 k).toInt ∧ (sx_I w 4 k).toInt ≤ 1000)
/-- slots, parts, results, accounts -/
def rl_s (b : Nat) (u m : sx_M) : Prop :=
  (∀ k, k < 8 → sx_L u 0 k = sx_L m 19 (8 * b + k)) ∧ (∀ k, k < 8 → sx_L u 1 k = sx_L m 20 (8 * b + k)) ∧ (∀ k, k < 8 → sx_I u 2 k = sx_I m 26 (8 * b + k)) ∧
  (∀ k, k < 8 → sx_L u 3 k = sx_L m 21 (8 * b + k)) ∧ (∀ k, k < 12 → sx_L u 7 k = sx_L m 22 (12 * b + k))
/-- a slot's numbers -/
def rl_n (a d : Int64) : Prop := bq a (2 ^ 40) ∧ 1 ≤ d.toInt ∧ d.toInt ≤ 2 ^ 20 ∧ Nat.gcd (fm_abs a) (fm_abs d) = 1
def rl_nu (u : sx_M) : Prop := (∀ k, k < 8 → rl_n (sx_L u 0 k) (sx_L u 1 k)) ∧ (∀ k, k < 8 → bq (sx_L u 3 k) (2 ^ 56)) ∧ rl_n (sx_l u 10) (sx_l u 11) ∧ vp_in (sx_i u 9) 13 ∧ ∀ k, k < 12 → (sx_I u 8 k).toInt.natAbs ≤ 1000000
/-- what was split -/
def rl_p (u m : sx_M) : Prop := sx_i u 4 = sx_i m 28 ∧ (sx_i m 28 = 0 ∨ sx_i m 28 = 1) ∧ ((sx_i m 27 = 0 ∧ sx_i u 5 = -1) ∨ (sx_i m 27 = 1 ∧ vp_in (sx_i u 5) 4 ∧ sx_i u 5 = sx_i m 30 ∧ sx_l u 6 = sx_l m 29))
/-- the bill -/
def rl_b (u m : sx_M) : Prop := sx_i u 9 = sx_i m 17 ∧ ∀ k, k < (sx_i u 9).toNatClampNeg → sx_I u 8 k = sx_I m 18 k
/-- accounts, what is carried, leaks -/
def rl_a (b p : Nat) (l0 : Int32) (u m : sx_M) : Prop := (∀ k, k < 8 → sx_L u 12 k = sx_L m 23 (8 * b + k)) ∧ sx_l u 10 = sx_L m 24 (4 * b + p) ∧ sx_l u 11 = sx_L m 25 (4 * b + p) ∧ sx_i u 13 = l0 + sx_i m 31
def rl_h (b : Nat) (m : sx_M) : Prop := sx_i m 16 = nI b ∧ b < 2 ∧ ∀ i, i < 16 → sx_I m 26 i = 0 ∨ sx_I m 26 i = 1
def rl (b p : Nat) (l0 : Int32) (w u m : sx_M) : Prop := rl_w w m ∧ rl_h b m ∧ rl_s b u m ∧ rl_nu u ∧ rl_p u m ∧ rl_b u m ∧ rl_a b p l0 u m
/-- what a run leaves as it was -/
def rl_f (b p : Nat) (m x : sx_M) : Prop :=
  (∀ i, i ≠ 27 → i ≠ 28 → i ≠ 30 → i ≠ 31 → i ≠ 32 → sx_i x i = sx_i m i) ∧ (∀ i, i ≠ 29 → sx_l x i = sx_l m i) ∧ sx_d x = sx_d m ∧ (∀ i, i ≠ 26 → sx_I x i = sx_I m i) ∧ (∀ k, k < 8 * b ∨ 8 * b + 8 ≤ k → sx_I x 26 k = sx_I m 26 k) ∧
  (∀ i, i < 19 ∨ 25 < i → sx_L x i = sx_L m i) ∧ (∀ i k, i = 19 ∨ i = 20 ∨ i = 21 ∨ i = 23 → k < 8 * b ∨ 8 * b + 8 ≤ k → sx_L x i k = sx_L m i k) ∧ (∀ k, k < 12 * b ∨ 12 * b + 12 ≤ k → sx_L x 22 k = sx_L m 22 k) ∧
  (∀ k, k ≠ 4 * b + p → sx_L x 24 k = sx_L m 24 k ∧ sx_L x 25 k = sx_L m 25 k) ∧ sx_D x = sx_D m
theorem rl_f.refl (b p : Nat) (m : sx_M) : rl_f b p m m := ⟨fun _ _ _ _ _ _ => rfl, fun _ _ => rfl, rfl, fun _ _ => rfl, fun _ _ => rfl, fun _ _ => rfl, fun _ _ _ _ => rfl, fun _ _ => rfl, fun _ _ => ⟨rfl, rfl⟩, rfl⟩
theorem rl_f.tr {b p : Nat} {m x y : sx_M} (h : rl_f b p m x) (g : rl_f b p x y) : rl_f b p m y :=
  ⟨fun i a b c d e => (g.1 i a b c d e).trans (h.1 i a b c d e), fun i a => (g.2.1 i a).trans (h.2.1 i a), g.2.2.1.trans h.2.2.1, fun i a => (g.2.2.2.1 i a).trans (h.2.2.2.1 i a), fun i a => (g.2.2.2.2.1 i a).trans (h.2.2.2.2.1 i a), fun i a => (g.2.2.2.2.2.1 i a).trans (h.2.2.2.2.2.1 i a), fun i k a b => (g.2.2.2.2.2.2.1 i k a b).trans (h.2.2.2.2.2.2.1 i k a b), fun k a => (g.2.2.2.2.2.2.2.1 k a).trans (h.2.2.2.2.2.2.2.1 k a), fun k a => ⟨(g.2.2.2.2.2.2.2.2.1 k a).1.trans (h.2.2.2.2.2.2.2.2.1 k a).1, (g.2.2.2.2.2.2.2.2.1 k a).2.trans (h.2.2.2.2.2.2.2.2.1 k a).2⟩, g.2.2.2.2.2.2.2.2.2.trans h.2.2.2.2.2.2.2.2.2⟩
/-- indices of a half -/
theorem rl_ix {b j : Nat} {m : sx_M} (h : rl_h b m) (hj : j < 8) : (8 * sx_i m 16 + nI j : Int32).toNatClampNeg = 8 * b + j := by
  rw [h.1]; exact b8_at h.2.1 hj
theorem rl_ix12 {b j : Nat} {m : sx_M} (h : rl_h b m) (hj : j < 12) : (12 * sx_i m 16 + nI j : Int32).toNatClampNeg = 12 * b + j := by
  rw [h.1, show (12 * nI b : Int32) = nI (12 * b) from pk_mul 12 b, nI_add, nI_clamp (by have := h.2.1; omega)]
theorem rl_ix4 {b p : Nat} {m : sx_M} (h : rl_h b m) (hp : p < 4) : (4 * sx_i m 16 + nI p : Int32).toNatClampNeg = 4 * b + p := by
  rw [h.1, show (4 * nI b : Int32) = nI (4 * b) from pk_mul 4 b, nI_add, nI_clamp (by have := h.2.1; omega)]
theorem rl_c {j : Nat} (hj : j < 100000) : (nI j).toNatClampNeg = j := nI_clamp (by omega)
/-- the model fails -/
theorem rl_bad {b p : Nat} {l0 : Int32} {w u m : sx_M} (h : rl b p l0 w u m) (e : Int32) : rl b p l0 w u (fm_bad m e) ∧ rl_f b p m (fm_bad m e) ∧ sx_i (fm_bad m e) 32 = e := by
  refine ⟨h, ⟨fun i _ _ _ _ a => ?_, fun _ _ => rfl, rfl, fun _ _ => rfl, fun _ _ => rfl, fun _ _ => rfl, fun _ _ _ _ => rfl, fun _ _ => rfl, fun _ _ => ⟨rfl, rfl⟩, rfl⟩, rfl⟩
  exact if_neg a
/-- a slot is written -/
def ru_set (u : sx_M) (j : Nat) (a d : Int64) : sx_M := sx_sL (sx_sL u 0 (vp_updL (sx_L u 0) j a)) 1 (vp_updL (sx_L u 1) j d)
def rm_set (m : sx_M) (i : Nat) (a d : Int64) : sx_M := sx_sL (sx_sL m 19 (vp_updL (sx_L m 19) i a)) 20 (vp_updL (sx_L m 20) i d)
theorem rl_set {b p : Nat} {l0 : Int32} {w u m : sx_M} (h : rl b p l0 w u m) {j : Nat} (hj : j < 8) {a d : Int64} (hn : rl_n a d) : rl b p l0 w (ru_set u j a d) (rm_set m (8 * b + j) a d) ∧ rl_f b p m (rm_set m (8 * b + j) a d) ∧ sx_i (rm_set m (8 * b + j) a d) 32 = sx_i m 32 := by
  obtain ⟨hw, hh, ⟨s0, s1, s2, s3, s4⟩, ⟨n0, n1, n2, n3, n4⟩, hp, hb, ha⟩ := h
  refine ⟨⟨hw, hh, ⟨?_, ?_, s2, s3, s4⟩, ⟨?_, n1, n2, n3, n4⟩, hp, hb, ha⟩, ⟨fun i _ _ _ _ _ => rfl, fun _ _ => rfl, rfl, fun _ _ => rfl, fun _ _ => rfl, ?_, ?_, fun _ _ => rfl, fun _ _ => ⟨rfl, rfl⟩, rfl⟩, rfl⟩
  · intro k hk
    have := s0 k hk
    simp only [ru_set, rm_set, rg_ii, rg_LL, rg_II, rg_ll, rg_Li, rg_Ll, rg_LI, rg_Ii, rg_Il, rg_IL, rg_ii, rg_il, rg_iL, rg_iI, rg_li, rg_lI, rg_lL, rg_u, rg_uL]
    by_cases e : k = j
    · subst e; simp [rg_u, rg_uL]
    · simp [rg_u, rg_uL, e, this, show ¬ (8 * b + k = 8 * b + j) by omega]
  · intro k hk
    have := s1 k hk
    simp only [ru_set, rm_set, rg_ii, rg_LL, rg_II, rg_ll, rg_Li, rg_Ll, rg_LI, rg_Ii, rg_Il, rg_IL, rg_ii, rg_il, rg_iL, rg_iI, rg_li, rg_lI, rg_lL, rg_u, rg_uL]
    by_cases e : k = j
    · subst e; simp [rg_u, rg_uL]
    · simp [rg_u, rg_uL, e, this, show ¬ (8 * b + k = 8 * b + j) by omega]
  · intro k hk
    have := n0 k hk
    simp only [ru_set, rg_ii, rg_LL, rg_II, rg_ll, rg_Li, rg_Ll, rg_LI, rg_Ii, rg_Il, rg_IL, rg_ii, rg_il, rg_iL, rg_iI, rg_li, rg_lI, rg_lL, rg_u, rg_uL]
    by_cases e : k = j
    · subst e; simpa [rg_uL] using hn
    · simpa [rg_uL, e] using this
  · intro i a
    simp only [rm_set, rg_ii, rg_LL, rg_II, rg_ll, rg_Li, rg_Ll, rg_LI, rg_Ii, rg_Il, rg_IL, rg_ii, rg_il, rg_iL, rg_iI, rg_li, rg_lI, rg_lL, rg_u, rg_uL]
    rw [if_neg (by omega), if_neg (by omega)]
  · intro i k a c
    rcases a with rfl | rfl | rfl | rfl <;> simp [rm_set, rg_ii, rg_LL, rg_II, rg_ll, rg_Li, rg_Ll, rg_LI, rg_Ii, rg_Il, rg_IL, rg_ii, rg_il, rg_iL, rg_iI, rg_li, rg_lI, rg_lL, rg_u, rg_uL, show ¬ (k = 8 * b + j) by omega]
theorem rl_put {b p : Nat} {l0 : Int32} {w u m : sx_M} (h : rl b p l0 w u m) {j : Nat} (hj : j < 8) {n d : Int64} (hd : 0 < d) :
    (∃ a c, rl_n a c ∧ a = n / fm_g n d ∧ c = d / fm_g n d ∧ fr_put u (nI j) n d = (0, ru_set u j a c) ∧ fm_becomes m (nI j) n d = (1, rm_set m (8 * b + j) a c)) ∨ (fr_put u (nI j) n d = (-6, u) ∧ fm_becomes m (nI j) n d = (0, fm_bad m (-6))) := by
  obtain ⟨g0, _, _, _, gp, gc⟩ := pn_g (n := n) hd
  unfold fr_put fm_becomes
  rw [rl_ix h.2.1 hj, rl_c (by omega)]
  by_cases h1 : (1099511627776 : Int64) < n / fm_g n d
  · exact Or.inr ⟨if_pos h1, if_pos h1⟩
  · rw [if_neg h1, if_neg h1]
    by_cases h2 : n / fm_g n d < (-1099511627776 : Int64)
    · exact Or.inr ⟨if_pos h2, if_pos h2⟩
    · rw [if_neg h2, if_neg h2]
      by_cases h3 : d / fm_g n d ≤ (1048576 : Int64)
      · rw [if_pos h3, if_pos h3]
        refine Or.inl ⟨_, _, ⟨?_, ?_, ?_, gc⟩, rfl, rfl, rfl, rfl⟩
        · rw [pn_lt, show (1099511627776 : Int64).toInt = 1099511627776 from rfl] at h1
          rw [pn_lt, show (-1099511627776 : Int64).toInt = -1099511627776 from rfl] at h2
          unfold bq; omega
        · rw [pn_lt, pn_l0] at gp; omega
        · rw [pn_le, show (1048576 : Int64).toInt = 1048576 from rfl] at h3; omega
      · exact Or.inr ⟨if_neg h3, if_neg h3⟩
/-- whole numbers in bounds are always taken -/
theorem rl_putW {b p : Nat} {l0 : Int32} {w u m : sx_M} (h : rl b p l0 w u m) {j : Nat} (hj : j < 8) {n : Int64} (hn : bq n (2 ^ 40)) : rl_n n 1 ∧ fr_put u (nI j) n 1 = (0, ru_set u j n 1) ∧ fm_becomes m (nI j) n 1 = (1, rm_set m (8 * b + j) n 1) := by
  have e : n / fm_g n 1 = n ∧ (1 : Int64) / fm_g n 1 = 1 := by rw [pn_g1]; exact ⟨pn_div1 n, rfl⟩
  refine ⟨⟨hn, by decide, by decide, Nat.gcd_one_right _⟩, ?_⟩
  unfold fr_put fm_becomes
  unfold bq at hn
  rw [rl_ix h.2.1 hj, rl_c (by omega), e.1, e.2]
  have h1 : ¬ (1099511627776 : Int64) < n := by rw [pn_lt, show (1099511627776 : Int64).toInt = 1099511627776 from rfl]; omega
  have h2 : ¬ n < (-1099511627776 : Int64) := by rw [pn_lt, show (-1099511627776 : Int64).toInt = -1099511627776 from rfl]; omega
  rw [if_neg h1, if_neg h2, if_neg h1, if_neg h2]
  exact ⟨rfl, rfl⟩
/-- a slot is shown or not -/
theorem rl_show {b p : Nat} {l0 : Int32} {w u m : sx_M} (h : rl b p l0 w u m) {j : Nat} (hj : j < 8) {v : Int32} (hv : v = 0 ∨ v = 1) : rl b p l0 w (fr_show u (nI j) v) (fm_showA m (8 * b + j) v) ∧ rl_f b p m (fm_showA m (8 * b + j) v) ∧ sx_i (fm_showA m (8 * b + j) v) 32 = sx_i m 32 := by
  obtain ⟨hw, ⟨hh, hb2, hs⟩, ⟨s0, s1, s2, s3, s4⟩, hn, hp, hb, ha⟩ := h
  have hv2 : vp_nar .boolean v = v := by rcases hv with rfl | rfl <;> rfl
  have eu : fr_show u (nI j) v = sx_sI u 2 (upd (sx_I u 2) j v) := by unfold fr_show; rw [hv2, rl_c (by omega)]
  have em : fm_showA m (8 * b + j) v = sx_sI m 26 (upd (sx_I m 26) (8 * b + j) v) := by unfold fm_showA; rw [hv2]
  rw [eu, em]
  refine ⟨⟨hw, ⟨hh, hb2, ?_⟩, ⟨s0, s1, ?_, s3, s4⟩, hn, hp, hb, ha⟩, ⟨fun _ _ _ _ _ _ => rfl, fun _ _ => rfl, rfl, ?_, ?_, fun _ _ => rfl, fun _ _ _ _ => rfl, fun _ _ => rfl, fun _ _ => ⟨rfl, rfl⟩, rfl⟩, rfl⟩
  · intro i hi
    simp only [rg_ii, rg_LL, rg_II, rg_ll, rg_Li, rg_Ll, rg_LI, rg_Ii, rg_Il, rg_IL, rg_ii, rg_il, rg_iL, rg_iI, rg_li, rg_lI, rg_lL, rg_u, rg_uL]
    by_cases e : i = 8 * b + j
    · simpa [rg_u, e] using hv
    · simpa [rg_u, e] using hs i hi
  · intro k hk
    have := s2 k hk
    simp only [rg_ii, rg_LL, rg_II, rg_ll, rg_Li, rg_Ll, rg_LI, rg_Ii, rg_Il, rg_IL, rg_ii, rg_il, rg_iL, rg_iI, rg_li, rg_lI, rg_lL, rg_u, rg_uL]
    by_cases e : k = j
    · subst e; simp [rg_u, rg_uL]
    · simp [rg_u, rg_uL, e, this, show ¬ (8 * b + k = 8 * b + j) by omega]
  · intro i hi
    simp only [rg_ii, rg_LL, rg_II, rg_ll, rg_Li, rg_Ll, rg_LI, rg_Ii, rg_Il, rg_IL, rg_ii, rg_il, rg_iL, rg_iI, rg_li, rg_lI, rg_lL, rg_u, rg_uL]
    rw [if_neg hi]
  · intro k hk
    simp only [rg_ii, rg_LL, rg_II, rg_ll, rg_Li, rg_Ll, rg_LI, rg_Ii, rg_Il, rg_IL, rg_ii, rg_il, rg_iL, rg_iI, rg_li, rg_lI, rg_lL, rg_u, rg_uL]
    rw [if_pos True.intro, rg_u, if_neg (by omega)]
