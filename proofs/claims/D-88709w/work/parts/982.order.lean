/-! orders of the bill. Own work. -/
set_option maxRecDepth 100000
def nA (F : Nat → Nat) : Nat → Option Nat
  | 0 => none
  | j + 1 => if F j ≤ F (j + 1) then some j else nA F j
def nB (F : Nat → Nat) (i : Nat) : Nat → Nat
  | 0 => 0
  | j + 1 => if F i ≤ F (j + 1) then j + 1 else nB F i j
def nS (F : Nat → Nat) (i j : Nat) : Nat → Nat := fun k => if k = j then F i else if k = i then F j else F k
def nC : Nat → Nat → Nat → (Nat → Nat) → Nat → Nat
  | 0, _, _, F => F
  | e + 1, x, y, F => if y ≤ x then F else nC e (x + 1) (y - 1) (nS F x y)
def nT (n : Nat) (F : Nat → Nat) : Option (Nat → Nat) := match nA F (n - 1) with
  | none => none
  | some i => some (nC n (i + 1) (n - 1) (nS F i (nB F i (n - 1))))
def nE (n : Nat) : Nat → List Nat → Bool
  | 0, _ => false
  | e + 1, l => match nT n (fun k => l.getD k 0) with
    | none => true
    | some G => nE n e ((List.range n).map G)
/-- places are numbers below n -/
def Ra (n : Nat) (f : Nat → Int32) (F : Nat → Nat) : Prop := ∀ k, k < n → f k = nI (F k) ∧ F k < n
theorem Ra.le {n : Nat} {f : Nat → Int32} {F : Nat → Nat} (h : Ra n f F) (hn : n ≤ 6) {i j : Nat} (hi : i < n) (hj : j < n) : f i ≤ f j ↔ F i ≤ F j := by
  have a := h i hi
  have b := h j hj
  rw [a.1, b.1]
  exact nI_leI (by omega) (by omega)
theorem Ra.A {n : Nat} {f : Nat → Int32} {F : Nat → Nat} (h : Ra n f F) (hn : n ≤ 6) : ∀ j, j < n → fm_stA f j = nA F j ∧ ∀ i, nA F j = some i → i < j := by
  intro j
  induction j with
  | zero => intro _; exact ⟨rfl, fun i q => absurd q (by simp [nA])⟩
  | succ j ih =>
    intro hj
    unfold fm_stA nA
    by_cases c : F j ≤ F (j + 1)
    · rw [if_pos ((h.le hn (by omega) hj).mpr c), if_pos c]
      exact ⟨rfl, fun i q => by cases q; omega⟩
    · rw [if_neg (fun q => c ((h.le hn (by omega) hj).mp q)), if_neg c]
      obtain ⟨a, b⟩ := ih (by omega)
      exact ⟨a, fun i q => by have := b i q; omega⟩
theorem Ra.B {n : Nat} {f : Nat → Int32} {F : Nat → Nat} (h : Ra n f F) (hn : n ≤ 6) {i : Nat} (hi : i < n) : ∀ j, j < n → fm_stB f i j = nB F i j ∧ nB F i j ≤ j := by
  intro j
  induction j with
  | zero => intro _; exact ⟨rfl, Nat.le_refl 0⟩
  | succ j ih =>
    intro hj
    unfold fm_stB nB
    by_cases c : F i ≤ F (j + 1)
    · rw [if_pos ((h.le hn hi hj).mpr c), if_pos c]; exact ⟨rfl, Nat.le_refl _⟩
    · rw [if_neg (fun q => c ((h.le hn hi hj).mp q)), if_neg c]
      obtain ⟨a, b⟩ := ih (by omega)
      exact ⟨a, by omega⟩
theorem Ra.S {n : Nat} {f : Nat → Int32} {F : Nat → Nat} (h : Ra n f F) {i j : Nat} (hi : i < n) (hj : j < n) : Ra n (fm_sw f i j) (nS F i j) := by
  intro k hk
  unfold fm_sw nS
  rw [rg_u]
  by_cases c : k = j
  · rw [if_pos c, if_pos c]; exact h i hi
  · rw [if_neg c, if_neg c, rg_u]
    by_cases d : k = i
    · rw [if_pos d, if_pos d]; exact h j hj
    · rw [if_neg d, if_neg d]; exact h k hk
theorem Ra.C {n : Nat} : ∀ e x y (f : Nat → Int32) (F : Nat → Nat), y < n → Ra n f F → Ra n (fm_stC e x y f) (nC e x y F) := by
  intro e
  induction e with
  | zero => intro x y f F _ h; exact h
  | succ e ih =>
    intro x y f F hy h
    unfold fm_stC nC
    by_cases c : y ≤ x
    · rw [if_pos c, if_pos c]; exact h
    · rw [if_neg c, if_neg c]
      exact ih _ _ _ _ (by omega) (h.S (by omega) hy)
theorem Ra.T {n : Nat} {f : Nat → Int32} {F : Nat → Nat} (h : Ra n f F) (hn : n ≤ 6) : (fm_turn n f = none ∧ nT n F = none) ∨ ∃ g G, fm_turn n f = some g ∧ nT n F = some G ∧ Ra n g G := by
  unfold fm_turn nT
  rcases Nat.eq_zero_or_pos n with h0 | h0
  · subst h0
    exact Or.inl ⟨rfl, rfl⟩
  · obtain ⟨a, b⟩ := h.A hn (n - 1) (by omega)
    rw [a]
    cases hA : nA F (n - 1) with
    | none => exact Or.inl ⟨rfl, rfl⟩
    | some i =>
      have hi := b i hA
      obtain ⟨c, d⟩ := h.B hn (show i < n by omega) (n - 1) (by omega)
      refine Or.inr ⟨_, _, rfl, rfl, ?_⟩
      rw [c]
      exact Ra.C _ _ _ _ _ (by omega) (h.S (by omega) (by omega))
theorem Ra.tab {n : Nat} {f : Nat → Int32} {F : Nat → Nat} (h : Ra n f F) : Ra n f (fun k => ((List.range n).map F).getD k 0) := by
  intro k hk
  have : ((List.range n).map F).getD k 0 = F k := by simp [List.getD, hk]
  show f k = nI (((List.range n).map F).getD k 0) ∧ ((List.range n).map F).getD k 0 < n
  rw [this]; exact h k hk
theorem nE_ends {n : Nat} (hn : n ≤ 6) : ∀ e (f : Nat → Int32) (l : List Nat), Ra n f (fun k => l.getD k 0) → nE n e l = true → fm_ends n e f := by
  intro e
  induction e with
  | zero => intro f l _ h; exact absurd h (by simp [nE])
  | succ e ih =>
    intro f l h hE
    unfold nE at hE
    unfold fm_ends
    rcases h.T hn with ⟨a, b⟩ | ⟨g, G, a, b, c⟩
    · rw [a]; exact True.intro
    · rw [a]
      rw [b] at hE
      exact ih g _ c.tab hE
theorem nE_all : ∀ n, n ≤ 6 → nE n 721 (List.range n) = true := by
  intro n hn
  rcases (by omega : n = 0 ∨ n = 1 ∨ n = 2 ∨ n = 3 ∨ n = 4 ∨ n = 5 ∨ n = 6) with rfl | rfl | rfl | rfl | rfl | rfl | rfl
  all_goals decide +kernel
theorem ends_id {n : Nat} (hn : n ≤ 6) {f : Nat → Int32} (hf : ∀ k, k < n → f k = nI k) : fm_ends n 721 f := by
  refine nE_ends hn 721 f (List.range n) (fun k hk => ?_) (nE_all n hn)
  have : (List.range n).getD k 0 = k := by simp [List.getD, hk]
  show f k = nI ((List.range n).getD k 0) ∧ (List.range n).getD k 0 < n
  rw [this]; exact ⟨hf k hk, hk⟩
theorem Ra.id {n : Nat} {f : Nat → Int32} (hf : ∀ k, k < n → f k = nI k) : Ra n f (fun k => k) := fun k hk => ⟨hf k hk, hk⟩
/-- the beginning: each line in its own place -/
theorem or_w0 (w : sx_M) {n : Nat} (hn : n ≤ 6) : ∃ f, fc_or0 n w = sx_sI w 16 f ∧ ∀ k, k < n → f k = nI k := by
  unfold fc_or0
  refine it_inv (P := fun j (z : sx_M) => ∃ f, z = sx_sI w 16 f ∧ ∀ k, k < j → f k = nI k) (n := n) ?_ n 0 w (by omega) ⟨sx_I w 16, rl_sI1 w 16, fun k hk => absurd hk (by omega)⟩
  intro j z hj ⟨f, e, h⟩
  subst e
  unfold fc_orP
  rw [rl_c (show j < 100000 by omega), rl_sI2]
  refine ⟨_, rfl, fun k hk => ?_⟩
  rw [rg_u]
  by_cases e : k = j
  · rw [if_pos e, e]
  · rw [if_neg e]; exact h k (by omega)
theorem or_m0 (m : sx_M) {n : Nat} (hn : n ≤ 6) : ∃ f, fm_or0 n m = sx_sI m 46 f ∧ ∀ k, k < n → f k = nI k := by
  unfold fm_or0
  refine it_inv (P := fun j (z : sx_M) => ∃ f, z = sx_sI m 46 f ∧ ∀ k, k < j → f k = nI k) (n := n) ?_ n 0 m (by omega) ⟨sx_I m 46, rl_sI1 m 46, fun k hk => absurd hk (by omega)⟩
  intro j z hj ⟨f, e, h⟩
  subst e
  unfold fm_orP
  rw [rl_c (show j < 100000 by omega), rl_sI2]
  refine ⟨_, rfl, fun k hk => ?_⟩
  rw [rg_u]
  by_cases e : k = j
  · rw [if_pos e, e]
  · rw [if_neg e]; exact h k (by omega)
/-- the bill in another order -/
theorem or_wT {w : sx_M} {n : Nat} (hn : n ≤ 6) {F : Nat → Nat} (h : Ra n (sx_I w 16) F) : ∃ f, it_up fc_orT n 0 w = sx_sI w 17 f ∧ ∀ k, k < n → f k = sx_I w 2 (F k) := by
  refine it_inv (P := fun j (z : sx_M) => ∃ f, z = sx_sI w 17 f ∧ ∀ k, k < j → f k = sx_I w 2 (F k)) (n := n) ?_ n 0 w (by omega) ⟨sx_I w 17, rl_sI1 w 17, fun k hk => absurd hk (by omega)⟩
  intro j z hj ⟨f, e, hf⟩
  subst e
  unfold fc_orT
  have a := h j hj
  rw [rl_c (show j < 100000 by omega), show sx_I (sx_sI w 17 f) 16 = sx_I w 16 from rfl, a.1, rl_c (show F j < 100000 by omega), rl_sI2]
  refine ⟨_, rfl, fun k hk => ?_⟩
  rw [rg_u]
  by_cases e : k = j
  · rw [if_pos e, e]; rfl
  · rw [if_neg e]; exact hf k (by omega)
theorem or_mT {m : sx_M} {n : Nat} (hn : n ≤ 6) {F : Nat → Nat} (h : Ra n (sx_I m 46) F) : ∃ f, fm_to0 m n = sx_sI (sx_si m 17 (sx_i m 3)) 18 f ∧ ∀ k, k < n → f k = sx_I m 4 (F k) := by
  unfold fm_to0
  refine it_inv (P := fun j (z : sx_M) => ∃ f, z = sx_sI (sx_si m 17 (sx_i m 3)) 18 f ∧ ∀ k, k < j → f k = sx_I m 4 (F k)) (n := n) ?_ n 0 _ (by omega) ⟨sx_I m 18, rl_sI1 (sx_si m 17 (sx_i m 3)) 18, fun k hk => absurd hk (by omega)⟩
  intro j z hj ⟨f, e, hf⟩
  subst e
  unfold fm_toB
  have a := h j hj
  rw [rl_c (show j < 100000 by omega), show sx_I (sx_sI (sx_si m 17 (sx_i m 3)) 18 f) 46 = sx_I m 46 from rfl, a.1, rl_c (show F j < 100000 by omega), rl_sI2]
  refine ⟨_, rfl, fun k hk => ?_⟩
  rw [rg_u]
  by_cases e : k = j
  · rw [if_pos e, e]; rfl
  · rw [if_neg e]; exact hf k (by omega)
theorem tf_46 {m : sx_M} (h : rl_h 0 m) (f : Nat → Int32) : tf m (sx_sI m 46 f) := ⟨fun _ _ _ _ _ _ _ => rfl, fun i _ _ a => by rw [rg_II, if_neg a], fun _ _ => rfl, h, fun _ _ _ _ _ => rfl, fun _ _ _ _ => rfl, fun _ _ => rfl, fun _ _ => ⟨rfl, rfl⟩⟩
theorem tw_16 (w : sx_M) (f : Nat → Int32) : tw w (sx_sI w 16 f) := ⟨rfl, fun i a _ _ => by rw [rg_II, if_neg a], fun _ _ _ => rfl⟩
theorem tw_17 (w : sx_M) (f : Nat → Int32) : tw w (sx_sI w 17 f) := ⟨rfl, fun i _ a _ => by rw [rg_II, if_neg a], fun _ _ _ => rfl⟩
/-- lines agree -/
def ln (n : Nat) (w m : sx_M) : Prop := sx_i w 3 = nI n ∧ sx_i m 3 = nI n ∧ (∀ k, k < n → sx_I w 2 k = sx_I m 4 k) ∧ ∀ k, k < 12 → (sx_I w 2 k).toInt.natAbs ≤ 1000000
theorem ln_t {n : Nat} {w m x y : sx_M} (h : ln n w m) (a : tw w x) (b : tf m y) : ln n x y := by
  unfold ln
  rw [a.1, b.1 3 (by decide) (by decide) (by decide) (by decide) (by decide) (by decide), a.2.1 2 (by decide) (by decide) (by decide), b.2.1 4 (by decide) (by decide) (by decide)]
  exact h
/-- one order is tried, in both; lines of the judge from f -/
theorem or_try {A : fp_A} {na n p : Nat} {w y m : sx_M} (hn : n ≤ 6) (hp : p < 4) (hw : rl_w w m) (hh : rl_h 0 m) (hA : rp A na p m) (hy : ub y) {F : Nat → Nat} (h2 : Ra n (sx_I m 46) F) (hl : ln n w m) (f : Nat → Int32) (hf : ∀ k, k < n → f k = sx_I w 2 (F k)) :
    fc_orOk A na n w y f ∧ rn_inv A na 1 p 0 0 (fm_rn0 (fm_tr0 (fm_to0 m n) (nI p))) ∧ sx_i (fm_tr0 (fm_to0 m n) (nI p)) 16 = 1 ∧ rp A na p (fm_tr0 (fm_to0 m n) (nI p)) ∧ ty_end p w y m (fc_orR A na n w y f) (fm_tries (fm_to0 m n) (nI p)) := by
  obtain ⟨g, eg, g1, g2⟩ := bl_u y f (n := n) (by omega)
  obtain ⟨b, em, b1⟩ := or_mT hn h2
  have t0 : tf m (fm_to0 m n) := by
    rw [em]
    refine ⟨fun i a _ _ _ _ _ => ?_, fun i a _ _ => ?_, fun _ _ => rfl, hh, fun _ _ _ _ _ => rfl, fun _ _ _ _ => rfl, fun _ _ => rfl, fun _ _ => ⟨rfl, rfl⟩⟩
    · show (if i = 17 then sx_i m 3 else sx_i m i) = _
      rw [if_neg a]
    · show (if i = 18 then _ else sx_I m i) = _
      rw [if_neg a]
  have := ty_run (A := A) (n := na) (p := p) (w := w) (u := fr_bill y f n) (m := fm_to0 m n) hp (t0.W hw) t0.2.2.2.1 (t0.P hA) (by
    rw [eg]
    intro k hk
    show (g k).toInt.natAbs ≤ _
    by_cases e : k < n
    · rw [g1 k e, hf k e]; exact hl.2.2.2 _ (by have := (h2 k e).2; omega)
    · rw [g2 k (by omega)]; exact hy k hk) (by
    rw [eg, em]
    refine ⟨by show nI n = sx_i m 3; rw [hl.2.1], fun k hk => ?_⟩
    have hk : k < (nI n).toNatClampNeg := hk
    rw [rl_c (show n < 100000 by omega)] at hk
    show g k = b k
    rw [g1 k hk, hf k hk, b1 k hk]
    exact hl.2.2.1 _ (h2 k hk).2) (by rw [eg]; exact vp_in_nI (by omega) (by decide))
  obtain ⟨r1, r2, r3, r4, q1, q2, q3, q4, q5, q6, q7⟩ := this
  refine ⟨r1, r2, r3, r4, t0.tr q1, q2, q3, q4, q5, ⟨?_, ?_, ?_, q6.2.2.2.1, q6.2.2.2.2⟩, q7⟩
  · rw [q6.1, em]; rfl
  · rw [q6.2.1, em]; rfl
  · rw [q6.2.2.1, em]; rfl
/-- where the walk over the orders stands -/
def OR (A : fp_A) (na n p : Nat) (wl f : Int32) (u : sx_M) (w y m : sx_M) (F : Nat → Nat) : Prop := rl_w w m ∧ rl_h 0 m ∧ rp A na p m ∧ ub y ∧ Ra n (sx_I w 16) F ∧ Ra n (sx_I m 46) F ∧ ln n w m ∧ ((wl = 1 ∧ f = 0 ∧ ∀ k, k < 8 → sx_L u 12 k = sx_L m 42 k) ∨ (wl = 0 ∧ f = 1 ∧ ∀ k, k < 8 → sx_L m 42 k = 0)) ∧ ∀ k, k < n → sx_L u 7 k = sx_L m 47 k
/-- the results in another order -/
theorem or_res {n : Nat} (hn : n ≤ 6) {w u y m : sx_M} {F : Nat → Nat} (h1 : Ra n (sx_I w 16) F) (h2 : Ra n (sx_I m 46) F) (hu : ∀ k, k < n → sx_L u 7 k = sx_L m 47 k) (hy : ∀ k, k < n → sx_L y 7 k = sx_L m 22 (12 + k)) : ∀ e k, k + e = n → (fc_orQ w u y e k = 0 ∧ it_up (fm_orM m) e k 0 = 0) ∨ (¬ fc_orQ w u y e k = 0 ∧ ¬ it_up (fm_orM m) e k 0 = 0) := by
  have one : ∀ c k, it_up (fm_orM m) c k 1 = 1 := by
    intro c
    induction c with
    | zero => intro k; rfl
    | succ c ih =>
      intro k
      show it_up (fm_orM m) c (k + 1) (fm_orM m k 1) = 1
      have : fm_orM m k 1 = 1 := by unfold fm_orM; rw [if_neg (by decide : ¬ (1 : Int32) = 0)]
      rw [this]; exact ih _
  intro e
  induction e with
  | zero => intro k _; exact Or.inl ⟨rfl, rfl⟩
  | succ e ih =>
    intro k hk
    have a1 := h1 k (by omega)
    have a2 := h2 k (by omega)
    have i12 : (12 + nI k : Int32).toNatClampNeg = 12 + k := by rw [show (12 + nI k : Int32) = nI (12 + k) from nI_add 12 k, nI_clamp (by omega)]
    show ((if fc_orE w u y k then fc_orQ w u y e (k + 1) else 1) = 0 ∧ it_up (fm_orM m) e (k + 1) (fm_orM m k 0) = 0) ∨ (¬ (if fc_orE w u y k then fc_orQ w u y e (k + 1) else 1) = 0 ∧ ¬ it_up (fm_orM m) e (k + 1) (fm_orM m k 0) = 0)
    have EM : fm_orM m k 0 = if fc_orE w u y k then 0 else 1 := by
      unfold fm_orM fc_orE
      rw [if_pos rfl, i12, rl_c (show k < 100000 by omega), a1.1, a2.1, rl_c (show F k < 100000 by omega), hu _ a1.2, hy k (by omega)]
    rw [EM]
    by_cases c : fc_orE w u y k
    · rw [if_pos c, if_pos c]; exact ih (k + 1) (by omega)
    · rw [if_neg c, if_neg c, one]; exact Or.inr ⟨by decide, by decide⟩
/-- one step of the walk -/
theorem or_step {A : fp_A} {na n p : Nat} {wl f : Int32} {u w y m : sx_M} {F : Nat → Nat} (hn : n ≤ 6) (hp : p < 4) (h : OR A na n p wl f u w y m F) {g1 : Nat → Int32} (ht : fm_turn n (sx_I w 16) = some g1) :
    ∃ g2 G, fm_turn n (sx_I m 46) = some g2 ∧ (∀ k, k < n → vp_in (g1 k) 12) ∧ (∀ k, k < n → vp_in (g2 k) 12) ∧ fc_orSok A na n w y g1 ∧ rn_inv A na 1 p 0 0 (fm_rn0 (fm_tr0 (fm_to0 (sx_sI m 46 g2) n) (nI p))) ∧ sx_i (fm_tr0 (fm_to0 (sx_sI m 46 g2) n) (nI p)) 16 = 1 ∧ rp A na p (fm_tr0 (fm_to0 (sx_sI m 46 g2) n) (nI p)) ∧
      OR A na n p wl f u (fc_orS A na n w y g1).2.1 (fc_orS A na n w y g1).2.2 (fm_tries (fm_to0 (sx_sI m 46 g2) n) (nI p)).2 G ∧ sx_I (fc_orS A na n w y g1).2.1 16 = g1 ∧ sx_I (fm_tries (fm_to0 (sx_sI m 46 g2) n) (nI p)).2 46 = g2 ∧
      tw w (fc_orS A na n w y g1).2.1 ∧ tf m (fm_tries (fm_to0 (sx_sI m 46 g2) n) (nI p)).2 ∧
      ((fc_orD wl (fc_orS A na n w y g1).1 u (fc_orS A na n w y g1).2.2 = 0 ∧ fc_orQ (fc_orS A na n w y g1).2.1 u (fc_orS A na n w y g1).2.2 n 0 = 0) ↔ it_up (fm_orM (fm_tries (fm_to0 (sx_sI m 46 g2) n) (nI p)).2) n 0 (fm_orD (fm_tries (fm_to0 (sx_sI m 46 g2) n) (nI p)).1 f (fm_tries (fm_to0 (sx_sI m 46 g2) n) (nI p)).2) = 0) := by
  obtain ⟨hw, hh, hA, hy, r1, r2, hl, hfirst, hres⟩ := h
  rcases r1.T hn with ⟨a, _⟩ | ⟨g, G, a, b, c⟩
  · rw [a] at ht; cases ht
  rw [a] at ht
  have eg := Option.some.inj ht
  subst eg
  rcases r2.T hn with ⟨_, b2⟩ | ⟨g2, G2, a2, b2, c2⟩
  · rw [b] at b2; cases b2
  rw [b] at b2
  have eG := Option.some.inj b2
  subst eG
  have tf1 := tf_46 hh g2
  have tw1 := tw_16 w g
  have l1 : ln n (sx_sI w 16 g) (sx_sI m 46 g2) := ln_t hl tw1 tf1
  obtain ⟨ft, et, ht2⟩ := or_wT (w := sx_sI w 16 g) hn (F := G) c
  have tw2 := tw_17 (sx_sI w 16 g) ft
  have l2 : ln n (sx_sI (sx_sI w 16 g) 17 ft) (sx_sI m 46 g2) := ln_t l1 tw2 (tf.refl hh)
  have wl2 := tf1.W (tw2.W (tw1.W hw))
  obtain ⟨q1, q2, q3, q4, t1, t2, t3, t4, t5, t6, t7⟩ := or_try (A := A) (na := na) (n := n) (p := p) (w := sx_sI (sx_sI w 16 g) 17 ft) (y := y) (m := sx_sI m 46 g2) hn hp wl2 hh (tf1.P hA) hy (F := G) c2 l2 ft (fun k hk => ht2 k hk)
  have ES : fc_orS A na n w y g = fc_orR A na n (sx_sI (sx_sI w 16 g) 17 ft) y ft := by
    unfold fc_orS
    rw [et]; rfl
  have EO : fc_orSok A na n w y g := by
    unfold fc_orSok
    rw [et]; exact q1
  refine ⟨g2, G, a2, fun k hk => ?_, fun k hk => ?_, EO, q2, q3, q4, ?_⟩
  · rw [(c k hk).1]; exact vp_in_nI (by have := (c k hk).2; omega) (by decide)
  · rw [(c2 k hk).1]; exact vp_in_nI (by have := (c2 k hk).2; omega) (by decide)
  rw [ES]
  generalize hR : fc_orR A na n (sx_sI (sx_sI w 16 g) 17 ft) y ft = R at *
  generalize hM : fm_tries (fm_to0 (sx_sI m 46 g2) n) (nI p) = M at *
  have s16 : sx_I R.2.1 16 = g := by rw [t6.2.2.2.1]; rfl
  have s46 : sx_I M.2 46 = g2 := by rw [t6.2.2.1]; rfl
  have s42 : sx_L M.2 42 = sx_L m 42 := t6.1
  have s47 : sx_L M.2 47 = sx_L m 47 := t6.2.1
  have hres2 : ∀ k, k < n → sx_L u 7 k = sx_L M.2 47 k := fun k hk => by rw [s47]; exact hres k hk
  have hr2 : ∀ k, k < n → sx_L R.2.2 7 k = sx_L M.2 22 (12 + k) := fun k hk => by have := t5.2.2.2.2 k (by omega); rw [show 12 * 1 + k = 12 + k by omega] at this; exact this
  have key := or_res hn (w := R.2.1) (u := u) (y := R.2.2) (m := M.2) (F := G) (by rw [s16]; exact c) (by rw [s46]; exact c2) hres2 hr2 n 0 (by omega)
  have one : ∀ c k, it_up (fm_orM M.2) c k 1 = 1 := by
    intro c
    induction c with
    | zero => intro k; rfl
    | succ c ih =>
      intro k
      show it_up (fm_orM M.2) c (k + 1) (fm_orM M.2 k 1) = 1
      have : fm_orM M.2 k 1 = 1 := by unfold fm_orM; rw [if_neg (by decide : ¬ (1 : Int32) = 0)]
      rw [this]; exact ih _
  have DD : (fc_orD wl R.1 u R.2.2 = 0 ∧ fm_orD M.1 f M.2 = 0) ∨ (fc_orD wl R.1 u R.2.2 = 1 ∧ fm_orD M.1 f M.2 = 1) := by
    unfold fc_orD fm_orD
    rcases hfirst with ⟨w1, f1, k1⟩ | ⟨w1, f1, k1⟩
    · subst w1 f1
      rcases t7 with ⟨d1, d2, d3, _, _⟩ | ⟨d1, d2, d3⟩
      · rw [d1, d2, if_pos rfl, if_pos rfl, if_neg (by decide : ¬ (1 : Int32) = 0)]
        rcases br_al (u := u) (y := R.2.2) (m := M.2) (sg := 1) (v := 1) rfl (fun k hk => by rw [s42]; exact k1 k hk) d3 with ⟨e1, e2⟩ | ⟨e1, e2⟩
        · rw [e1, e2]; exact Or.inl ⟨rfl, rfl⟩
        · rw [e1, e2]; exact Or.inr ⟨rfl, rfl⟩
      · rw [d1, d2, if_neg (by decide : ¬ (0 : Int32) = 1), if_neg (by decide : ¬ (1 : Int32) = 0)]
        exact Or.inr ⟨rfl, rfl⟩
    · subst w1 f1
      rcases t7 with ⟨d1, d2, d3, _, _⟩ | ⟨d1, d2, d3⟩
      · rw [d1, d2, if_neg (by decide : ¬ (1 : Int32) = 0), if_neg (by decide : ¬ (0 : Int32) = 1)]
        exact Or.inr ⟨rfl, rfl⟩
      · have : fm_differs M.2 1 = 0 := by
          unfold fm_differs
          rcases df_iff M.2 1 8 0 (by omega) with ⟨x1, _⟩ | ⟨_, i, i1, i2, i3⟩
          · exact x1
          · exfalso
            apply i3
            rw [s42, k1 i (by omega), d3 i (by omega)]; rfl
        rw [d1, d2, if_pos rfl, if_pos rfl, if_pos rfl, this]
        exact Or.inl ⟨rfl, rfl⟩
  refine ⟨⟨t3, t1.2.2.2.1, t1.P (tf1.P hA), t4, by rw [s16]; exact c, by rw [s46]; exact c2, ln_t l2 t2 t1, ?_, hres2⟩, s16, s46, tw1.tr (tw2.tr t2), tf1.tr t1, ?_⟩
  · rw [s42]; exact hfirst
  · rcases DD with ⟨e1, e2⟩ | ⟨e1, e2⟩
    · rw [e1, e2]
      rcases key with ⟨x1, x2⟩ | ⟨x1, x2⟩
      · exact ⟨fun _ => x2, fun _ => ⟨rfl, x1⟩⟩
      · exact ⟨fun q => absurd q.2 x1, fun q => absurd q x2⟩
    · rw [e1, e2, one]
      exact ⟨fun q => absurd q.1 (by decide), fun q => absurd q (by decide)⟩
theorem or_loop {A : fp_A} {na n p : Nat} {wl f : Int32} {u : sx_M} (hn : n ≤ 6) (hp : p < 4) : ∀ (e k : Nat) (w y m : sx_M) (F : Nat → Nat), OR A na n p wl f u w y m F →
    (fc_orL A na n wl u e k (w, y)).1 = (fm_orL (fun m => fm_tries (fm_to0 m n) (nI p)) n f e k m).1 ∧ tw w (fc_orL A na n wl u e k (w, y)).2.1 ∧ ub (fc_orL A na n wl u e k (w, y)).2.2 ∧ tf m (fm_orL (fun m => fm_tries (fm_to0 m n) (nI p)) n f e k m).2 := by
  intro e
  induction e with
  | zero => intro k w y m F h; exact ⟨rfl, tw.refl _, h.2.2.2.1, tf.refl h.2.1⟩
  | succ e ih =>
    intro k w y m F h
    unfold fc_orL fm_orL
    rcases h.2.2.2.2.1.T hn with ⟨a, b⟩ | ⟨g, G, a, b, c⟩
    · rcases h.2.2.2.2.2.1.T hn with ⟨a2, _⟩ | ⟨_, _, _, b2, _⟩
      · rw [a, a2]; exact ⟨rfl, tw.refl _, h.2.2.2.1, tf.refl h.2.1⟩
      · rw [b] at b2; cases b2
    · obtain ⟨g2, G2, s1, _, _, _, _, _, _, s5, _, _, s8, s9, s10⟩ := or_step hn hp h a
      rw [a, s1]
      dsimp only
      by_cases c1 : fc_orD wl (fc_orS A na n w y g).1 u (fc_orS A na n w y g).2.2 = 0
      · rw [if_pos c1]
        by_cases c2 : fc_orQ (fc_orS A na n w y g).2.1 u (fc_orS A na n w y g).2.2 n 0 = 0
        · rw [if_pos c2, if_pos (s10.mp ⟨c1, c2⟩)]
          obtain ⟨i1, i2, i3, i4⟩ := ih (k + 1) _ _ _ G2 s5
          exact ⟨i1, s8.tr i2, i3, s9.tr i4⟩
        · rw [if_neg c2, if_neg (fun q => c2 (s10.mpr q).2)]
          exact ⟨rfl, s8, s5.2.2.2.1, s9⟩
      · rw [if_neg c1, if_neg (fun q => c1 (s10.mpr q).1)]
        exact ⟨rfl, s8, s5.2.2.2.1, s9⟩
