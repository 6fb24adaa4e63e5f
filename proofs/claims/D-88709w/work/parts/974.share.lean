/-! sharing: the judge's share and the model's splits give the same parts. Own work. -/
set_option maxRecDepth 100000
def sm (f : Nat → Int) : Nat → Nat → Int
  | 0, _ => 0
  | c + 1, k => f k + sm f c (k + 1)
theorem sm_last (f : Nat → Int) : ∀ c k, sm f (c + 1) k = sm f c k + f (k + c) := by
  intro c
  induction c with
  | zero => intro k; simp [sm]
  | succ c ih =>
    intro k
    show f k + sm f (c + 1) (k + 1) = (f k + sm f c (k + 1)) + f (k + (c + 1))
    rw [ih (k + 1), show k + 1 + c = k + (c + 1) by omega]
    omega
theorem sm_congr {f g : Nat → Int} : ∀ c k, (∀ i, k ≤ i → i < k + c → f i = g i) → sm f c k = sm g c k := by
  intro c
  induction c with
  | zero => intro k h; rfl
  | succ c ih => intro k h; unfold sm; rw [h k (by omega) (by omega), ih (k + 1) (fun i a b => h i (by omega) (by omega))]
theorem sm_upd {f g : Nat → Int} {j : Nat} (d : Int) : ∀ c k, k ≤ j → j < k + c → (∀ i, i ≠ j → g i = f i) → g j = f j + d → sm g c k = sm f c k + d := by
  intro c
  induction c with
  | zero => intro k a b; omega
  | succ c ih =>
    intro k a b h1 h2
    unfold sm
    by_cases e : k = j
    · subst e
      rw [h2, sm_congr c (k + 1) (fun i p q => h1 i (by omega))]
      omega
    · rw [h1 k e, ih (k + 1) (by omega) (by omega) h1 h2]
      omega
theorem sm_pos {f : Nat → Int} : ∀ c k, 0 < sm f c k → ∃ i, k ≤ i ∧ i < k + c ∧ 0 < f i := by
  intro c
  induction c with
  | zero => intro k h; exact absurd h (by simp [sm])
  | succ c ih =>
    intro k h
    unfold sm at h
    by_cases e : 0 < f k
    · exact ⟨k, by omega, by omega, e⟩
    · obtain ⟨i, a, b, d⟩ := ih (k + 1) (by omega)
      exact ⟨i, by omega, by omega, d⟩
theorem sm_le {f : Nat → Int} {M : Int} : ∀ c k, (∀ i, k ≤ i → i < k + c → f i ≤ M) → sm f c k ≤ c * M := by
  intro c
  induction c with
  | zero => intro k h; simp [sm]
  | succ c ih =>
    intro k h
    unfold sm
    have h1 := h k (by omega) (by omega)
    have h2 := ih (k + 1) (fun i a b => h i (by omega) (by omega))
    rw [show ((c + 1 : Nat) : Int) * M = c * M + M by rw [Int.natCast_add, Int.add_mul]; simp]
    omega
theorem sm_abs {f : Nat → Int} {M : Nat} : ∀ c k, (∀ i, k ≤ i → i < k + c → (f i).natAbs ≤ M) → (sm f c k).natAbs ≤ c * M := by
  intro c
  induction c with
  | zero => intro k h; simp [sm]
  | succ c ih =>
    intro k h
    unfold sm
    have h1 := h k (by omega) (by omega)
    have h2 := ih (k + 1) (fun i a b => h i (by omega) (by omega))
    rw [Nat.add_mul, Nat.one_mul]
    omega
theorem sm_mul {f : Nat → Int} (a : Int) : ∀ c k, sm (fun i => a * f i) c k = a * sm f c k := by
  intro c
  induction c with
  | zero => intro k; simp [sm]
  | succ c ih => intro k; unfold sm; rw [ih (k + 1), Int.mul_add]
theorem sm_sub {f g : Nat → Int} : ∀ c k, sm (fun i => f i - g i) c k = sm f c k - sm g c k := by
  intro c
  induction c with
  | zero => intro k; simp [sm]
  | succ c ih => intro k; unfold sm; rw [ih (k + 1)]; omega
theorem sm_nn {f : Nat → Int} : ∀ c k, (∀ i, k ≤ i → i < k + c → 0 ≤ f i) → 0 ≤ sm f c k := by
  intro c
  induction c with
  | zero => intro k h; simp [sm]
  | succ c ih =>
    intro k h
    unfold sm
    have h1 := h k (by omega) (by omega)
    have h2 := ih (k + 1) (fun i a b => h i (by omega) (by omega))
    omega
theorem it_split {σ : Type} (f : Nat → σ → σ) : ∀ a c k s, it_up f (a + c) k s = it_up f c (k + a) (it_up f a k s) := by
  intro a
  induction a with
  | zero => intro c k s; simp [it_up]
  | succ a ih =>
    intro c k s
    rw [show a + 1 + c = (a + c) + 1 by omega]
    show it_up f (a + c) (k + 1) (f k s) = it_up f c (k + (a + 1)) (it_up f a (k + 1) (f k s))
    rw [ih, show k + 1 + a = k + (a + 1) by omega]
theorem it_shift {σ : Type} (f : Nat → σ → σ) : ∀ c k s, it_up f c (k + 1) s = it_up (fun i => f (i + 1)) c k s := by
  intro c
  induction c with
  | zero => intro k s; rfl
  | succ c ih => intro k s; exact ih (k + 1) _
theorem it_congr {σ : Type} {f g : Nat → σ → σ} : ∀ c k s, (∀ i t, k ≤ i → i < k + c → f i t = g i t) → it_up f c k s = it_up g c k s := by
  intro c
  induction c with
  | zero => intro k s h; rfl
  | succ c ih =>
    intro k s h
    show it_up f c (k + 1) (f k s) = it_up g c (k + 1) (g k s)
    rw [h k s (by omega) (by omega)]
    exact ih (k + 1) _ (fun i t a b => h i t (by omega) (by omega))
theorem rl_ss (m : sx_M) (i : Nat) (F G : Nat → Int64) : sx_sL (sx_sL m i F) i G = sx_sL m i G := by
  have : va_up (va_up m.2.2.2.2.1 i F) i G = va_up m.2.2.2.2.1 i G := by
    funext k
    unfold va_up
    by_cases h : k = i
    · rw [if_pos h, if_pos h]
    · rw [if_neg h, if_neg h, if_neg h]
  unfold sx_sL
  show (m.1, m.2.1, m.2.2.1, m.2.2.2.1, va_up (va_up m.2.2.2.2.1 i F) i G, m.2.2.2.2.2) = _
  rw [this]
/-- what sharing works with: n parts, their weights, all of them -/
def sh_in (w m : sx_M) (set : Int32) (n : Nat) (om : Nat → Int64) (al : Int64) : Prop :=
  1 ≤ n ∧ n ≤ 8 ∧ (∀ k, k < n → 0 ≤ (om k).toInt ∧ (om k).toInt ≤ 1000) ∧ (∀ k, k < n → (fc_weightOf w set (nI k) (fc_wholeWeight w set)).toInt64 = om k ∧ (fc_weightOf w set (nI k) (fc_wholeWeight w set) = 0 ↔ om k = 0)) ∧
  (∀ F k, k < n → fm_weighed (sx_sL m 21 F) set (nI k) = om k) ∧ (fc_many w set (fc_wholeWeight w set)) = nI n ∧ fc_wOf (fc_wholeWeight w set) = al ∧ fm_partsOf m set = nI n ∧ fm_allW m set = al ∧ al.toInt = sm (fun k => (om k).toInt) n 0 ∧ 1 ≤ al.toInt ∧ al.toInt ≤ 8000
/-- the model's parts are P -/
def sh_P (b : Nat) (m : sx_M) (z : sx_M) (P : Nat → Int64) : Prop := ∃ F, z = sx_sL m 21 F ∧ (∀ k, k < 8 → F (8 * b + k) = P k) ∧ ∀ i, i < 8 * b ∨ 8 * b + 8 ≤ i → F i = sx_L m 21 i
theorem sh_P0 {b : Nat} {m : sx_M} : sh_P b m m (fun k => sx_L m 21 (8 * b + k)) := by
  refine ⟨sx_L m 21, ?_, fun _ _ => rfl, fun _ _ => rfl⟩
  have : va_up m.2.2.2.2.1 21 (sx_L m 21) = m.2.2.2.2.1 := by
    funext i
    unfold va_up
    by_cases h : i = 21
    · rw [if_pos h, h]
    · rw [if_neg h]
  unfold sx_sL
  rw [this]
theorem sh_pt {b : Nat} {m z : sx_M} {P : Nat → Int64} (h : rl_h b m) (hz : sh_P b m z P) {k : Nat} (hk : k < 8) : fm_pt z (nI k) = P k := by
  obtain ⟨F, rfl, h1, _⟩ := hz
  unfold fm_pt
  rw [show sx_i (sx_sL m 21 F) 16 = sx_i m 16 from rfl, rl_ix h hk]
  exact h1 k hk
theorem sh_spt {b : Nat} {m z : sx_M} {P : Nat → Int64} (h : rl_h b m) (hz : sh_P b m z P) {k : Nat} (hk : k < 8) (v : Int64) : sh_P b m (fm_spt z (nI k) v) (vp_updL P k v) := by
  obtain ⟨F, rfl, h1, h2⟩ := hz
  unfold fm_spt
  rw [show sx_i (sx_sL m 21 F) 16 = sx_i m 16 from rfl, rl_ix h hk, rl_ss, show sx_L (sx_sL m 21 F) 21 = F from rfl]
  refine ⟨_, rfl, ?_, ?_⟩
  · intro i hi
    have := h1 i hi
    by_cases e : i = k
    · subst e; simp [rg_uL]
    · simp [rg_uL, e, this, show ¬ (8 * b + i = 8 * b + k) by omega]
  · intro i hi
    rw [rg_uL, if_neg (by omega)]
    exact h2 i hi
theorem sh_we {w m : sx_M} {set : Int32} {n : Nat} {om : Nat → Int64} {al : Int64} (h : sh_in w m set n om al) {b : Nat} {z : sx_M} {P : Nat → Int64} (hz : sh_P b m z P) {k : Nat} (hk : k < n) : fm_weighed z set (nI k) = om k := by
  obtain ⟨F, rfl, _⟩ := hz
  exact h.2.2.2.2.1 F k hk
theorem sh_P.congr {b : Nat} {m z : sx_M} {P Q : Nat → Int64} (h : sh_P b m z P) (e : ∀ k, k < 8 → P k = Q k) : sh_P b m z Q := by
  obtain ⟨F, a, c, d⟩ := h
  exact ⟨F, a, fun k hk => (c k hk).trans (e k hk), d⟩
/-- the model's first walk: parts V, and what is left -/
theorem sh_mod {w m : sx_M} {set : Int32} {n : Nat} {om : Nat → Int64} {al : Int64} (h : sh_in w m set n om al) {b : Nat} (hb : rl_h b m) {x : Int64} {rule : Int32} {V : Nat → Int64} (hV : ∀ z P k, sh_P b m z P → k < n → fm_spV z x rule set al k = V k) :
    (fm_spA m x rule set).1 = it_up (fun k l => l - V k) n 0 x ∧ sh_P b m (fm_spA m x rule set).2 (fun k => if k < n then V k else 0) := by
  have h8 := h.2.1
  unfold fm_spA
  rw [h.2.2.2.2.2.2.2.1, h.2.2.2.2.2.2.2.2.1, show 8 = n + (8 - n) by omega, it_split]
  have p1 : (it_up (fm_spB x rule set (nI n) al) n 0 (x, m)).1 = it_up (fun k l => l - V k) n 0 x ∧ ∃ P, sh_P b m (it_up (fm_spB x rule set (nI n) al) n 0 (x, m)).2 P ∧ ∀ i, i < n → P i = V i := by
    refine it_rel (R := fun k (z : Int64 × sx_M) (l : Int64) => z.1 = l ∧ ∃ P, sh_P b m z.2 P ∧ ∀ i, i < k → P i = V i) (n := n) ?_ n 0 (x, m) x (by omega) ⟨rfl, _, sh_P0, fun i hi => absurd hi (by omega)⟩
    intro k z l hk ⟨e, P, hP, hi⟩
    unfold fm_spB
    rw [if_neg (nI_ge hk (by omega)), hV z.2 P k hP hk]
    refine ⟨by show z.1 - V k = l - V k; rw [e], _, sh_spt hb hP (by omega) _, ?_⟩
    intro i hi2
    rw [rg_uL]
    by_cases e2 : i = k
    · rw [if_pos e2, e2]
    · rw [if_neg e2]; exact hi i (by omega)
  obtain ⟨e1, P, hP, hi⟩ := p1
  have p2 : (it_up (fm_spB x rule set (nI n) al) (8 - n) (0 + n) (it_up (fm_spB x rule set (nI n) al) n 0 (x, m))).1 = it_up (fun k l => l - V k) n 0 x ∧ ∃ P, sh_P b m (it_up (fm_spB x rule set (nI n) al) (8 - n) (0 + n) (it_up (fm_spB x rule set (nI n) al) n 0 (x, m))).2 P ∧ ∀ i, i < 8 → P i = (if i < n then V i else 0) := by
    refine it_inv (P := fun k (z : Int64 × sx_M) => z.1 = it_up (fun k l => l - V k) n 0 x ∧ n ≤ k ∧ ∃ P, sh_P b m z.2 P ∧ ∀ i, i < k → P i = (if i < n then V i else 0)) (n := 8) ?_ (8 - n) (0 + n) _ (by omega) ⟨e1, by omega, P, hP, fun i hi2 => ?_⟩ |> fun q => ⟨q.1, q.2.2⟩
    · intro k z hk ⟨e, hnk, P, hP, hi⟩
      unfold fm_spB
      rw [if_pos (nI_le hnk (by omega))]
      refine ⟨by show z.1 - 0 = _; rw [Int64.sub_zero, e], by omega, _, sh_spt hb hP (by omega) _, ?_⟩
      intro i hi2
      rw [rg_uL]
      by_cases e2 : i = k
      · rw [if_pos e2, if_neg (by omega)]
      · rw [if_neg e2]; exact hi i (by omega)
    · rw [if_pos (by omega)]; exact hi i (by omega)
  exact ⟨p2.1, p2.2.elim fun P q => q.1.congr q.2⟩
/-- the judge's first walk, by floors -/
theorem sh_cB {w m : sx_M} {set : Int32} {n : Nat} {om : Nat → Int64} {al : Int64} (h : sh_in w m set n om al) {x : Int64} {V : Nat → Int64} (hV : ∀ k, k < n → fc_floor (x * om k) al = V k) (f g : Nat → Int64) :
    (it_up (fc_shB w x set (fc_wholeWeight w set) al) n 0 (x, f, g)).1 = it_up (fun k l => l - V k) n 0 x ∧ (∀ i, (it_up (fc_shB w x set (fc_wholeWeight w set) al) n 0 (x, f, g)).2.1 i = if i < n then V i else f i) ∧ ∀ i, i < n → (it_up (fc_shB w x set (fc_wholeWeight w set) al) n 0 (x, f, g)).2.2 i = x * om i - V i * al := by
  have h8 := h.2.1
  refine it_rel (R := fun k (z : Int64 × (Nat → Int64) × (Nat → Int64)) (l : Int64) => z.1 = l ∧ (∀ i, z.2.1 i = if i < k then V i else f i) ∧ ∀ i, i < k → z.2.2 i = x * om i - V i * al) (n := n) ?_ n 0 (x, f, g) x (by omega) ⟨rfl, fun i => by rw [if_neg (by omega)], fun i hi => absurd hi (by omega)⟩
  intro k z l hk ⟨e, e2, e3⟩
  unfold fc_shB fc_shP
  rw [(h.2.2.2.1 k hk).1, hV k hk, rl_c (show k < 100000 by omega)]
  refine ⟨by show z.1 - V k = l - V k; rw [e], fun i => ?_, fun i hi => ?_⟩
  · show vp_updL z.2.1 k (V k) i = _
    rw [rg_uL]
    by_cases q : i = k
    · rw [if_pos q, if_pos (by omega), q]
    · rw [if_neg q, e2]
      by_cases q2 : i < k
      · rw [if_pos q2, if_pos (by omega)]
      · rw [if_neg q2, if_neg (by omega)]
  · show vp_updL z.2.2 k _ i = _
    rw [rg_uL]
    by_cases q : i = k
    · rw [if_pos q, q]
    · rw [if_neg q]; exact e3 i (by omega)
/-- the judge's walk with one part free -/
theorem sh_cA {w m : sx_M} {set : Int32} {n : Nat} {om : Nat → Int64} {al : Int64} (h : sh_in w m set n om al) {x : Int64} {V : Nat → Int64} (hV : ∀ k, k < n → fc_whole (x * om k) al 0 = V k) {r : Nat} (hr : r < n) (f : Nat → Int64) :
    V r + it_up (fun k l => l - V k) n 0 x = (it_up (fc_shA w x set (fc_wholeWeight w set) al (nI r)) n 0 (x, f)).1 ∧ ∀ i, (it_up (fc_shA w x set (fc_wholeWeight w set) al (nI r)) n 0 (x, f)).2 i = if i < n ∧ i ≠ r then V i else f i := by
  have h8 := h.2.1
  have := it_rel (R := fun k (z : Int64 × (Nat → Int64)) (l : Int64) => (if k ≤ r then z.1 = l else V r + l = z.1) ∧ (∀ i, z.2 i = if i < k ∧ i ≠ r then V i else f i)) (f := fc_shA w x set (fc_wholeWeight w set) al (nI r)) (g := fun k l => l - V k) (n := n) ?_ n 0 (x, f) x (by omega) ⟨by rw [if_pos (by omega)], fun i => by rw [if_neg (by omega)]⟩
  · rw [if_neg (by omega)] at this
    exact this
  · intro k z l hk ⟨e, e2⟩
    unfold fc_shA fc_shP
    rw [(h.2.2.2.1 k hk).1, hV k hk, rl_c (show k < 100000 by omega)]
    by_cases q : k = r
    · rw [if_pos (show nI k = nI r by rw [q])]
      rw [if_pos (by omega)] at e
      refine ⟨?_, fun i => ?_⟩
      · rw [if_neg (by omega), e, q]; exact pn_bsb _ _
      · rw [e2]
        by_cases q2 : i < k ∧ i ≠ r
        · rw [if_pos q2, if_pos (by omega)]
        · rw [if_neg q2, if_neg (by omega)]
    · rw [if_neg (show ¬ nI k = nI r from fun z => q ((nI_eq (by omega) (by omega)).mp z))]
      refine ⟨?_, fun i => ?_⟩
      · by_cases q3 : k ≤ r
        · rw [if_pos q3] at e
          rw [if_pos (by omega)]
          show z.1 - V k = l - V k
          rw [e]
        · rw [if_neg q3] at e
          rw [if_neg (by omega)]
          show V r + (l - V k) = z.1 - V k
          rw [← e, Int64.sub_eq_add_neg, Int64.sub_eq_add_neg, Int64.add_assoc]
      · show vp_updL z.2 k (V k) i = _
        rw [rg_uL]
        by_cases q4 : i = k
        · rw [if_pos q4, if_pos (by omega), q4]
        · rw [if_neg q4, e2]
          by_cases q2 : i < k ∧ i ≠ r
          · rw [if_pos q2, if_pos (by omega)]
          · rw [if_neg q2, if_neg (by omega)]
/-- what is left, as a number -/
theorem sh_left {x : Int64} {V : Nat → Int64} {A B : Nat} (hx : bq x A) : ∀ n, (∀ k, k < n → bq (V k) B) → A + n * B < 2 ^ 63 → (it_up (fun k l => l - V k) n 0 x).toInt = x.toInt - sm (fun k => (V k).toInt) n 0 ∧ bq (it_up (fun k l => l - V k) n 0 x) (A + n * B) := by
  intro n hV hN
  refine it_inv (P := fun k (l : Int64) => l.toInt = x.toInt - sm (fun k => (V k).toInt) k 0 ∧ bq l (A + k * B)) (n := n) ?_ n 0 x (by omega) ⟨by simp [sm], by simpa using hx⟩
  intro k l hk ⟨e, hb⟩
  have hB : A + k * B + B < 2 ^ 63 := by
    have : (k + 1) * B ≤ n * B := Nat.mul_le_mul_right B hk
    rw [Nat.add_mul, Nat.one_mul] at this
    omega
  refine ⟨?_, ?_⟩
  · rw [pn_subI hb (hV k hk) hB, sm_last, e]
    simp only [Nat.zero_add]
    omega
  · have := pn_sub hb (hV k hk) hB
    rw [Nat.add_mul, Nat.one_mul]
    exact bq_mono this (by omega)
/-- rule 1: ones to the first -/
theorem sh_r1 {w m : sx_M} {set : Int32} {n : Nat} {om : Nat → Int64} {al : Int64} (h : sh_in w m set n om al) {b : Nat} (hb : rl_h b m) {r : Nat → Int} (hr : ∀ i, i < n → 0 ≤ r i ∧ r i ≤ al.toInt ∧ (om i = 0 → r i = 0)) {B : Nat} (hB : B < 2 ^ 60) : ∀ e k c (z : Int64 × (Nat → Int64)) (y : Int64 × sx_M), k + e = n → e ≤ c → k + c ≤ 8 → z.1 = y.1 → sh_P b m y.2 z.2 → bq z.1 (2 ^ 60 + k) → z.1.toInt * al.toInt ≤ sm r e k → (∀ i, i < 8 → bq (z.2 i) (B + k)) →
    (fc_shC w set (fc_wholeWeight w set) e k z).1 = (fm_sp1 set c k y).1 ∧ sh_P b m (fm_sp1 set c k y).2 (fc_shC w set (fc_wholeWeight w set) e k z).2 ∧ (fm_sp1 set c k y).1 ≤ 0 ∧ (∀ i, i < 8 → bq ((fc_shC w set (fc_wholeWeight w set) e k z).2 i) (B + 8)) := by
  have a1 : 1 ≤ al.toInt := h.2.2.2.2.2.2.2.2.2.2.1
  intro e
  induction e with
  | zero =>
    intro k c z y hk hc h8 e1 hP hz hs hq
    have l0 : y.1 ≤ 0 := by
      rw [pn_le, pn_l0, ← e1]
      apply Int.not_lt.mp
      intro q
      have : 0 < z.1.toInt * al.toInt := Int.mul_pos q (by omega)
      simp [sm] at hs
      omega
    have E : fm_sp1 set c k y = y := by
      cases c with
      | zero => rfl
      | succ c => unfold fm_sp1; rw [if_pos l0]
    rw [E]
    exact ⟨e1, hP, l0, fun i hi => bq_mono (hq i hi) (by omega)⟩
  | succ e ih =>
    intro k c z y hk hc h8 e1 hP hz hs hq
    obtain ⟨c, rfl⟩ : ∃ q, c = q + 1 := ⟨c - 1, by omega⟩
    unfold fc_shC fm_sp1
    rw [e1]
    by_cases l0 : y.1 ≤ 0
    · rw [if_pos l0, if_pos l0]
      exact ⟨e1, hP, l0, fun i hi => bq_mono (hq i hi) (by omega)⟩
    · rw [if_neg l0, if_neg l0]
      have hkn : k < n := by omega
      have hw := sh_we h hP hkn
      have hp := sh_pt hb hP (show k < 8 by omega)
      have hsm : sm r (e + 1) k = r k + sm r e (k + 1) := rfl
      rw [hsm] at hs
      have rk := hr k hkn
      by_cases o : om k = 0
      · rw [if_pos ((h.2.2.2.1 k hkn).2.mpr o)]
        have EO : fm_spO y.2 set k = 0 := by unfold fm_spO; rw [hw, o]; rfl
        rw [EO, hp, Int64.sub_zero, Int64.add_zero]
        refine ih (k + 1) c z (y.1, fm_spt y.2 (nI k) (z.2 k)) (by omega) (by omega) (by omega) e1 ((sh_spt hb hP (show k < 8 by omega) (z.2 k)).congr fun i hi => ?_) (bq_mono hz (by omega)) ?_ (fun i hi => bq_mono (hq i hi) (by omega))
        · rw [rg_uL]
          by_cases e2 : i = k
          · rw [if_pos e2, e2]
          · rw [if_neg e2]
        · have := rk.2.2 o
          omega
      · rw [if_neg (fun q => o ((h.2.2.2.1 k hkn).2.mp q))]
        have ok := h.2.2.1 k hkn
        have EO : fm_spO y.2 set k = 1 := by
          unfold fm_spO
          rw [hw, if_neg]
          rw [pn_le, pn_l0]
          intro q
          exact o (pn_eq.mpr (by rw [pn_l0]; omega))
        rw [EO, hp, rl_c (show k < 100000 by omega), ← e1]
        have z1 : (z.1 - 1).toInt = z.1.toInt - 1 := pn_subI (B := 1) hz (show bq 1 1 from Nat.le_refl 1) (by omega)
        have zp : 0 < z.1.toInt := by rw [pn_le, pn_l0, ← e1] at l0; omega
        refine ih (k + 1) c (z.1 - 1, vp_updL z.2 k (z.2 k + 1)) (z.1 - 1, fm_spt y.2 (nI k) (z.2 k + 1)) (by omega) (by omega) (by omega) rfl (sh_spt hb hP (show k < 8 by omega) _) ?_ ?_ ?_
        · unfold bq at *
          show (z.1 - 1).toInt.natAbs ≤ _
          omega
        · show (z.1 - 1).toInt * al.toInt ≤ _
          rw [z1, Int.sub_mul]
          omega
        · intro i hi
          show bq (vp_updL z.2 k (z.2 k + 1) i) _
          rw [rg_uL]
          by_cases e2 : i = k
          · rw [if_pos e2]
            exact bq_mono (pn_add (hq k (by omega)) (show bq 1 1 from Nat.le_refl 1) (by omega)) (by omega)
          · rw [if_neg e2]
            exact bq_mono (hq i hi) (by omega)
/-- the greatest rest, the first of them -/
theorem sh_arg {n : Nat} (hn : 1 ≤ n) (h8 : n ≤ 8) {g h : Nat → Int64} (Q : ∀ i, i < n → (g i = h i ∧ 0 ≤ (h i).toInt) ∨ ((g i).toInt < 0 ∧ (h i).toInt < 0)) (ex : ∃ i, i < n ∧ 0 < (h i).toInt) :
    ∃ j, j < n ∧ fc_shX g n = nI j ∧ (it_up (fun k (z : Int32 × Int64) => if nI k = 0 then (nI k, h k) else if h k ≤ z.2 then z else (nI k, h k)) n 0 (0, 0)).1 = nI j ∧ 0 < (h j).toInt := by
  obtain ⟨n, rfl⟩ : ∃ q, n = q + 1 := ⟨n - 1, by omega⟩
  have E : it_up (fun k (z : Int32 × Int64) => if nI k = 0 then (nI k, h k) else if h k ≤ z.2 then z else (nI k, h k)) (n + 1) 0 (0, 0) = it_up (fun k (z : Int32 × Int64) => if h (k + 1) ≤ z.2 then z else (nI (k + 1), h (k + 1))) n 0 (nI 0, h 0) := by
    show it_up _ n (0 + 1) (if nI 0 = 0 then (nI 0, h 0) else _) = _
    rw [if_pos (show nI 0 = 0 from rfl), it_shift]
    refine it_congr n 0 _ fun i t _ hi => ?_
    rw [if_neg (nI_ne0 (by omega) (by omega))]
  rw [E]
  unfold fc_shX
  rw [show n + 1 - 1 = n by omega]
  have key := it_rel (R := fun k (b : Int32) (z : Int32 × Int64) => ∃ j i, b = nI j ∧ z = (nI i, h i) ∧ j ≤ k ∧ i ≤ k ∧ ((j = i ∧ 0 ≤ (h i).toInt ∧ ∀ t, t ≤ k → (h t).toInt ≤ (h i).toInt) ∨ ((g j).toInt < 0 ∧ (h i).toInt < 0 ∧ ∀ t, t ≤ k → (h t).toInt < 0))) (f := fc_shM g) (g := fun k (z : Int32 × Int64) => if h (k + 1) ≤ z.2 then z else (nI (k + 1), h (k + 1))) (n := n) ?_ n 0 0 (nI 0, h 0) (by omega) ⟨0, 0, rfl, rfl, by omega, by omega, ?_⟩
  · obtain ⟨j, i, e1, e2, hj, hi, q⟩ := key
    rw [e1, e2]
    obtain ⟨t, ht, hp⟩ := ex
    rcases q with ⟨rfl, q1, q2⟩ | ⟨_, _, q⟩
    · exact ⟨j, by omega, rfl, rfl, by have := q2 t (by omega); omega⟩
    · have := q t (by omega); omega
  · intro k b z hk ⟨j, i, e1, e2, hj, hi, q⟩
    subst e1 e2
    unfold fc_shM
    rw [rl_c (show k + 1 < 100000 by omega), rl_c (show j < 100000 by omega)]
    have Qk := Q (k + 1) (by omega)
    rcases q with ⟨rfl, q1, q2⟩ | ⟨q1, q2, q3⟩
    · have Qj := Q j (by omega)
      have gj : g j = h j := by
        rcases Qj with ⟨a, _⟩ | ⟨_, a⟩
        · exact a
        · omega
      by_cases c : h (k + 1) ≤ h j
      · have c2 : g (k + 1) ≤ g j := by
          rw [pn_le] at *
          rw [gj]
          rcases Qk with ⟨a, _⟩ | ⟨a, _⟩
          · rw [a]; exact c
          · omega
        rw [if_pos c2, if_pos c]
        refine ⟨j, j, rfl, rfl, by omega, by omega, Or.inl ⟨rfl, q1, fun t ht => ?_⟩⟩
        rw [pn_le] at c
        by_cases et : t = k + 1
        · rw [et]; exact c
        · exact q2 t (by omega)
      · rw [pn_le] at c
        have hk1 : g (k + 1) = h (k + 1) := by
          rcases Qk with ⟨a, _⟩ | ⟨_, a⟩
          · exact a
          · omega
        have c2 : ¬ g (k + 1) ≤ g j := by rw [pn_le, gj, hk1]; exact c
        rw [if_neg c2, if_neg (by rw [pn_le]; exact c)]
        refine ⟨k + 1, k + 1, rfl, rfl, by omega, by omega, Or.inl ⟨rfl, by omega, fun t ht => ?_⟩⟩
        by_cases et : t = k + 1
        · rw [et]; omega
        · have := q2 t (by omega); omega
    · rcases Qk with ⟨a, a2⟩ | ⟨a, a2⟩
      · have c1 : ¬ g (k + 1) ≤ g j := by rw [pn_le, a]; omega
        have c2 : ¬ h (k + 1) ≤ h i := by rw [pn_le]; omega
        rw [if_neg c1, if_neg c2]
        refine ⟨k + 1, k + 1, rfl, rfl, by omega, by omega, Or.inl ⟨rfl, a2, fun t ht => ?_⟩⟩
        by_cases et : t = k + 1
        · rw [et]; omega
        · have := q3 t (by omega); omega
      · have all : ∀ t, t ≤ k + 1 → (h t).toInt < 0 := fun t ht => by
          by_cases et : t = k + 1
          · rw [et]; exact a2
          · exact q3 t (by omega)
        by_cases c1 : g (k + 1) ≤ g j
        · by_cases c2 : h (k + 1) ≤ h i
          · rw [if_pos c1, if_pos c2]; exact ⟨j, i, rfl, rfl, by omega, by omega, Or.inr ⟨q1, q2, all⟩⟩
          · rw [if_pos c1, if_neg c2]; exact ⟨j, k + 1, rfl, rfl, by omega, by omega, Or.inr ⟨q1, a2, all⟩⟩
        · by_cases c2 : h (k + 1) ≤ h i
          · rw [if_neg c1, if_pos c2]; exact ⟨k + 1, i, rfl, rfl, by omega, by omega, Or.inr ⟨a, q2, all⟩⟩
          · rw [if_neg c1, if_neg c2]; exact ⟨k + 1, k + 1, rfl, rfl, by omega, by omega, Or.inr ⟨a, a2, all⟩⟩
  · rcases Q 0 (by omega) with ⟨a, c⟩ | ⟨a, c⟩
    · exact Or.inl ⟨rfl, c, fun t ht => by rw [show t = 0 by omega]; omega⟩
    · exact Or.inr ⟨a, c, fun t ht => by rw [show t = 0 by omega]; exact c⟩
/-- rule 0: ones to the greatest rests -/
theorem sh_r0 {w m : sx_M} {set : Int32} {n : Nat} {om : Nat → Int64} {al : Int64} (h : sh_in w m set n om al) {b : Nat} (hb : rl_h b m) {x : Int64} (hx : bq x (2 ^ 40)) {B : Nat} (hB : B < 2 ^ 60) : ∀ (e : Nat) (z : Int64 × (Nat → Int64) × (Nat → Int64)) (y : Int64 × sx_M), e ≤ 8 → z.1 = y.1 → sh_P b m y.2 z.2.1 → z.1.toInt ≤ e → (∀ i, i < 8 → bq (z.2.1 i) (B + 8 - e)) →
    sm (fun i => (x * om i).toInt - (z.2.1 i).toInt * al.toInt) n 0 = z.1.toInt * al.toInt →
    (∀ i, i < n → -al.toInt ≤ (x * om i).toInt - (z.2.1 i).toInt * al.toInt ∧ (x * om i).toInt - (z.2.1 i).toInt * al.toInt < al.toInt) →
    (∀ i, i < n → ((z.2.2 i).toInt = (x * om i).toInt - (z.2.1 i).toInt * al.toInt ∧ 0 ≤ (z.2.2 i).toInt) ∨ ((z.2.2 i).toInt < 0 ∧ (x * om i).toInt - (z.2.1 i).toInt * al.toInt < 0)) →
    (fc_shD n e z).1 = (fm_sp0 x set (nI n) al e y).1 ∧ sh_P b m (fm_sp0 x set (nI n) al e y).2 (fc_shD n e z).2.1 ∧ (fm_sp0 x set (nI n) al e y).1 ≤ 0 ∧ (∀ i, i < 8 → bq ((fc_shD n e z).2.1 i) (B + 8)) := by
  have a1 : 1 ≤ al.toInt := h.2.2.2.2.2.2.2.2.2.2.1
  have a2 : al.toInt ≤ 8000 := h.2.2.2.2.2.2.2.2.2.2.2
  have n1 := h.1
  have n8 := h.2.1
  have xo : ∀ i, i < n → bq (x * om i) (2 ^ 40 * 1000) := fun i hi => pn_mul hx (by have := h.2.2.1 i hi; unfold bq; omega) (by decide)
  intro e
  induction e with
  | zero =>
    intro z y he e1 hP hl hq hs hh hg
    have l0 : y.1 ≤ 0 := by rw [pn_le, pn_l0, ← e1]; exact hl
    exact ⟨e1, hP, l0, fun i hi => bq_mono (hq i hi) (by omega)⟩
  | succ e ih =>
    intro z y he e1 hP hl hq hs hh hg
    unfold fc_shD fm_sp0
    rw [e1]
    by_cases l0 : y.1 ≤ 0
    · rw [if_pos l0, if_pos l0]
      exact ⟨e1, hP, l0, fun i hi => bq_mono (hq i hi) (by omega)⟩
    · rw [if_neg l0, if_neg l0]
      have zp : 0 < z.1.toInt := by rw [pn_le, pn_l0, ← e1] at l0; omega
      have zb : bq z.1 8 := by unfold bq; omega
      have hm : ∀ i, i < n → (z.2.1 i * al).toInt = (z.2.1 i).toInt * al.toInt := fun i hi => by
        rw [Int64.toInt_mul]
        refine pn_bmod ?_
        have q1 := hh i hi
        have q2 := xo i hi
        unfold bq at q2
        omega
      have h64 : ∀ i, i < n → (x * om i - z.2.1 i * al).toInt = (x * om i).toInt - (z.2.1 i).toInt * al.toInt := fun i hi => by
        rw [Int64.toInt_sub, hm i hi]
        refine pn_bmod ?_
        have q1 := hh i hi
        omega
      obtain ⟨j, hj, j1, j2, j3⟩ := sh_arg (g := z.2.2) (h := fun i => x * om i - z.2.1 i * al) n1 n8 (fun i hi => by
        rcases hg i hi with ⟨q1, q2⟩ | ⟨q1, q2⟩
        · refine Or.inl ⟨pn_eq.mpr (by rw [h64 i hi]; exact q1), ?_⟩
          show 0 ≤ (x * om i - z.2.1 i * al).toInt
          rw [h64 i hi]; omega
        · exact Or.inr ⟨q1, by show (x * om i - z.2.1 i * al).toInt < 0; rw [h64 i hi]; exact q2⟩) (by
        have hpos : 0 < sm (fun i => (x * om i).toInt - (z.2.1 i).toInt * al.toInt) n 0 := by rw [hs]; exact Int.mul_pos zp (by omega)
        obtain ⟨i, _, i2, i3⟩ := sm_pos n 0 hpos
        refine ⟨i, by omega, ?_⟩
        show 0 < (x * om i - z.2.1 i * al).toInt
        rw [h64 i (by omega)]; exact i3)
      have jB : fm_best y.2 x set (nI n) al = nI j := by
        unfold fm_best
        rw [rl_c (show n < 100000 by omega), ← j2]
        refine congrArg Prod.fst (it_congr n 0 _ fun k t _ hk => ?_)
        unfold fm_beB
        rw [sh_we h hP (by omega : k < n), sh_pt hb hP (show k < 8 by omega)]
      have j3' : 0 < (x * om j).toInt - (z.2.1 j).toInt * al.toInt := by
        have : 0 < (x * om j - z.2.1 j * al).toInt := j3
        rw [h64 j hj] at this; exact this
      have pj : (z.2.1 j + 1).toInt = (z.2.1 j).toInt + 1 := pn_addI (hq j (by omega)) (show bq 1 1 from Nat.le_refl 1) (by omega)
      rw [j1, jB, sh_pt hb hP (show j < 8 by omega), rl_c (show j < 100000 by omega), ← e1]
      have z1 : (z.1 - 1).toInt = z.1.toInt - 1 := pn_subI zb (show bq 1 1 from Nat.le_refl 1) (by decide)
      refine ih (z.1 - 1, vp_updL z.2.1 j (z.2.1 j + 1), vp_updL z.2.2 j (-1)) (z.1 - 1, fm_spt y.2 (nI j) (z.2.1 j + 1)) (by omega) rfl (sh_spt hb hP (show j < 8 by omega) _) ?_ ?_ ?_ ?_ ?_
      · show (z.1 - 1).toInt ≤ _
        rw [z1]; omega
      · intro i hi
        show bq (vp_updL z.2.1 j (z.2.1 j + 1) i) _
        rw [rg_uL]
        by_cases e2 : i = j
        · rw [if_pos e2]
          exact bq_mono (pn_add (hq j (by omega)) (show bq 1 1 from Nat.le_refl 1) (by omega)) (by omega)
        · rw [if_neg e2]
          exact bq_mono (hq i hi) (by omega)
      · show sm (fun i => (x * om i).toInt - (vp_updL z.2.1 j (z.2.1 j + 1) i).toInt * al.toInt) n 0 = (z.1 - 1).toInt * al.toInt
        rw [sm_upd (f := fun i => (x * om i).toInt - (z.2.1 i).toInt * al.toInt) (j := j) (-al.toInt) n 0 (by omega) (by omega) (fun i hi => by rw [rg_uL, if_neg hi]) (by rw [rg_uL, if_pos rfl, pj, Int.add_mul]; omega), hs, z1, Int.sub_mul]
        omega
      · intro i hi
        show -al.toInt ≤ (x * om i).toInt - (vp_updL z.2.1 j (z.2.1 j + 1) i).toInt * al.toInt ∧ (x * om i).toInt - (vp_updL z.2.1 j (z.2.1 j + 1) i).toInt * al.toInt < al.toInt
        have := hh i hi
        by_cases e2 : i = j
        · subst e2
          rw [rg_uL, if_pos rfl, pj, Int.add_mul]
          omega
        · rw [rg_uL, if_neg e2]; exact this
      · intro i hi
        show ((vp_updL z.2.2 j (-1) i).toInt = (x * om i).toInt - (vp_updL z.2.1 j (z.2.1 j + 1) i).toInt * al.toInt ∧ 0 ≤ (vp_updL z.2.2 j (-1) i).toInt) ∨ ((vp_updL z.2.2 j (-1) i).toInt < 0 ∧ (x * om i).toInt - (vp_updL z.2.1 j (z.2.1 j + 1) i).toInt * al.toInt < 0)
        by_cases e2 : i = j
        · subst e2
          have := hh i hi
          rw [rg_uL, rg_uL, if_pos rfl, if_pos rfl, pj, Int.add_mul]
          exact Or.inr ⟨by decide, by omega⟩
        · rw [rg_uL, rg_uL, if_neg e2, if_neg e2]; exact hg i hi
