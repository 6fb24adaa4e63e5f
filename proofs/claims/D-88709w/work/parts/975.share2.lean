/-! sharing, second part: where the weights come from, and the whole. Own work. -/
set_option maxRecDepth 100000
theorem sh_ixc {q k : Nat} (hq : q < 4) (hk : k < 8) : (nI q * 8 + nI k : Int32).toNatClampNeg = 8 * q + k := by
  rw [show (nI q * 8 : Int32) = nI (q * 8) from pk_mul q 8, nI_add, nI_clamp (by omega)]; omega
theorem sh_ixm {q k : Nat} (hq : q < 4) (hk : k < 8) : (8 * nI q + nI k : Int32).toNatClampNeg = 8 * q + k := by
  rw [show (8 * nI q : Int32) = nI (8 * q) from pk_mul 8 q, nI_add, nI_clamp (by omega)]
theorem pn_add32 {a b : Int32} {A B : Nat} (ha : a.toInt.natAbs ≤ A) (hb : b.toInt.natAbs ≤ B) (h : A + B < 2 ^ 31) : (a + b).toInt = a.toInt + b.toInt := by
  rw [Int32.toInt_add]
  exact Int.bmod_eq_of_le (by omega) (by omega)
theorem sh_from {w m : sx_M} (hw : rl_w w m) {q : Nat} (hq : q < 4) : ∃ n om al, sh_in w m (nI q) n om al := by
  obtain ⟨_, h5, h4⟩ := hw
  obtain ⟨e5, i5⟩ := h5 q hq
  obtain ⟨C, hC, eC⟩ := vp_in_of i5 (by decide)
  have W : ∀ k, k < 8 → sx_I w 4 (8 * q + k) = sx_I m 6 (8 * q + k) ∧ 0 ≤ (sx_I w 4 (8 * q + k)).toInt ∧ (sx_I w 4 (8 * q + k)).toInt ≤ 1000 := fun k hk => h4 _ (by omega)
  have cq : (nI q).toNatClampNeg = q := rl_c (by omega)
  have cC : (sx_I w 5 q).toNatClampNeg = C := by rw [eC, rl_c (by omega)]
  have s1 : (fc_wholeWeight w (nI q)).toInt = sm (fun k => (sx_I w 4 (8 * q + k)).toInt) C 0 ∧ (fc_wholeWeight w (nI q)).toInt.natAbs ≤ C * 1000 := by
    unfold fc_wholeWeight
    rw [cq, cC]
    refine it_inv (P := fun k (s : Int32) => s.toInt = sm (fun k => (sx_I w 4 (8 * q + k)).toInt) k 0 ∧ s.toInt.natAbs ≤ k * 1000) (n := C) ?_ C 0 0 (by omega) ⟨rfl, by decide⟩
    intro k s hk ⟨e, hb⟩
    have w1 := W k (by omega)
    have e2 : (fc_wwB (nI q) k s w).toInt = s.toInt + (sx_I w 4 (8 * q + k)).toInt := by
      unfold fc_wwB
      rw [sh_ixc hq (by omega)]
      exact pn_add32 (A := 8000) (B := 1000) (by omega) (by omega) (by decide)
    refine ⟨?_, by rw [e2]; omega⟩
    rw [e2, sm_last, e, Nat.zero_add]
  have s2 : ∀ F, fm_wsum (sx_sL m 21 F) (nI q) (sx_I (sx_sL m 21 F) 5 (nI q).toNatClampNeg).toNatClampNeg = fc_wholeWeight w (nI q) := by
    intro F
    unfold fm_wsum fc_wholeWeight
    rw [cq, show sx_I (sx_sL m 21 F) 5 q = sx_I m 5 q from rfl, ← e5, cC]
    refine it_congr C 0 0 fun k s _ hk => ?_
    show s + sx_I m 6 (8 * nI q + nI k).toNatClampNeg = fc_wwB (nI q) k s w
    unfold fc_wwB
    rw [sh_ixc hq (by omega), sh_ixm hq (by omega), (W k (by omega)).1]
  have mF : ∃ F, m = sx_sL m 21 F := by
    refine ⟨sx_L m 21, ?_⟩
    have : va_up m.2.2.2.2.1 21 (sx_L m 21) = m.2.2.2.2.1 := by
      funext i
      unfold va_up
      by_cases h : i = 21
      · rw [if_pos h, h]
      · rw [if_neg h]
    unfold sx_sL
    rw [this]
  by_cases z : fc_wholeWeight w (nI q) = 0
  · have ev : ∀ F, fm_isEven (sx_sL m 21 F) (nI q) = 1 := fun F => by unfold fm_isEven; rw [s2 F, if_pos z]
    have evm : fm_isEven m (nI q) = 1 := by obtain ⟨F, e⟩ := mF; rw [e]; exact ev F
    refine ⟨2, fun _ => 1, 2, by omega, by omega, fun _ _ => ⟨by show (0 : Int) ≤ (1 : Int64).toInt; decide, by show (1 : Int64).toInt ≤ 1000; decide⟩, ?_, ?_, ?_, ?_, ?_, ?_, by decide, by decide, by decide⟩
    · intro k hk
      have : fc_weightOf w (nI q) (nI k) (fc_wholeWeight w (nI q)) = 1 := by
        unfold fc_weightOf
        rw [if_pos z, if_neg (show ¬ (2 : Int32) ≤ nI k from nI_ge hk (by decide))]
      rw [this]
      exact ⟨rfl, by show (1 : Int32) = 0 ↔ (1 : Int64) = 0; decide⟩
    · intro F k _
      unfold fm_weighed
      rw [ev F]; rfl
    · unfold fc_many
      rw [if_pos z]; rfl
    · unfold fc_wOf
      rw [if_pos z]
    · unfold fm_partsOf
      rw [evm]; rfl
    · unfold fm_allW fm_partsOf fm_weighed
      rw [evm]; rfl
  · have ev : ∀ F, fm_isEven (sx_sL m 21 F) (nI q) = 0 := fun F => by unfold fm_isEven; rw [s2 F, if_neg z]
    have evm : fm_isEven m (nI q) = 0 := by obtain ⟨F, e⟩ := mF; rw [e]; exact ev F
    have C1 : 1 ≤ C := by
      rcases Nat.eq_zero_or_pos C with c0 | c0
      · exfalso
        apply z
        apply Int32.toInt_inj.mp
        rw [s1.1, c0]; rfl
      · exact c0
    have nn : 0 ≤ sm (fun k => (sx_I w 4 (8 * q + k)).toInt) C 0 := sm_nn C 0 fun i _ hi => (W i (by omega)).2.1
    have s0 : 1 ≤ (fc_wholeWeight w (nI q)).toInt := by
      have : (fc_wholeWeight w (nI q)).toInt ≠ 0 := fun e => z (Int32.toInt_inj.mp e)
      have := s1.1
      omega
    have om1 : ∀ k, ((sx_I w 4 (8 * q + k)).toInt64).toInt = (sx_I w 4 (8 * q + k)).toInt := fun k => Int32.toInt_toInt64 _
    have wm : ∀ k, k < C → fm_weighed m (nI q) (nI k) = (sx_I w 4 (8 * q + k)).toInt64 := fun k hk => by
      unfold fm_weighed
      rw [evm, if_pos rfl, sh_ixm hq (by omega), (W k (by omega)).1]
    refine ⟨C, fun k => (sx_I w 4 (8 * q + k)).toInt64, (fc_wholeWeight w (nI q)).toInt64, C1, by omega, ?_, ?_, ?_, ?_, ?_, ?_, ?_, ?_, ?_, ?_⟩
    · intro k hk
      show 0 ≤ ((sx_I w 4 (8 * q + k)).toInt64).toInt ∧ ((sx_I w 4 (8 * q + k)).toInt64).toInt ≤ 1000
      rw [om1]; exact (W k (by omega)).2
    · intro k hk
      have : fc_weightOf w (nI q) (nI k) (fc_wholeWeight w (nI q)) = sx_I w 4 (8 * q + k) := by
        unfold fc_weightOf
        rw [if_neg z, sh_ixc hq (by omega)]
      rw [this]
      refine ⟨rfl, ⟨fun e => by show (sx_I w 4 (8 * q + k)).toInt64 = 0; rw [e]; rfl, fun e => ?_⟩⟩
      apply Int32.toInt_inj.mp
      rw [← om1 k, show (sx_I w 4 (8 * q + k)).toInt64 = 0 from e]; rfl
    · intro F k hk
      show _ = (sx_I w 4 (8 * q + k)).toInt64
      unfold fm_weighed
      rw [ev F, if_pos rfl, show sx_I (sx_sL m 21 F) 6 = sx_I m 6 from rfl, sh_ixm hq (by omega), (W k (by omega)).1]
    · unfold fc_many
      rw [if_neg z, cq, eC]
    · unfold fc_wOf
      rw [if_neg z]
    · unfold fm_partsOf
      rw [evm, if_pos rfl, cq, ← e5, eC]
    · unfold fm_allW
      have pC : (fm_partsOf m (nI q)).toNatClampNeg = C := by unfold fm_partsOf; rw [evm, if_pos rfl, cq, ← e5, cC]
      rw [pC]
      apply pn_eq.mpr
      rw [Int32.toInt_toInt64, s1.1]
      refine (it_inv (P := fun k (s : Int64) => s.toInt = sm (fun k => (sx_I w 4 (8 * q + k)).toInt) k 0 ∧ bq s (k * 1000)) (n := C) ?_ C 0 0 (by omega) ⟨rfl, Nat.zero_le _⟩).1
      intro k s hk ⟨e, hb⟩
      have w1 := W k (by omega)
      have bw : bq (sx_I w 4 (8 * q + k)).toInt64 1000 := pn_i (by omega)
      rw [wm k hk]
      refine ⟨?_, bq_mono (pn_add hb bw (by omega)) (by omega)⟩
      rw [pn_addI hb bw (by omega), sm_last, e, om1, Nat.zero_add]
    · rw [Int32.toInt_toInt64, s1.1]
      exact sm_congr C 0 fun i _ _ => (om1 i).symm
    · rw [Int32.toInt_toInt64]; exact s0
    · rw [Int32.toInt_toInt64]
      have := s1.2
      omega
/-- sharing is the same in both -/
theorem sh_all {w m : sx_M} (hw : rl_w w m) {b : Nat} (hb : rl_h b m) {q r : Nat} (hq : q < 4) (hr : r < 4) {x : Int64} (hx : bq x (2 ^ 40)) (f : Nat → Int64) :
    ∃ P, sh_P b m (fm_splits m x (nI r) (nI q)) P ∧ (∀ i, i < 8 → (fc_share w x (nI q) (nI r) f).1 i = P i) ∧ (∀ i, i < 8 → bq (P i) (2 ^ 56)) ∧ fc_shOk w x (nI q) (nI r) f ∧ fm_splitOk m x (nI r) (nI q) := by
  obtain ⟨n, om, al, h⟩ := sh_from hw hq
  obtain ⟨n1, n8, o1, o2, o3, o4, o5, o6, o7, o8, o9, o10⟩ := id h
  have a0 : 0 < al := by rw [pn_lt, pn_l0]; omega
  have aN : ¬ al = 0 := fun e => by rw [e, pn_l0] at o9; omega
  have xo : ∀ k, k < n → bq (x * om k) (2 ^ 40 * 1000) := fun k hk => pn_mul hx (by have := o1 k hk; unfold bq; omega) (by decide)
  have xoI : ∀ k, k < n → (x * om k).toInt = x.toInt * (om k).toInt := fun k hk => pn_mulI (B := 1000) hx (by have := o1 k hk; unfold bq; omega) (by decide)
  have f0 : ∀ i, i < 8 → fc_share0 f i = 0 := by
    intro i hi
    have := it_inv (P := fun k (g : Nat → Int64) => ∀ i, i < k → g i = 0) (f := fc_shZ) (n := 8) (fun k s hk hP i hi => by
      unfold fc_shZ
      rw [rl_c (show k < 100000 by omega), rg_uL]
      by_cases e : i = k
      · rw [if_pos e]
      · rw [if_neg e]; exact hP i (by omega)) 8 0 f (by omega) (fun i hi => absurd hi (by omega))
    exact this i hi
  have i5 : vp_in (sx_I w 5 (nI q).toNatClampNeg) 9 := by rw [rl_c (show q < 100000 by omega)]; exact (hw.2.1 q hq).2
  have i5m : vp_in (sx_I m 5 (nI q).toNatClampNeg) 9 := by rw [rl_c (show q < 100000 by omega), ← (hw.2.1 q hq).1]; exact (hw.2.1 q hq).2
  -- floors
  have lf : ∀ k, k < n → fc_floor (x * om k) al = fm_floor (x * om k) al := fun k _ => law_floor a0
  have fb : ∀ k, k < n → bq (fm_floor (x * om k) al) (2 ^ 40 * 1000) := fun k hk => pn_floorB a0 (xo k hk)
  have rest : ∀ k, k < n → (x * om k - fm_floor (x * om k) al * al).toInt = (x * om k).toInt % al.toInt ∧ (fm_floor (x * om k) al * al).toInt = (x * om k).toInt / al.toInt * al.toInt := fun k hk => pn_rest a0 (xo k hk) (by decide) (by omega)
  have fI : ∀ k, k < n → (fm_floor (x * om k) al).toInt = (x * om k).toInt / al.toInt := fun k _ => pn_floor a0
  have L := sh_left (x := x) (V := fun k => fm_floor (x * om k) al) hx n fb (by omega)
  have rm : ∀ k, k < n → 0 ≤ (x * om k).toInt - (fm_floor (x * om k) al).toInt * al.toInt ∧ (x * om k).toInt - (fm_floor (x * om k) al).toInt * al.toInt < al.toInt := fun k hk => by
    rw [fI k hk]
    have e1 := Int.emod_nonneg (x * om k).toInt (b := al.toInt) (by omega)
    have e2 := Int.emod_lt_of_pos (x * om k).toInt (b := al.toInt) (by omega)
    have e3 := Int.mul_ediv_add_emod (x * om k).toInt al.toInt
    rw [Int.mul_comm] at e3
    omega
  -- the rests' sum
  have S : sm (fun i => (x * om i).toInt - (fm_floor (x * om i) al).toInt * al.toInt) n 0 = (it_up (fun k l => l - fm_floor (x * om k) al) n 0 x).toInt * al.toInt := by
    rw [L.1, sm_sub, Int.sub_mul]
    rw [sm_congr (f := fun i => (x * om i).toInt) (g := fun i => x.toInt * (om i).toInt) n 0 (fun i _ hi => xoI i (by omega)), sm_mul, ← o8]
    rw [sm_congr (f := fun i => (fm_floor (x * om i) al).toInt * al.toInt) (g := fun i => al.toInt * (fm_floor (x * om i) al).toInt) n 0 (fun i _ _ => Int.mul_comm _ _), sm_mul, Int.mul_comm al.toInt]
  have Sle : sm (fun i => (x * om i).toInt - (fm_floor (x * om i) al).toInt * al.toInt) n 0 ≤ n * (al.toInt - 1) := sm_le n 0 fun i _ hi => by have := (rm i (by omega)).2; omega
  have l8 : (it_up (fun k l => l - fm_floor (x * om k) al) n 0 x).toInt ≤ 8 := by
    apply Int.not_lt.mp
    intro c
    have h1 : 9 * al.toInt ≤ (it_up (fun k l => l - fm_floor (x * om k) al) n 0 x).toInt * al.toInt := Int.mul_le_mul_of_nonneg_right (by omega) (by omega)
    have h2 : (n : Int) * (al.toInt - 1) ≤ 8 * (al.toInt - 1) := Int.mul_le_mul_of_nonneg_right (by omega) (by omega)
    rw [← S] at h1
    omega
  have lb : bq (it_up (fun k l => l - fm_floor (x * om k) al) n 0 x) (2 ^ 60) := bq_mono L.2 (by omega)
  have cB := sh_cB h (x := x) lf (fc_share0 f) (sx_L w 14)
  have mB : ∀ r', ¬ (2 : Int32) ≤ r' → (fm_spA m x r' (nI q)).1 = it_up (fun k l => l - fm_floor (x * om k) al) n 0 x ∧ sh_P b m (fm_spA m x r' (nI q)).2 (fun k => if k < n then fm_floor (x * om k) al else 0) := fun r' hr' => sh_mod h hb (V := fun k => fm_floor (x * om k) al) fun z P k hz hk => by
    unfold fm_spV
    rw [if_neg hr', sh_we h hz hk]
  have P0b : ∀ i, i < 8 → bq (if i < n then fm_floor (x * om i) al else 0) (2 ^ 50) := fun i hi => by
    by_cases c : i < n
    · rw [if_pos c]; exact bq_mono (fb i c) (by decide)
    · rw [if_neg c]; exact Nat.zero_le _
  have cP : ∀ i, i < 8 → (it_up (fc_shB w x (nI q) (fc_wholeWeight w (nI q)) al) n 0 (x, fc_share0 f, sx_L w 14)).2.1 i = if i < n then fm_floor (x * om i) al else 0 := fun i hi => by
    rw [cB.2.1 i]
    by_cases c : i < n
    · rw [if_pos c, if_pos c]
    · rw [if_neg c, if_neg c, f0 i hi]
  have R1 : ∀ y : Int64 × sx_M, y = fm_spA m x 1 (nI q) → (fc_shC w (nI q) (fc_wholeWeight w (nI q)) n 0 ((it_up (fc_shB w x (nI q) (fc_wholeWeight w (nI q)) al) n 0 (x, fc_share0 f, sx_L w 14)).1, (it_up (fc_shB w x (nI q) (fc_wholeWeight w (nI q)) al) n 0 (x, fc_share0 f, sx_L w 14)).2.1)).1 = (fm_sp1 (nI q) 8 0 y).1 ∧ sh_P b m (fm_sp1 (nI q) 8 0 y).2 (fc_shC w (nI q) (fc_wholeWeight w (nI q)) n 0 ((it_up (fc_shB w x (nI q) (fc_wholeWeight w (nI q)) al) n 0 (x, fc_share0 f, sx_L w 14)).1, (it_up (fc_shB w x (nI q) (fc_wholeWeight w (nI q)) al) n 0 (x, fc_share0 f, sx_L w 14)).2.1)).2 ∧ (fm_sp1 (nI q) 8 0 y).1 ≤ 0 ∧ (∀ i, i < 8 → bq ((fc_shC w (nI q) (fc_wholeWeight w (nI q)) n 0 ((it_up (fc_shB w x (nI q) (fc_wholeWeight w (nI q)) al) n 0 (x, fc_share0 f, sx_L w 14)).1, (it_up (fc_shB w x (nI q) (fc_wholeWeight w (nI q)) al) n 0 (x, fc_share0 f, sx_L w 14)).2.1)).2 i) (2 ^ 50 + 8)) := by
    intro y hy
    obtain ⟨m1, m2⟩ := mB 1 (by decide)
    rw [← hy] at m1 m2
    refine sh_r1 h hb (r := fun i => (x * om i).toInt - (fm_floor (x * om i) al).toInt * al.toInt) (fun i hi => ⟨(rm i hi).1, by have := (rm i hi).2; omega, fun e => ?_⟩) (B := 2 ^ 50) (by decide) n 0 8 _ y (by omega) n8 (by omega) ?_ ?_ ?_ ?_ ?_
    · have e0 : (x * om i).toInt = 0 := by rw [xoI i hi, e, pn_l0, Int.mul_zero]
      rw [fI i hi, e0]; simp
    · rw [cB.1, m1]
    · exact m2.congr fun i hi => (cP i hi).symm
    · dsimp only
      rw [cB.1]; exact lb
    · dsimp only
      rw [cB.1, S]; exact Int.le_refl _
    · intro i hi
      dsimp only
      rw [cP i hi]; exact P0b i hi
  have R0 : ∀ y : Int64 × sx_M, y = fm_spA m x 0 (nI q) → (fc_shD n 8 (it_up (fc_shB w x (nI q) (fc_wholeWeight w (nI q)) al) n 0 (x, fc_share0 f, sx_L w 14))).1 = (fm_sp0 x (nI q) (nI n) al 8 y).1 ∧ sh_P b m (fm_sp0 x (nI q) (nI n) al 8 y).2 (fc_shD n 8 (it_up (fc_shB w x (nI q) (fc_wholeWeight w (nI q)) al) n 0 (x, fc_share0 f, sx_L w 14))).2.1 ∧ (fm_sp0 x (nI q) (nI n) al 8 y).1 ≤ 0 ∧ (∀ i, i < 8 → bq ((fc_shD n 8 (it_up (fc_shB w x (nI q) (fc_wholeWeight w (nI q)) al) n 0 (x, fc_share0 f, sx_L w 14))).2.1 i) (2 ^ 50 + 8)) := by
    intro y hy
    obtain ⟨m1, m2⟩ := mB 0 (by decide)
    rw [← hy] at m1 m2
    have pv : ∀ i, i < n → (it_up (fc_shB w x (nI q) (fc_wholeWeight w (nI q)) al) n 0 (x, fc_share0 f, sx_L w 14)).2.1 i = fm_floor (x * om i) al := fun i hi => by rw [cP i (by omega), if_pos hi]
    refine sh_r0 h hb hx (B := 2 ^ 50) (by decide) 8 _ y (by omega) ?_ ?_ ?_ ?_ ?_ ?_ ?_
    · rw [cB.1, m1]
    · exact m2.congr fun i hi => (cP i hi).symm
    · rw [cB.1]; exact l8
    · intro i hi
      rw [cP i hi]; exact bq_mono (P0b i hi) (by omega)
    · rw [cB.1, ← S]
      exact sm_congr n 0 fun i _ hi => by rw [pv i (by omega)]
    · intro i hi
      rw [pv i hi]
      have := rm i hi
      omega
    · intro i hi
      rw [pv i hi, cB.2.2 i hi]
      refine Or.inl ⟨?_, ?_⟩
      · rw [(rest i hi).1, fI i hi, Int.emod_def, Int.mul_comm]
      · rw [(rest i hi).1]; exact Int.emod_nonneg _ (by omega)
  -- one part free
  have lw : ∀ k, k < n → fc_whole (x * om k) al 0 = fm_times (x * om k) al 0 := fun k _ => law_whole a0 0
  have tb : ∀ k, k < n → bq (fm_times (x * om k) al 0) (2 ^ 40 * 1000 + 1) := fun k hk => pn_timesB a0 (xo k hk) (by decide)
  have LW := sh_left (x := x) (V := fun k => fm_times (x * om k) al 0) hx n tb (by omega)
  have RF : ∀ (r' : Int32) (fr : Nat), (2 : Int32) ≤ r' → fr < n → fm_spF m r' (nI q) = nI fr → fc_shF (nI n) r' = nI fr → ∃ P, sh_P b m (fm_splitsB m x r' (nI q)) P ∧ (∀ i, i < 8 → vp_updL (it_up (fc_shA w x (nI q) (fc_wholeWeight w (nI q)) al (fc_shF (nI n) r')) n 0 (x, fc_share0 f)).2 (fc_shF (nI n) r').toNatClampNeg (it_up (fc_shA w x (nI q) (fc_wholeWeight w (nI q)) al (fc_shF (nI n) r')) n 0 (x, fc_share0 f)).1 i = P i) ∧ ∀ i, i < 8 → bq (P i) (2 ^ 56) := by
    intro r' fr h2 hfr e1 e2
    obtain ⟨m1, m2⟩ := sh_mod h hb (x := x) (rule := r') (V := fun k => fm_times (x * om k) al 0) fun z P k hz hk => by
      unfold fm_spV
      rw [if_pos h2, sh_we h hz hk]
    obtain ⟨c1, c2⟩ := sh_cA h lw hfr (fc_share0 f)
    unfold fm_splitsB
    rw [e1, e2, rl_c (show fr < 100000 by omega), sh_pt hb m2 (show fr < 8 by omega), m1, if_pos hfr, c1]
    refine ⟨_, sh_spt hb m2 (show fr < 8 by omega) _, fun i hi => ?_, fun i hi => ?_⟩
    · rw [rg_uL, rg_uL]
      by_cases e : i = fr
      · rw [if_pos e, if_pos e]
      · rw [if_neg e, if_neg e, c2 i]
        by_cases c : i < n
        · rw [if_pos ⟨c, e⟩, if_pos c]
        · rw [if_neg (fun z => c z.1), if_neg c, f0 i hi]
    · rw [rg_uL]
      by_cases e : i = fr
      · rw [if_pos e, ← c1]
        exact bq_mono (pn_add (tb fr hfr) LW.2 (by omega)) (by omega)
      · rw [if_neg e]
        by_cases c : i < n
        · rw [if_pos c]; exact bq_mono (tb i c) (by decide)
        · rw [if_neg c]; exact Nat.zero_le _
  obtain ⟨R1a, R1b, R1c, R1d⟩ := R1 _ rfl
  obtain ⟨R0a, R0b, R0c, R0d⟩ := R0 _ rfl
  have cn : (nI n).toNatClampNeg = n := rl_c (by omega)
  have ok2 : fm_splitOk m x (nI r) (nI q) := by
    refine ⟨vp_in_nI hr (by decide), vp_in_nI hq (by decide), i5m, by rw [o7]; exact aN, ?_, R1c, ?_⟩
    · unfold fm_spF
      rw [o6]
      by_cases e : nI r = 2
      · rw [if_pos e, show nI n - 1 = nI (n - 1) from by rw [show (1 : Int32) = nI 1 from rfl]; exact pk_sub n1]
        exact vp_in_nI (by omega) (by decide)
      · rw [if_neg e]; exact vp_in_nI (n := 0) (by decide) (by decide)
    · unfold fm_splits0
      rw [o6, o7]; exact R0c
  have ok1 : fc_shOk w x (nI q) (nI r) f := by
    unfold fc_shOk
    rw [o4, o5, cn]
    refine ⟨vp_in_nI hq (by decide), i5, aN, n1, ?_⟩
    by_cases e1 : nI r ≤ 1
    · by_cases e2 : nI r = 1
      · exact Or.inr (Or.inl e2)
      · exact Or.inr (Or.inr (by rw [R0a]; exact R0c))
    · exact Or.inl e1
  unfold fc_share fc_shareR fm_splits
  rw [o4, o5, cn]
  rcases (by omega : r = 0 ∨ r = 1 ∨ r = 2 ∨ r = 3) with rfl | rfl | rfl | rfl
  · rw [if_neg (by decide : ¬ (2 : Int32) ≤ nI 0), if_neg (by decide : ¬ nI 0 = 1), if_pos (by decide : nI 0 ≤ 1), if_neg (by decide : ¬ nI 0 = 1)]
    unfold fm_splits0
    rw [o6, o7]
    exact ⟨_, R0b, fun _ _ => rfl, fun i hi => bq_mono (R0d i hi) (by decide), ok1, ok2⟩
  · rw [if_neg (by decide : ¬ (2 : Int32) ≤ nI 1), if_pos (by decide : nI 1 = 1), if_pos (by decide : nI 1 ≤ 1), if_pos (by decide : nI 1 = 1)]
    unfold fm_splits1
    exact ⟨_, R1b, fun _ _ => rfl, fun i hi => bq_mono (R1d i hi) (by decide), ok1, ok2⟩
  · rw [if_pos (by decide : (2 : Int32) ≤ nI 2), if_neg (by decide : ¬ nI 2 ≤ 1)]
    have en : nI n - 1 = nI (n - 1) := by rw [show (1 : Int32) = nI 1 from rfl]; exact pk_sub n1
    obtain ⟨P, p1, p2, p3⟩ := RF (nI 2) (n - 1) (by decide) (by omega) (by unfold fm_spF; rw [if_pos (by decide : nI 2 = 2), o6, en]) (by unfold fc_shF; rw [if_pos (by decide : nI 2 = 2), en])
    exact ⟨P, p1, p2, p3, ok1, ok2⟩
  · rw [if_pos (by decide : (2 : Int32) ≤ nI 3), if_neg (by decide : ¬ nI 3 ≤ 1)]
    obtain ⟨P, p1, p2, p3⟩ := RF (nI 3) 0 (by decide) (by omega) (by unfold fm_spF; rw [if_neg (by decide : ¬ nI 3 = 2)]; rfl) (by unfold fc_shF; rw [if_neg (by decide : ¬ nI 3 = 2)]; rfl)
    exact ⟨P, p1, p2, p3, ok1, ok2⟩
/-- parts are written -/
theorem rl_parts {b p : Nat} {l0 : Int32} {w u m z : sx_M} (h : rl b p l0 w u m) {P g : Nat → Int64} (hz : sh_P b m z P) (hg : ∀ i, i < 8 → g i = P i) (hP : ∀ i, i < 8 → bq (P i) (2 ^ 56)) : rl b p l0 w (sx_sL u 3 g) z ∧ rl_f b p m z ∧ sx_i z = sx_i m ∧ sx_I z = sx_I m ∧ sx_L z 19 = sx_L m 19 ∧ sx_L z 20 = sx_L m 20 := by
  obtain ⟨F, rfl, F1, F2⟩ := hz
  obtain ⟨hw, hh, ⟨s0, s1, s2, s3, s4⟩, ⟨n0, n1, n2, n3, n4⟩, hp, hb, ha⟩ := h
  refine ⟨⟨hw, hh, ⟨s0, s1, s2, ?_, s4⟩, ⟨n0, ?_, n2, n3, n4⟩, hp, hb, ha⟩, ⟨fun i _ _ _ _ _ => rfl, fun _ _ => rfl, rfl, fun _ _ => rfl, fun _ _ => rfl, ?_, ?_, fun _ _ => rfl, fun _ _ => ⟨rfl, rfl⟩, rfl⟩, rfl, rfl, rfl, rfl⟩
  · intro k hk
    show g k = F (8 * b + k)
    rw [hg k hk, F1 k hk]
  · intro k hk
    show bq (g k) _
    rw [hg k hk]; exact hP k hk
  · intro i a
    simp only [rg_LL]
    rw [if_neg (by omega)]
  · intro i k a c
    rcases a with rfl | rfl | rfl | rfl
    · rfl
    · rfl
    · exact F2 k c
    · rfl
/-- Split -/
theorem ra_6 {b p : Nat} {l0 : Int32} {w u m : sx_M} (h : rl b p l0 w u m) (h0 : sx_i m 32 = 0) {j r q : Nat} (hj : j < 8) (hr : r < 4) (hq : q < 4) : rl_ok b p 6 l0 w u m (nI j) (nI r) (nI q) := by
  obtain ⟨a1, a2, a3, a4, a5, a6, a7, a8, a9, a10⟩ := rl_num h hj
  obtain ⟨P, p1, p2, p3, ok1, ok2⟩ := sh_all h.1 h.2.1 hq hr a5 (sx_L u 3)
  obtain ⟨r1, f1, k1, k2, k3, k4⟩ := rl_parts h p1 p2 p3
  have E2 : fm_doesK m (nI p) (nI 6) (nI j) (nI r) (nI q) = (if sx_L u 1 j = 1 then fm_splitD (fm_splits m (sx_L u 0 j) (nI r) (nI q)) (8 * b + j) (nI q) else fm_bad m (-5)) := by
    unfold fm_doesK
    rw [if_neg (by decide : ¬ nI 6 = 0), if_neg (by decide : ¬ nI 6 = 1), if_neg (by decide : ¬ nI 6 = 2), if_neg (by decide : ¬ nI 6 = 3), if_neg (by decide : ¬ nI 6 = 4), if_neg (by decide : ¬ nI 6 = 5), if_pos (by decide : nI 6 = 6), rl_ix h.2.1 hj, a1, a2]
  have o2 : fm_doesOk m (nI p) (nI 6) (nI j) (nI r) (nI q) := by
    have S : sx_L m 20 (8 * sx_i m 16 + nI j).toNatClampNeg = 1 → fm_splitOk m (sx_L m 19 (8 * sx_i m 16 + nI j).toNatClampNeg) (nI r) (nI q) ∧ sx_I (fm_splits m (sx_L m 19 (8 * sx_i m 16 + nI j).toNatClampNeg) (nI r) (nI q)) 26 = sx_I m 26 ∧ sx_i (fm_splits m (sx_L m 19 (8 * sx_i m 16 + nI j).toNatClampNeg) (nI r) (nI q)) 16 = sx_i m 16 := by
      rw [rl_ix h.2.1 hj, a1]
      exact fun _ => ⟨ok2, by rw [k2], by rw [k1]⟩
    exact ⟨(rl_base h).1, rl_in8 hj, (rl_base h).2.1, (rl_base h).2.2, fun q => absurd q (by decide), fun q => absurd q (by decide), fun q => absurd q (by decide), fun q => absurd q (by decide), fun q => absurd q (by decide), fun q => absurd q (by decide), fun _ => S, fun q => absurd q (by decide), fun q => absurd q (by decide), fun q => absurd q (by decide), fun q => absurd q (by decide), fun q => absurd q (by decide)⟩
  have E1 : fa_doesN 6 w u (nI j) (nI r) (nI q) = fa_split w u (nI j) (nI r) (nI q) := rfl
  have o1 : fa_doOk 6 w u (nI j) (nI r) (nI q) := by
    refine ⟨rl_in8 hj, True.intro, ?_⟩
    unfold fa_split_ok
    rw [rl_c (show j < 100000 by omega)]
    exact ⟨fun _ => ok1, fun _ => a9, True.intro⟩
  unfold fa_split fr_isWhole at E1
  rw [rl_c (show j < 100000 by omega)] at E1
  unfold rl_ok
  by_cases hd : sx_L u 1 j = 1
  · rw [if_pos hd, if_neg (by decide : ¬ (1 : Int32) = 0)] at E1
    rw [if_pos hd] at E2
    rw [E1, E2]
    refine ⟨?_, ?_, ?_, ⟨_, rfl⟩, o1, o2⟩
    · show (0 : Int32) = sx_i (fm_splits m (sx_L u 0 j) (nI r) (nI q)) 32
      rw [k1, h0]
    · obtain ⟨hw, hh, hs, hn, hp, hb, ha⟩ := r1
      refine ⟨hw, hh, hs, hn, ?_, hb, ha⟩
      have e26 : sx_I (fm_splits m (sx_L u 0 j) (nI r) (nI q)) 26 (8 * b + j) = sx_I u 2 j := by rw [k2, a3]
      have e19 : sx_L (fm_splits m (sx_L u 0 j) (nI r) (nI q)) 19 (8 * b + j) = sx_L u 0 j := by rw [k3, a1]
      refine ⟨?_, ?_, Or.inr ⟨rfl, vp_in_nI hq (by decide), rfl, ?_⟩⟩
      · show sx_I u 2 j = sx_I (fm_splits m (sx_L u 0 j) (nI r) (nI q)) 26 (8 * b + j)
        rw [e26]
      · show sx_I (fm_splits m (sx_L u 0 j) (nI r) (nI q)) 26 (8 * b + j) = 0 ∨ sx_I (fm_splits m (sx_L u 0 j) (nI r) (nI q)) 26 (8 * b + j) = 1
        rw [e26]; exact a9
      · show sx_L u 0 j = sx_L (fm_splits m (sx_L u 0 j) (nI r) (nI q)) 19 (8 * b + j)
        rw [e19]
    · refine f1.tr ⟨fun i i1 i2 i3 _ _ => ?_, fun i i1 => ?_, rfl, fun _ _ => rfl, fun _ _ => rfl, fun _ _ => rfl, fun _ _ _ _ => rfl, fun _ _ => rfl, fun _ _ => ⟨rfl, rfl⟩, rfl⟩
      · unfold fm_splitD
        simp only [rg_ii, rg_il]
        rw [if_neg i3, if_neg i2, if_neg i1]
      · unfold fm_splitD
        simp only [rg_ll, rg_li]
        rw [if_neg i1]
  · rw [if_neg hd, if_pos rfl] at E1
    rw [if_neg hd] at E2
    rw [E1, E2]
    obtain ⟨r2, f2, z2⟩ := rl_bad h (-5)
    exact ⟨z2.symm, r2, f2, ⟨_, rl_same14 w⟩, o1, o2⟩
