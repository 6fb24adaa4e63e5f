/-! PennyJudge: drift (by tools/gen_s4.py) -/
set_option maxRecDepth 100000
def fc_drS (e by_ md : Int32) (S Sk M : Nat) (u : sx_M) : sx_M := it_up fc_drC S 0 (it_up (fc_spO e by_ md Sk) (M + 1) 0 (it_up fc_drB S 0 u))
theorem fc_spI_0 (rest od more : Int32) (k : Nat) (u : sx_M) : sx_I (fc_spI rest od more k u) 0 = sx_I u 0 := by
  unfold fc_spI
  repeat' split
  all_goals rfl
theorem fc_spO_0 (e by_ md : Int32) (S k : Nat) (u : sx_M) : sx_I (fc_spO e by_ md S k u) 0 = sx_I u 0 := it_up_inv _ (fun x => sx_I x 0 = sx_I u 0) (fun j x hx => (fc_spI_0 _ _ _ j x).trans hx) S 0 u rfl
theorem fc_drS_0 (e by_ md : Int32) (S Sk M : Nat) (u : sx_M) : sx_I (fc_drS e by_ md S Sk M u) 0 = sx_I u 0 := by
  have h1 : sx_I (it_up fc_drB S 0 u) 0 = sx_I u 0 := it_up_inv fc_drB (fun x => sx_I x 0 = sx_I u 0) (fun j x hx => hx) S 0 u rfl
  have h2 : sx_I (it_up (fc_spO e by_ md Sk) (M + 1) 0 (it_up fc_drB S 0 u)) 0 = sx_I u 0 := it_up_inv _ (fun x => sx_I x 0 = sx_I u 0) (fun j x hx => (fc_spO_0 e by_ md Sk j x).trans hx) (M + 1) 0 _ h1
  exact it_up_inv fc_drC (fun x => sx_I x 0 = sx_I u 0) (fun j x hx => hx) S 0 _ h2
/-- what drift asks of one line's spread -/
def fc_drOk (e by_ mo : Int32) (N M : Nat) (Sk : Nat → Nat) : Prop := ∀ k, k < N → Sk k ≤ 2600 ∧ (nI k * (e - 1) + 1) * 2 = nI (Sk k) ∧ fc_spTo e by_ (Sk k) M
theorem lp_fc_drS {G : pj_G} {d : Nat} {c : sx_C} {m : sx_M} {o : Nat → Int64} {D : pj_H} {Q : pj_O → pj_H → Prop} (rt md n mo wh e : Int32) (S : Nat) (hS : S ≤ 2600) (N k0 M : Nat) (hN : N ≤ 12) (hk0 : k0 < N) (en : n = nI N) (hM : M ≤ 1000) (Sk : Nat → Nat) (hez : ¬ e = 0) (hez2 : ¬ e.toInt64 = 0) (hrt : vp_in rt 8) (by_ : Int32) (hby : sx_I c.1 0 rt.toNatClampNeg = by_) (eM : (if 2 * e - 1 ≤ mo then 2 * e - 1 else mo) = nI M) (hO : fc_drOk e by_ mo N M Sk) (kk : pj_J G mX1_drift (d + 4) 146 [some (.ref 2), some (.int rt), some (.int md), some (.int n), some (.int mo), some (.int wh), some (.int e), some (.int (nI S)), some (.int (nI k0 + 1)), none, none, none, none] [] (sx_mk (sx_sM c (fc_drS e by_ md S (Sk k0) M c.1)) m o D) 0 0 Q) : pj_J G mX1_drift (d + 4) 146 [some (.ref 2), some (.int rt), some (.int md), some (.int n), some (.int mo), some (.int wh), some (.int e), some (.int (nI S)), some (.int (nI k0)), none, none, none, none] [] (sx_mk c m o D) 0 0 Q := by
  obtain ⟨o1, o2, o3⟩ := hO k0 hk0
  refine lx_fc_dr rt md n mo wh e S hS N k0 hN en hk0 ?_
  refine pj_for (σ := sx_M) (fun (k : Nat) (u : sx_M) => pj_J G mX1_drift (d + 4) 155 [some (.ref 2), some (.int rt), some (.int md), some (.int n), some (.int mo), some (.int wh), some (.int e), some (.int (nI S)), some (.int (nI k0)), some (.int (nI k)), none, none, none] [] (sx_mk (sx_sM c u) m o D) 0 0 Q) fc_drB (fun _ u => sx_I u 0 = sx_I c.1 0) S (fun k u hk hi => ⟨hi, fun kk => ly_fc_drB (c := sx_sM c u) k (nI k0) rt md n mo wh e S hS hk (by rw [nI_add1]; exact kk)⟩) S 0 c.1 (by simp) rfl (fun hi => ?_)
  have hb2 : sx_I (it_up fc_drB S 0 c.1) 0 rt.toNatClampNeg = by_ := by rw [hi]; exact hby
  refine lz_fc_drB (c := sx_sM c (it_up fc_drB S 0 c.1)) (nI k0) rt md n mo wh e S hS hrt _ (c_X1_spread (c := sx_sM c (it_up fc_drB S 0 c.1)) e (nI k0) _ md mo (Sk k0) M o1 hM hez hez2 o2 eM (by show fc_spTo e (sx_I (it_up fc_drB S 0 c.1) 0 rt.toNatClampNeg) (Sk k0) M; rw [hb2]; exact o3)) ?_
  refine pj_J.heq (h' := sx_mk (sx_sM c (it_up (fc_spO e by_ md (Sk k0)) (M + 1) 0 (it_up fc_drB S 0 c.1))) m o D) (by show sx_mk (sx_sM c (it_up (fc_spO e (sx_I (it_up fc_drB S 0 c.1) 0 rt.toNatClampNeg) md (Sk k0)) (M + 1) 0 (it_up fc_drB S 0 c.1))) m o D = _; rw [hb2]) ?_
  unfold fc_drS at kk
  generalize it_up (fc_spO e by_ md (Sk k0)) (M + 1) 0 (it_up fc_drB S 0 c.1) = X at kk ⊢
  refine pj_for (σ := sx_M) (fun (k : Nat) (u : sx_M) => pj_J G mX1_drift (d + 4) 208 [some (.ref 2), some (.int rt), some (.int md), some (.int n), some (.int mo), some (.int wh), some (.int e), some (.int (nI S)), some (.int (nI k0)), some (.int (nI k)), none, none, none] [] (sx_mk (sx_sM c u) m o D) 0 0 Q) fc_drC (fun _ _ => True) S (fun k u hk hi => ⟨hi, fun kk => ly_fc_drC (c := sx_sM c u) k (nI k0) rt md n mo wh e S hS hk (by rw [nI_add1]; exact kk)⟩) S 0 X (by simp) trivial (fun _ => ?_)
  exact lz_fc_drC (c := sx_sM c (it_up fc_drC S 0 X)) (nI k0) rt md n mo wh e S hS kk
def fc_drAll (e by_ md : Int32) (S N M : Nat) (Sk : Nat → Nat) (u : sx_M) : sx_M := it_up (fun k => fc_drS e by_ md S (Sk k) M) N 0 (fc_drZ (it_up fc_drA S 0 u))
def fc_drVal (e md wh : Int32) (S : Nat) (u : sx_M) : Int32 := it_up (fun k b => fc_drD md wh e k b u) S 0 (if wh = 0 then -1000 else 1000)
theorem lp_fc_dr {G : pj_G} {d : Nat} {c : sx_C} {m : sx_M} {o : Nat → Int64} {D : pj_H} {Q : pj_O → pj_H → Prop} (rt md n mo wh e : Int32) (S : Nat) (hS : S ≤ 2600) (N M : Nat) (hN : N ≤ 12) (en : n = nI N) (hM : M ≤ 1000) (Sk : Nat → Nat) (hez : ¬ e = 0) (hez2 : ¬ e.toInt64 = 0) (hrt : vp_in rt 8) (by_ : Int32) (hby : sx_I c.1 0 rt.toNatClampNeg = by_) (eM : (if 2 * e - 1 ≤ mo then 2 * e - 1 else mo) = nI M) (hO : fc_drOk e by_ mo N M Sk) (q : Q (.inl (some (.int (fc_drVal e md wh S (fc_drAll e by_ md S N M Sk c.1))))) (sx_mk (sx_sM c (fc_drAll e by_ md S N M Sk c.1)) m o D)) : pj_J G mX1_drift (d + 4) 96 [some (.ref 2), some (.int rt), some (.int md), some (.int n), some (.int mo), some (.int wh), some (.int e), some (.int (nI S)), some (.int (nI 0)), none, none, none, none] [] (sx_mk c m o D) 0 0 Q := by
  unfold fc_drAll at q
  refine pj_for (σ := sx_M) (fun (k : Nat) (u : sx_M) => pj_J G mX1_drift (d + 4) 96 [some (.ref 2), some (.int rt), some (.int md), some (.int n), some (.int mo), some (.int wh), some (.int e), some (.int (nI S)), some (.int (nI k)), none, none, none, none] [] (sx_mk (sx_sM c u) m o D) 0 0 Q) fc_drA (fun _ u => sx_I u 0 = sx_I c.1 0) S (fun k u hk hi => ⟨hi, fun kk => ly_fc_drA (c := sx_sM c u) k rt md n mo wh e S hS hk (by rw [nI_add1]; exact kk)⟩) S 0 c.1 (by simp) rfl (fun hi => ?_)
  generalize it_up fc_drA S 0 c.1 = X at q hi ⊢
  refine lz_fc_drA (c := sx_sM c X) rt md n mo wh e S hS ?_
  refine pj_for (σ := sx_M) (fun (k : Nat) (u : sx_M) => pj_J G mX1_drift (d + 4) 146 [some (.ref 2), some (.int rt), some (.int md), some (.int n), some (.int mo), some (.int wh), some (.int e), some (.int (nI S)), some (.int (nI k)), none, none, none, none] [] (sx_mk (sx_sM c u) m o D) 0 0 Q) (fun k => fc_drS e by_ md S (Sk k) M) (fun _ u => sx_I u 0 = sx_I c.1 0) N (fun k u hk hu => ⟨(fc_drS_0 e by_ md S (Sk k) M u).trans hu, fun kk => lp_fc_drS (c := sx_sM c u) rt md n mo wh e S hS N k M hN hk en hM Sk hez hez2 hrt by_ (by show sx_I u 0 rt.toNatClampNeg = _; rw [hu]; exact hby) eM hO (by rw [nI_add1]; exact kk)⟩) N 0 (fc_drZ X) (by simp) hi (fun _ => ?_)
  generalize it_up (fun k => fc_drS e by_ md S (Sk k) M) N 0 (fc_drZ X) = Y at q ⊢
  refine lz_fc_dr (c := sx_sM c Y) rt md n mo wh e S hS N hN en ?_
  exact pj_for (σ := Int32) (fun (k : Nat) (b : Int32) => pj_J G mX1_drift (d + 4) 274 [some (.ref 2), some (.int rt), some (.int md), some (.int n), some (.int mo), some (.int wh), some (.int e), some (.int (nI S)), some (.int b), some (.int (nI k)), none, none, none] [] (sx_mk (sx_sM c Y) m o D) 0 0 Q) (fun k b => fc_drD md wh e k b Y) (fun _ _ => True) S (fun k b hk hi => ⟨hi, fun kk => ly_fc_drD (c := sx_sM c Y) md wh e k b rt n mo S hS hk hez hez2 (by rw [nI_add1]; exact kk)⟩) S 0 (if wh = 0 then -1000 else 1000) (by simp) trivial (fun _ => lz_fc_drD (c := sx_sM c Y) rt md n mo wh e S hS _ q)
def fc_drGood (u : sx_M) (rt md n mo wh : Int32) : Prop := ¬ rt < 0 ∧ ¬ 7 < rt ∧ ¬ 100 < sx_I u 1 rt.toNatClampNeg ∧ ¬ md < 0 ∧ ¬ 5 < md ∧ ¬ n < 1 ∧ ¬ 12 < n ∧ ¬ mo < 0 ∧ ¬ 1000 < mo ∧ ¬ wh < 0 ∧ wh ≤ 1
theorem c_X1_driftG {G : pj_G} {d : Nat} {c : sx_C} {m : sx_M} {o : Nat → Int64} {D : pj_H} (rt md n mo wh e : Int32) (hg : fc_drGood c.1 rt md n mo wh) (ee : sx_I c.1 1 rt.toNatClampNeg = e) (S N M : Nat) (hS : S ≤ 2600) (hN : N ≤ 12) (en : n = nI N) (hM : M ≤ 1000) (Sk : Nat → Nat) (hez : ¬ e = 0) (hez2 : ¬ e.toInt64 = 0) (eS : (n * (e - 1) + 1) * 2 = nI S) (eM : (if 2 * e - 1 ≤ mo then 2 * e - 1 else mo) = nI M) (hO : fc_drOk e (sx_I c.1 0 rt.toNatClampNeg) mo N M Sk) : pj_Rt G mX1_drift (d + 4) [.ref 2, .int rt, .int md, .int n, .int mo, .int wh] (sx_mk c m o D) 0 0 (some (.int (fc_drVal e md wh S (fc_drAll e (sx_I c.1 0 rt.toNatClampNeg) md S N M Sk c.1)))) (sx_mk (sx_sM c (fc_drAll e (sx_I c.1 0 rt.toNatClampNeg) md S N M Sk c.1)) m o D) := by
  refine pj_Cn.start ?_
  refine pj_J.go (oX1_drift G) 2 rfl trivial ?_
  refine pj_J.neg (hg.1) ?_
  refine pj_J.go (oX1_drift G) 3 rfl trivial ?_
  refine pj_J.neg (hg.2.1) ?_
  refine pj_J.go (oX1_drift G) 6 rfl ⟨by exact vp_rng (n := 7) hg.1 hg.2.1, trivial⟩ ?_
  refine pj_J.neg (hg.2.2.1) ?_
  refine pj_J.go (oX1_drift G) 2 rfl trivial ?_
  refine pj_J.neg (hg.2.2.2.1) ?_
  refine pj_J.go (oX1_drift G) 3 rfl trivial ?_
  refine pj_J.neg (hg.2.2.2.2.1) ?_
  refine pj_J.go (oX1_drift G) 3 rfl trivial ?_
  refine pj_J.neg (hg.2.2.2.2.2.1) ?_
  refine pj_J.go (oX1_drift G) 3 rfl trivial ?_
  refine pj_J.neg (hg.2.2.2.2.2.2.1) ?_
  refine pj_J.go (oX1_drift G) 2 rfl trivial ?_
  refine pj_J.neg (hg.2.2.2.2.2.2.2.1) ?_
  refine pj_J.go (oX1_drift G) 3 rfl trivial ?_
  refine pj_J.neg (hg.2.2.2.2.2.2.2.2.1) ?_
  refine pj_J.go (oX1_drift G) 2 rfl trivial ?_
  refine pj_J.neg (hg.2.2.2.2.2.2.2.2.2.1) ?_
  refine pj_J.go (oX1_drift G) 3 rfl trivial ?_
  refine pj_J.pos (hg.2.2.2.2.2.2.2.2.2.2) ?_
  refine pj_J.go (oX1_drift G) 17 rfl ⟨by exact vp_rng (n := 7) hg.1 hg.2.1, trivial⟩ ?_
  refine pj_J.drop (L' := [some (.ref 2), some (.int rt), some (.int md), some (.int n), some (.int mo), some (.int wh), some (.int e), some (.int (nI S)), some (.int (nI 0)), none, none, none, none]) ⟨rfl, rfl, rfl, rfl, rfl, rfl, by rw [ee], by rw [← eS, ee], rfl, trivial⟩ ?_
  exact lp_fc_dr rt md n mo wh e S hS N M hN en hM Sk hez hez2 (vp_rng (n := 7) hg.1 hg.2.1) _ rfl eM hO ⟨rfl, rfl⟩
