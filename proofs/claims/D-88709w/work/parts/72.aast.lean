/-! storing a reference in an array. Own work. -/
set_option maxRecDepth 100000
/-- what may be stored: a Program, a Tape in their own arrays; an act's class in an array of acts -/
def pj_sto (kd ci : Nat) : Prop := (kd = 6 ∧ ci = 4) ∨ (kd = 8 ∧ ci = 2) ∨ (kd = 7 ∧ 5 ≤ ci ∧ ci ≤ 17)
theorem pj_actC {ci : Nat} (h1 : 5 ≤ ci) (h2 : ci ≤ 17) : ∃ (C : String) (T : u_T) (N : Nat), pj_cl[ci]? = some (C, T, N) ∧ Cond.castable C "PennyJudge$Act" ∈ pj_ext := by
  match ci, h1, h2 with
  | 5, _, _ => exact ⟨_, _, _, rfl, pj_xC (q := (_, "PennyJudge$Act")) 9 rfl⟩
  | 6, _, _ => exact ⟨_, _, _, rfl, pj_xC (q := (_, "PennyJudge$Act")) 10 rfl⟩
  | 7, _, _ => exact ⟨_, _, _, rfl, pj_xC (q := (_, "PennyJudge$Act")) 11 rfl⟩
  | 8, _, _ => exact ⟨_, _, _, rfl, pj_xC (q := (_, "PennyJudge$Act")) 12 rfl⟩
  | 9, _, _ => exact ⟨_, _, _, rfl, pj_xC (q := (_, "PennyJudge$Act")) 13 rfl⟩
  | 10, _, _ => exact ⟨_, _, _, rfl, pj_xC (q := (_, "PennyJudge$Act")) 14 rfl⟩
  | 11, _, _ => exact ⟨_, _, _, rfl, pj_xC (q := (_, "PennyJudge$Act")) 15 rfl⟩
  | 12, _, _ => exact ⟨_, _, _, rfl, pj_xC (q := (_, "PennyJudge$Act")) 16 rfl⟩
  | 13, _, _ => exact ⟨_, _, _, rfl, pj_xC (q := (_, "PennyJudge$Act")) 17 rfl⟩
  | 14, _, _ => exact ⟨_, _, _, rfl, pj_xC (q := (_, "PennyJudge$Act")) 18 rfl⟩
  | 15, _, _ => exact ⟨_, _, _, rfl, pj_xC (q := (_, "PennyJudge$Act")) 19 rfl⟩
  | 16, _, _ => exact ⟨_, _, _, rfl, pj_xC (q := (_, "PennyJudge$Act")) 20 rfl⟩
  | 17, _, _ => exact ⟨_, _, _, rfl, pj_xC (q := (_, "PennyJudge$Act")) 21 rfl⟩
  | c + 18, _, h => omega
def po_aast (n : Nat) : pj_Op := fun L st h kc ks => match st with
  | .ref v :: .int i :: .ref a :: r => match h[a]?, h[v]? with
    | some (.inl (kd, (N, .inr (.inr (.inr (.inr f)))))), some (.inr (ci, _)) => some (some (vp_in i N ∧ pj_sto kd ci), (n, L, r, h.set a (.inl (kd, (N, .inr (.inr (.inr (.inr (va_up f i.toNatClampNeg (some v)))))))), kc, ks))
    | _, _ => none
  | _ => none
theorem pj_upmap {G : pj_G} (f : Nat → Option Nat) (k v : Nat) : (fun j => (va_up f k (some v) j).map (pj_ad G)) = va_up (fun j => (f j).map (pj_ad G)) k (some (pj_ad G v)) := by
  funext j
  unfold va_up
  split <;> rfl
theorem ps_aast {G : pj_G} {mt : pj_M} {pc : Nat} (hd : decode mt.2.1 pc = .ok (.aastore, 1)) : pj_Snd G mt pc (po_aast (pc + 1)) := by
  intro L st h kc ks c S ho hc d Q kk p l e R s m args below meth cc H locs cells slots mc ms ls hC hR hl hv h1 h2 h3 h4
  unfold po_aast at ho
  split at ho
  · rename_i v i a r
    split at ho
    · rename_i kd N f ci fs hcell hval
      simp only [Option.some.injEq, Prod.mk.injEq] at ho; obtain ⟨rfl, rfl⟩ := ho
      obtain ⟨hin, hsto⟩ := hc
      have hK := hC.2.2.2.2.2.2.2.2.1.1
      have h0 : ¬ i < 0 := fun q => hin (Or.inl q)
      have hlt : i.toNatClampNeg < N := Nat.not_le.mp fun q => hin (Or.inr q)
      rcases hsto with ⟨rfl, rfl⟩ | ⟨rfl, rfl⟩ | ⟨rfl, hci⟩
      · have hP := pj_one hR hcell (by show ¬ 90 ≤ 6; omega)
        obtain ⟨r', hr', cellV, g1, g2, g3, -⟩ := pj_one hR hval (by show ¬ 90 ≤ 4; omega) 0 _ rfl
        have hcls := (hK.1 4 _ rfl).2
        obtain ⟨kA, comp, k1, k2, k3, -⟩ := (hK.2 6 _ rfl).2
        have hcomp : comp = G.1.1 4 := Option.some.inj (k3.symm.trans hcls.1)
        subst hcomp
        obtain ⟨kC, hkC, -⟩ := hcls.2
        refine W.aast hC.1 hC.2.1 (hP 0 _ rfl) (fun q h => by cases h) (fun h => by cases h) k1 k2 rfl hkC ⟨h0, by show _ < (arrV _ _ _).slots.size; rw [arrV_size]; exact hlt⟩ g1 (fun q h => by rw [g3] at h; cases h) (by rw [g2]; exact hkC) (by rw [g2]; exact va_assign hcls) rfl rfl hd fun H1 e1 z oq => ?_
        refine kk p l e R s m args below meth cc H1 _ cells slots mc ms ls hC (hR.set hcell (by show ¬ 90 ≤ 6; omega) z oq fun _ => ?_) (fun q hq => ?_) hv h1 h2 h3 h4
        · show H1[pj_ad G a]? = some (vp_cell (G.2.1 6) (N, .inr (.inr (.inr (.inr (fun j => (va_up f i.toNatClampNeg (some v) j).map (pj_ad G)))))))
          rw [e1, pj_upmap]
          show some (Cell.setSlot (vp_cell (G.2.1 6) (N, .inr (.inr (.inr (.inr (fun j => (f j).map (pj_ad G))))))) i.toNatClampNeg _) = _
          rw [vp_cell_q, vp_cell_q, arrV_store]
          congr 2
          funext q
          by_cases hq : q = i.toNatClampNeg
          · subst hq
            simp [updV, va_up, va_rf]
          · simp [updV, va_up, hq]
        · rcases List.mem_append.mp hq with hq | hq
          · exact hl q hq
          · obtain ⟨j, rfl⟩ := hR.own hcell (by show ¬ 90 ≤ 6; omega)
            simp at hq
            subst hq
            exact Nat.le_add_right _ _
      · have hP := pj_one hR hcell (by show ¬ 90 ≤ 8; omega)
        obtain ⟨r', hr', cellV, g1, g2, g3, -⟩ := pj_one hR hval (by show ¬ 90 ≤ 2; omega) 0 _ rfl
        have hcls := (hK.1 2 _ rfl).2
        obtain ⟨kA, comp, k1, k2, k3, -⟩ := (hK.2 8 _ rfl).2
        have hcomp : comp = G.1.1 2 := Option.some.inj (k3.symm.trans hcls.1)
        subst hcomp
        obtain ⟨kC, hkC, -⟩ := hcls.2
        refine W.aast hC.1 hC.2.1 (hP 0 _ rfl) (fun q h => by cases h) (fun h => by cases h) k1 k2 rfl hkC ⟨h0, by show _ < (arrV _ _ _).slots.size; rw [arrV_size]; exact hlt⟩ g1 (fun q h => by rw [g3] at h; cases h) (by rw [g2]; exact hkC) (by rw [g2]; exact va_assign hcls) rfl rfl hd fun H1 e1 z oq => ?_
        refine kk p l e R s m args below meth cc H1 _ cells slots mc ms ls hC (hR.set hcell (by show ¬ 90 ≤ 8; omega) z oq fun _ => ?_) (fun q hq => ?_) hv h1 h2 h3 h4
        · show H1[pj_ad G a]? = some (vp_cell (G.2.1 8) (N, .inr (.inr (.inr (.inr (fun j => (va_up f i.toNatClampNeg (some v) j).map (pj_ad G)))))))
          rw [e1, pj_upmap]
          show some (Cell.setSlot (vp_cell (G.2.1 8) (N, .inr (.inr (.inr (.inr (fun j => (f j).map (pj_ad G))))))) i.toNatClampNeg _) = _
          rw [vp_cell_q, vp_cell_q, arrV_store]
          congr 2
          funext q
          by_cases hq : q = i.toNatClampNeg
          · subst hq
            simp [updV, va_up, va_rf]
          · simp [updV, va_up, hq]
        · rcases List.mem_append.mp hq with hq | hq
          · exact hl q hq
          · obtain ⟨j, rfl⟩ := hR.own hcell (by show ¬ 90 ≤ 8; omega)
            simp at hq
            subst hq
            exact Nat.le_add_right _ _
      · have hP := pj_one hR hcell (by show ¬ 90 ≤ 7; omega)
        obtain ⟨r', hr', cellV, g1, g2, g3, -⟩ := pj_one hR hval (by show ¬ 90 ≤ ci; omega) 0 _ rfl
        obtain ⟨C, T, Nf, hcl, hca⟩ := pj_actC hci.1 hci.2
        have hcls := (hK.1 ci _ hcl).2
        obtain ⟨kA, comp, k1, k2, k3, -⟩ := (hK.2 7 _ rfl).2
        obtain ⟨kE, hkE, -⟩ := Vm.findClass_spec k3
        obtain ⟨c0, t1, f1, f2, f3⟩ := Cond.castable_spec (va_Nw.use (A := args) rfl (hC.2.2.2.2.2.2.2.2.1.2.1 _ hca))
        cases hcls.1.symm.trans f1
        cases k3.symm.trans f2
        obtain ⟨kC, hkC, -⟩ := hcls.2
        refine W.aast hC.1 hC.2.1 (hP 0 _ rfl) (fun q h => by cases h) (fun h => by cases h) k1 k2 rfl hkE ⟨h0, by show _ < (arrV _ _ _).slots.size; rw [arrV_size]; exact hlt⟩ g1 (fun q h => by rw [g3] at h; cases h) (by rw [g2]; exact hkC) (by rw [g2]; exact f3) rfl rfl hd fun H1 e1 z oq => ?_
        refine kk p l e R s m args below meth cc H1 _ cells slots mc ms ls hC (hR.set hcell (by show ¬ 90 ≤ 7; omega) z oq fun _ => ?_) (fun q hq => ?_) hv h1 h2 h3 h4
        · show H1[pj_ad G a]? = some (vp_cell (G.2.1 7) (N, .inr (.inr (.inr (.inr (fun j => (va_up f i.toNatClampNeg (some v) j).map (pj_ad G)))))))
          rw [e1, pj_upmap]
          show some (Cell.setSlot (vp_cell (G.2.1 7) (N, .inr (.inr (.inr (.inr (fun j => (f j).map (pj_ad G))))))) i.toNatClampNeg _) = _
          rw [vp_cell_q, vp_cell_q, arrV_store]
          congr 2
          funext q
          by_cases hq : q = i.toNatClampNeg
          · subst hq
            simp [updV, va_up, va_rf]
          · simp [updV, va_up, hq]
        · rcases List.mem_append.mp hq with hq | hq
          · exact hl q hq
          · obtain ⟨j, rfl⟩ := hR.own hcell (by show ¬ 90 ≤ 7; omega)
            simp at hq
            subst hq
            exact Nat.le_add_right _ _
    · cases ho
  · cases ho
