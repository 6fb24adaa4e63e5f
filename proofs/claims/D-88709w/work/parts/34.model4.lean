/-! PennyJudgeModel: readers, beginnings, tapes (by tools/gen_m4.py) -/
set_option maxRecDepth 100000
theorem c_X4_slot {G : pj_G} {d : Nat} {c : sx_C} {m : sx_M} {o : Nat → Int64} {D : pj_H} (s : Int32) (w : Int32)  : pj_Rt G mX4_slot (d + 1) [.ref 59, .int s, .int w] (sx_mk c m o D) 0 0 (some (.long (fm_slot m s w).1)) (sx_mk c (fm_slot m s w).2 o D) := by
  refine pj_Cn.start ?_
  refine pj_J.go (oX4_slot G) 4 rfl trivial ?_
  refine pj_J.cal0 kX4_slot_5 (c_X4_in _ _ _) trivial pj_le0 pj_le0 pj_le0 ?_
  refine pj_J.go (oX4_slot G) 1 rfl trivial ?_
  refine pj_J.ite (fun hc8 => ?_) (fun hc8 => ?_)
  · skip
    refine pj_J.go (oX4_slot G) 1 rfl trivial ?_
    refine pj_J.cal0 kX4_slot_25 (c_X4_isRefused _) ⟨_, _, _, rfl, rfl⟩ pj_le0 pj_le0 pj_le0 ?_
    refine pj_J.go (oX4_slot G) 1 rfl trivial ?_
    refine pj_J.ite (fun hc28 => ?_) (fun hc28 => ?_)
    · skip
      refine pj_J.go (oX4_slot G) 2 rfl trivial ?_
      refine pj_J.ite (fun hc34 => ?_) (fun hc34 => ?_)
      · skip
        refine pj_J.go (oX4_slot G) 5 rfl ⟨by first | exact vp_mono (fm_in_vp (n := 7) hc8) (by decide) | exact absurd rfl (fm_isRefused_0 hc28), trivial⟩ ?_
        first
          | (exfalso; exact absurd rfl (fm_isRefused_0 hc28))
          | (refine pj_lret dX4_slot_74 rfl ?_; show _ = _ ∧ _ = _; unfold fm_slot fm_slotG fm_slotV; rw [if_pos hc8, if_pos hc28, if_pos hc34]; exact ⟨rfl, rfl⟩)
          | (refine pj_lret dX4_slot_74 rfl ?_; show _ = _ ∧ _ = _; unfold fm_slot fm_slotG fm_slotV; rw [if_pos hc8, if_pos hc28, if_pos hc34]; refine ⟨?_, rfl⟩; unfold fm_isRefused; split <;> rfl)
      · skip
        refine pj_J.go (oX4_slot G) 3 rfl trivial ?_
        refine pj_J.ite (fun hc48 => ?_) (fun hc48 => ?_)
        · skip
          refine pj_J.go (oX4_slot G) 5 rfl ⟨by first | exact vp_mono (fm_in_vp (n := 7) hc8) (by decide) | exact absurd rfl (fm_isRefused_0 hc28), trivial⟩ ?_
          first
            | (exfalso; exact absurd rfl (fm_isRefused_0 hc28))
            | (refine pj_lret dX4_slot_74 rfl ?_; show _ = _ ∧ _ = _; unfold fm_slot fm_slotG fm_slotV; rw [if_pos hc8, if_pos hc28, if_neg hc34, if_pos hc48]; exact ⟨rfl, rfl⟩)
            | (refine pj_lret dX4_slot_74 rfl ?_; show _ = _ ∧ _ = _; unfold fm_slot fm_slotG fm_slotV; rw [if_pos hc8, if_pos hc28, if_neg hc34, if_pos hc48]; refine ⟨?_, rfl⟩; unfold fm_isRefused; split <;> rfl)
        · skip
          refine pj_J.go (oX4_slot G) 5 rfl ⟨by first | exact vp_mono (fm_in_vp (n := 7) hc8) (by decide) | exact absurd rfl (fm_isRefused_0 hc28), trivial⟩ ?_
          refine pj_J.ite (fun hc66 => ?_) (fun hc66 => ?_)
          · skip
            refine pj_J.go (oX4_slot G) 1 rfl trivial ?_
            first
              | (exfalso; exact absurd rfl (fm_isRefused_0 hc28))
              | (refine pj_lret dX4_slot_74 rfl ?_; show _ = _ ∧ _ = _; unfold fm_slot fm_slotG fm_slotV; rw [if_pos hc8, if_pos hc28, if_neg hc34, if_neg hc48, if_pos hc66]; exact ⟨rfl, rfl⟩)
              | (refine pj_lret dX4_slot_74 rfl ?_; show _ = _ ∧ _ = _; unfold fm_slot fm_slotG fm_slotV; rw [if_pos hc8, if_pos hc28, if_neg hc34, if_neg hc48, if_pos hc66]; refine ⟨?_, rfl⟩; unfold fm_isRefused; split <;> rfl)
          · skip
            refine pj_J.go (oX4_slot G) 2 rfl trivial ?_
            first
              | (exfalso; exact absurd rfl (fm_isRefused_0 hc28))
              | (refine pj_lret dX4_slot_74 rfl ?_; show _ = _ ∧ _ = _; unfold fm_slot fm_slotG fm_slotV; rw [if_pos hc8, if_pos hc28, if_neg hc34, if_neg hc48, if_neg hc66]; exact ⟨rfl, rfl⟩)
              | (refine pj_lret dX4_slot_74 rfl ?_; show _ = _ ∧ _ = _; unfold fm_slot fm_slotG fm_slotV; rw [if_pos hc8, if_pos hc28, if_neg hc34, if_neg hc48, if_neg hc66]; refine ⟨?_, rfl⟩; unfold fm_isRefused; split <;> rfl)
    · skip
      refine pj_J.go (oX4_slot G) 1 rfl trivial ?_
      first
        | (exfalso; exact absurd rfl (fm_isRefused_0 hc28))
        | (refine pj_lret dX4_slot_32 rfl ?_; show _ = _ ∧ _ = _; unfold fm_slot fm_slotG fm_slotV; rw [if_pos hc8, if_neg hc28]; exact ⟨rfl, rfl⟩)
        | (refine pj_lret dX4_slot_32 rfl ?_; show _ = _ ∧ _ = _; unfold fm_slot fm_slotG fm_slotV; rw [if_pos hc8, if_neg hc28]; refine ⟨?_, rfl⟩; unfold fm_isRefused; split <;> rfl)
  · skip
    refine pj_J.go (oX4_slot G) 3 rfl trivial ?_
    refine pj_J.cal0 kX4_slot_14 (c_X4_in _ _ _) trivial pj_le0 pj_le0 pj_le0 ?_
    refine pj_J.go (oX4_slot G) 1 rfl trivial ?_
    refine pj_J.ite (fun hc17 => ?_) (fun hc17 => ?_)
    · skip
      refine pj_J.go (oX4_slot G) 1 rfl trivial ?_
      refine pj_J.cal0 kX4_slot_25 (c_X4_isRefused _) ⟨_, _, _, rfl, rfl⟩ pj_le0 pj_le0 pj_le0 ?_
      refine pj_J.go (oX4_slot G) 1 rfl trivial ?_
      refine pj_J.ite (fun hc28 => ?_) (fun hc28 => ?_)
      · skip
        refine pj_J.go (oX4_slot G) 2 rfl trivial ?_
        refine pj_J.ite (fun hc34 => ?_) (fun hc34 => ?_)
        · skip
          refine pj_J.go (oX4_slot G) 5 rfl ⟨by first | exact vp_mono (fm_in_vp (n := 7) hc8) (by decide) | exact absurd rfl (fm_isRefused_0 hc28), trivial⟩ ?_
          first
            | (exfalso; exact absurd rfl (fm_isRefused_0 hc28))
            | (refine pj_lret dX4_slot_74 rfl ?_; show _ = _ ∧ _ = _; unfold fm_slot fm_slotG fm_slotV; rw [if_neg hc8, if_pos hc17, if_pos hc28, if_pos hc34]; exact ⟨rfl, rfl⟩)
            | (refine pj_lret dX4_slot_74 rfl ?_; show _ = _ ∧ _ = _; unfold fm_slot fm_slotG fm_slotV; rw [if_neg hc8, if_pos hc17, if_pos hc28, if_pos hc34]; refine ⟨?_, rfl⟩; unfold fm_isRefused; split <;> rfl)
        · skip
          refine pj_J.go (oX4_slot G) 3 rfl trivial ?_
          refine pj_J.ite (fun hc48 => ?_) (fun hc48 => ?_)
          · skip
            refine pj_J.go (oX4_slot G) 5 rfl ⟨by first | exact vp_mono (fm_in_vp (n := 7) hc8) (by decide) | exact absurd rfl (fm_isRefused_0 hc28), trivial⟩ ?_
            first
              | (exfalso; exact absurd rfl (fm_isRefused_0 hc28))
              | (refine pj_lret dX4_slot_74 rfl ?_; show _ = _ ∧ _ = _; unfold fm_slot fm_slotG fm_slotV; rw [if_neg hc8, if_pos hc17, if_pos hc28, if_neg hc34, if_pos hc48]; exact ⟨rfl, rfl⟩)
              | (refine pj_lret dX4_slot_74 rfl ?_; show _ = _ ∧ _ = _; unfold fm_slot fm_slotG fm_slotV; rw [if_neg hc8, if_pos hc17, if_pos hc28, if_neg hc34, if_pos hc48]; refine ⟨?_, rfl⟩; unfold fm_isRefused; split <;> rfl)
          · skip
            refine pj_J.go (oX4_slot G) 5 rfl ⟨by first | exact vp_mono (fm_in_vp (n := 7) hc8) (by decide) | exact absurd rfl (fm_isRefused_0 hc28), trivial⟩ ?_
            refine pj_J.ite (fun hc66 => ?_) (fun hc66 => ?_)
            · skip
              refine pj_J.go (oX4_slot G) 1 rfl trivial ?_
              first
                | (exfalso; exact absurd rfl (fm_isRefused_0 hc28))
                | (refine pj_lret dX4_slot_74 rfl ?_; show _ = _ ∧ _ = _; unfold fm_slot fm_slotG fm_slotV; rw [if_neg hc8, if_pos hc17, if_pos hc28, if_neg hc34, if_neg hc48, if_pos hc66]; exact ⟨rfl, rfl⟩)
                | (refine pj_lret dX4_slot_74 rfl ?_; show _ = _ ∧ _ = _; unfold fm_slot fm_slotG fm_slotV; rw [if_neg hc8, if_pos hc17, if_pos hc28, if_neg hc34, if_neg hc48, if_pos hc66]; refine ⟨?_, rfl⟩; unfold fm_isRefused; split <;> rfl)
            · skip
              refine pj_J.go (oX4_slot G) 2 rfl trivial ?_
              first
                | (exfalso; exact absurd rfl (fm_isRefused_0 hc28))
                | (refine pj_lret dX4_slot_74 rfl ?_; show _ = _ ∧ _ = _; unfold fm_slot fm_slotG fm_slotV; rw [if_neg hc8, if_pos hc17, if_pos hc28, if_neg hc34, if_neg hc48, if_neg hc66]; exact ⟨rfl, rfl⟩)
                | (refine pj_lret dX4_slot_74 rfl ?_; show _ = _ ∧ _ = _; unfold fm_slot fm_slotG fm_slotV; rw [if_neg hc8, if_pos hc17, if_pos hc28, if_neg hc34, if_neg hc48, if_neg hc66]; refine ⟨?_, rfl⟩; unfold fm_isRefused; split <;> rfl)
      · skip
        refine pj_J.go (oX4_slot G) 1 rfl trivial ?_
        first
          | (exfalso; exact absurd rfl (fm_isRefused_0 hc28))
          | (refine pj_lret dX4_slot_32 rfl ?_; show _ = _ ∧ _ = _; unfold fm_slot fm_slotG fm_slotV; rw [if_neg hc8, if_pos hc17, if_neg hc28]; exact ⟨rfl, rfl⟩)
          | (refine pj_lret dX4_slot_32 rfl ?_; show _ = _ ∧ _ = _; unfold fm_slot fm_slotG fm_slotV; rw [if_neg hc8, if_pos hc17, if_neg hc28]; refine ⟨?_, rfl⟩; unfold fm_isRefused; split <;> rfl)
    · skip
      refine pj_J.go (oX4_slot G) 2 rfl trivial ?_
      refine pj_J.cal0 kX4_slot_25 (c_X4_isRefused _) ⟨_, _, _, rfl, rfl⟩ pj_le0 pj_le0 pj_le0 ?_
      refine pj_J.go (oX4_slot G) 1 rfl trivial ?_
      refine pj_J.ite (fun hc28 => ?_) (fun hc28 => ?_)
      · skip
        refine pj_J.go (oX4_slot G) 2 rfl trivial ?_
        refine pj_J.ite (fun hc34 => ?_) (fun hc34 => ?_)
        · skip
          refine pj_J.go (oX4_slot G) 5 rfl ⟨by first | exact vp_mono (fm_in_vp (n := 7) hc8) (by decide) | exact absurd rfl (fm_isRefused_0 hc28), trivial⟩ ?_
          first
            | (exfalso; exact absurd rfl (fm_isRefused_0 hc28))
            | (refine pj_lret dX4_slot_74 rfl ?_; show _ = _ ∧ _ = _; unfold fm_slot fm_slotG fm_slotV; rw [if_neg hc8, if_neg hc17, if_pos hc28, if_pos hc34]; exact ⟨rfl, rfl⟩)
            | (refine pj_lret dX4_slot_74 rfl ?_; show _ = _ ∧ _ = _; unfold fm_slot fm_slotG fm_slotV; rw [if_neg hc8, if_neg hc17, if_pos hc28, if_pos hc34]; refine ⟨?_, rfl⟩; unfold fm_isRefused; split <;> rfl)
        · skip
          refine pj_J.go (oX4_slot G) 3 rfl trivial ?_
          refine pj_J.ite (fun hc48 => ?_) (fun hc48 => ?_)
          · skip
            refine pj_J.go (oX4_slot G) 5 rfl ⟨by first | exact vp_mono (fm_in_vp (n := 7) hc8) (by decide) | exact absurd rfl (fm_isRefused_0 hc28), trivial⟩ ?_
            first
              | (exfalso; exact absurd rfl (fm_isRefused_0 hc28))
              | (refine pj_lret dX4_slot_74 rfl ?_; show _ = _ ∧ _ = _; unfold fm_slot fm_slotG fm_slotV; rw [if_neg hc8, if_neg hc17, if_pos hc28, if_neg hc34, if_pos hc48]; exact ⟨rfl, rfl⟩)
              | (refine pj_lret dX4_slot_74 rfl ?_; show _ = _ ∧ _ = _; unfold fm_slot fm_slotG fm_slotV; rw [if_neg hc8, if_neg hc17, if_pos hc28, if_neg hc34, if_pos hc48]; refine ⟨?_, rfl⟩; unfold fm_isRefused; split <;> rfl)
          · skip
            refine pj_J.go (oX4_slot G) 5 rfl ⟨by first | exact vp_mono (fm_in_vp (n := 7) hc8) (by decide) | exact absurd rfl (fm_isRefused_0 hc28), trivial⟩ ?_
            refine pj_J.ite (fun hc66 => ?_) (fun hc66 => ?_)
            · skip
              refine pj_J.go (oX4_slot G) 1 rfl trivial ?_
              first
                | (exfalso; exact absurd rfl (fm_isRefused_0 hc28))
                | (refine pj_lret dX4_slot_74 rfl ?_; show _ = _ ∧ _ = _; unfold fm_slot fm_slotG fm_slotV; rw [if_neg hc8, if_neg hc17, if_pos hc28, if_neg hc34, if_neg hc48, if_pos hc66]; exact ⟨rfl, rfl⟩)
                | (refine pj_lret dX4_slot_74 rfl ?_; show _ = _ ∧ _ = _; unfold fm_slot fm_slotG fm_slotV; rw [if_neg hc8, if_neg hc17, if_pos hc28, if_neg hc34, if_neg hc48, if_pos hc66]; refine ⟨?_, rfl⟩; unfold fm_isRefused; split <;> rfl)
            · skip
              refine pj_J.go (oX4_slot G) 2 rfl trivial ?_
              first
                | (exfalso; exact absurd rfl (fm_isRefused_0 hc28))
                | (refine pj_lret dX4_slot_74 rfl ?_; show _ = _ ∧ _ = _; unfold fm_slot fm_slotG fm_slotV; rw [if_neg hc8, if_neg hc17, if_pos hc28, if_neg hc34, if_neg hc48, if_neg hc66]; exact ⟨rfl, rfl⟩)
                | (refine pj_lret dX4_slot_74 rfl ?_; show _ = _ ∧ _ = _; unfold fm_slot fm_slotG fm_slotV; rw [if_neg hc8, if_neg hc17, if_pos hc28, if_neg hc34, if_neg hc48, if_neg hc66]; refine ⟨?_, rfl⟩; unfold fm_isRefused; split <;> rfl)
      · skip
        refine pj_J.go (oX4_slot G) 1 rfl trivial ?_
        first
          | (exfalso; exact absurd rfl (fm_isRefused_0 hc28))
          | (refine pj_lret dX4_slot_32 rfl ?_; show _ = _ ∧ _ = _; unfold fm_slot fm_slotG fm_slotV; rw [if_neg hc8, if_neg hc17, if_neg hc28]; exact ⟨rfl, rfl⟩)
          | (refine pj_lret dX4_slot_32 rfl ?_; show _ = _ ∧ _ = _; unfold fm_slot fm_slotG fm_slotV; rw [if_neg hc8, if_neg hc17, if_neg hc28]; refine ⟨?_, rfl⟩; unfold fm_isRefused; split <;> rfl)
def fm_carriedG (m : sx_M) (p w : Int32) : Int32 := if fm_isProgram m p = 0 then 0 else if fm_in w 0 1 = 0 then 0 else 1
def fm_carried (m : sx_M) (p w : Int32) : Int64 × sx_M := if (fm_isRefused m (fm_carriedG m p w)).1 = 0 then (if w = 0 then sx_L m 24 p.toNatClampNeg else sx_L m 25 p.toNatClampNeg, (fm_isRefused m (fm_carriedG m p w)).2) else (0, (fm_isRefused m (fm_carriedG m p w)).2)
theorem c_X4_carried {G : pj_G} {d : Nat} {c : sx_C} {m : sx_M} {o : Nat → Int64} {D : pj_H} (p : Int32) (w : Int32) (hp : vp_in (sx_i m 7) 5) : pj_Rt G mX4_carried (d + 2) [.ref 59, .int p, .int w] (sx_mk c m o D) 0 0 (some (.long (fm_carried m p w).1)) (sx_mk c (fm_carried m p w).2 o D) := by
  refine pj_Cn.start ?_
  refine pj_J.go (oX4_carried G) 3 rfl trivial ?_
  refine pj_J.cal0 kX4_carried_3 (c_X4_isProgram _) ⟨_, _, _, rfl, rfl⟩ pj_le0 pj_le0 pj_le0 ?_
  refine pj_J.go (oX4_carried G) 1 rfl trivial ?_
  refine pj_J.ite (fun hc6 => ?_) (fun hc6 => ?_)
  · skip
    refine pj_J.go (oX4_carried G) 1 rfl trivial ?_
    refine pj_J.cal0 kX4_carried_23 (c_X4_isRefused _) ⟨_, _, _, rfl, rfl⟩ pj_le0 pj_le0 pj_le0 ?_
    refine pj_J.go (oX4_carried G) 1 rfl trivial ?_
    refine pj_J.ite (fun hc26 => ?_) (fun hc26 => ?_)
    · skip
      refine pj_J.go (oX4_carried G) 2 rfl trivial ?_
      refine pj_J.ite (fun hc32 => ?_) (fun hc32 => ?_)
      · skip
        refine pj_J.go (oX4_carried G) 5 rfl ⟨by first | exact vp_mono (fm_isProgram_vp hp hc6) (by decide) | exact absurd rfl (fm_isRefused_0 hc26), trivial⟩ ?_
        first
          | (exfalso; exact absurd rfl (fm_isRefused_0 hc26))
          | (refine pj_lret dX4_carried_50 rfl ?_; show _ = _ ∧ _ = _; unfold fm_carried fm_carriedG; rw [if_pos hc6, if_pos hc26, if_pos hc32]; exact ⟨rfl, rfl⟩)
          | (refine pj_lret dX4_carried_50 rfl ?_; show _ = _ ∧ _ = _; unfold fm_carried fm_carriedG; rw [if_pos hc6, if_pos hc26, if_pos hc32]; refine ⟨?_, rfl⟩; unfold fm_isRefused; split <;> rfl)
      · skip
        refine pj_J.go (oX4_carried G) 4 rfl ⟨by first | exact vp_mono (fm_isProgram_vp hp hc6) (by decide) | exact absurd rfl (fm_isRefused_0 hc26), trivial⟩ ?_
        first
          | (exfalso; exact absurd rfl (fm_isRefused_0 hc26))
          | (refine pj_lret dX4_carried_50 rfl ?_; show _ = _ ∧ _ = _; unfold fm_carried fm_carriedG; rw [if_pos hc6, if_pos hc26, if_neg hc32]; exact ⟨rfl, rfl⟩)
          | (refine pj_lret dX4_carried_50 rfl ?_; show _ = _ ∧ _ = _; unfold fm_carried fm_carriedG; rw [if_pos hc6, if_pos hc26, if_neg hc32]; refine ⟨?_, rfl⟩; unfold fm_isRefused; split <;> rfl)
    · skip
      refine pj_J.go (oX4_carried G) 1 rfl trivial ?_
      first
        | (exfalso; exact absurd rfl (fm_isRefused_0 hc26))
        | (refine pj_lret dX4_carried_30 rfl ?_; show _ = _ ∧ _ = _; unfold fm_carried fm_carriedG; rw [if_pos hc6, if_neg hc26]; exact ⟨rfl, rfl⟩)
        | (refine pj_lret dX4_carried_30 rfl ?_; show _ = _ ∧ _ = _; unfold fm_carried fm_carriedG; rw [if_pos hc6, if_neg hc26]; refine ⟨?_, rfl⟩; unfold fm_isRefused; split <;> rfl)
  · skip
    refine pj_J.go (oX4_carried G) 3 rfl trivial ?_
    refine pj_J.cal0 kX4_carried_12 (c_X4_in _ _ _) trivial pj_le0 pj_le0 pj_le0 ?_
    refine pj_J.go (oX4_carried G) 1 rfl trivial ?_
    refine pj_J.ite (fun hc15 => ?_) (fun hc15 => ?_)
    · skip
      refine pj_J.go (oX4_carried G) 1 rfl trivial ?_
      refine pj_J.cal0 kX4_carried_23 (c_X4_isRefused _) ⟨_, _, _, rfl, rfl⟩ pj_le0 pj_le0 pj_le0 ?_
      refine pj_J.go (oX4_carried G) 1 rfl trivial ?_
      refine pj_J.ite (fun hc26 => ?_) (fun hc26 => ?_)
      · skip
        refine pj_J.go (oX4_carried G) 2 rfl trivial ?_
        refine pj_J.ite (fun hc32 => ?_) (fun hc32 => ?_)
        · skip
          refine pj_J.go (oX4_carried G) 5 rfl ⟨by first | exact vp_mono (fm_isProgram_vp hp hc6) (by decide) | exact absurd rfl (fm_isRefused_0 hc26), trivial⟩ ?_
          first
            | (exfalso; exact absurd rfl (fm_isRefused_0 hc26))
            | (refine pj_lret dX4_carried_50 rfl ?_; show _ = _ ∧ _ = _; unfold fm_carried fm_carriedG; rw [if_neg hc6, if_pos hc15, if_pos hc26, if_pos hc32]; exact ⟨rfl, rfl⟩)
            | (refine pj_lret dX4_carried_50 rfl ?_; show _ = _ ∧ _ = _; unfold fm_carried fm_carriedG; rw [if_neg hc6, if_pos hc15, if_pos hc26, if_pos hc32]; refine ⟨?_, rfl⟩; unfold fm_isRefused; split <;> rfl)
        · skip
          refine pj_J.go (oX4_carried G) 4 rfl ⟨by first | exact vp_mono (fm_isProgram_vp hp hc6) (by decide) | exact absurd rfl (fm_isRefused_0 hc26), trivial⟩ ?_
          first
            | (exfalso; exact absurd rfl (fm_isRefused_0 hc26))
            | (refine pj_lret dX4_carried_50 rfl ?_; show _ = _ ∧ _ = _; unfold fm_carried fm_carriedG; rw [if_neg hc6, if_pos hc15, if_pos hc26, if_neg hc32]; exact ⟨rfl, rfl⟩)
            | (refine pj_lret dX4_carried_50 rfl ?_; show _ = _ ∧ _ = _; unfold fm_carried fm_carriedG; rw [if_neg hc6, if_pos hc15, if_pos hc26, if_neg hc32]; refine ⟨?_, rfl⟩; unfold fm_isRefused; split <;> rfl)
      · skip
        refine pj_J.go (oX4_carried G) 1 rfl trivial ?_
        first
          | (exfalso; exact absurd rfl (fm_isRefused_0 hc26))
          | (refine pj_lret dX4_carried_30 rfl ?_; show _ = _ ∧ _ = _; unfold fm_carried fm_carriedG; rw [if_neg hc6, if_pos hc15, if_neg hc26]; exact ⟨rfl, rfl⟩)
          | (refine pj_lret dX4_carried_30 rfl ?_; show _ = _ ∧ _ = _; unfold fm_carried fm_carriedG; rw [if_neg hc6, if_pos hc15, if_neg hc26]; refine ⟨?_, rfl⟩; unfold fm_isRefused; split <;> rfl)
    · skip
      refine pj_J.go (oX4_carried G) 2 rfl trivial ?_
      refine pj_J.cal0 kX4_carried_23 (c_X4_isRefused _) ⟨_, _, _, rfl, rfl⟩ pj_le0 pj_le0 pj_le0 ?_
      refine pj_J.go (oX4_carried G) 1 rfl trivial ?_
      refine pj_J.ite (fun hc26 => ?_) (fun hc26 => ?_)
      · skip
        refine pj_J.go (oX4_carried G) 2 rfl trivial ?_
        refine pj_J.ite (fun hc32 => ?_) (fun hc32 => ?_)
        · skip
          refine pj_J.go (oX4_carried G) 5 rfl ⟨by first | exact vp_mono (fm_isProgram_vp hp hc6) (by decide) | exact absurd rfl (fm_isRefused_0 hc26), trivial⟩ ?_
          first
            | (exfalso; exact absurd rfl (fm_isRefused_0 hc26))
            | (refine pj_lret dX4_carried_50 rfl ?_; show _ = _ ∧ _ = _; unfold fm_carried fm_carriedG; rw [if_neg hc6, if_neg hc15, if_pos hc26, if_pos hc32]; exact ⟨rfl, rfl⟩)
            | (refine pj_lret dX4_carried_50 rfl ?_; show _ = _ ∧ _ = _; unfold fm_carried fm_carriedG; rw [if_neg hc6, if_neg hc15, if_pos hc26, if_pos hc32]; refine ⟨?_, rfl⟩; unfold fm_isRefused; split <;> rfl)
        · skip
          refine pj_J.go (oX4_carried G) 4 rfl ⟨by first | exact vp_mono (fm_isProgram_vp hp hc6) (by decide) | exact absurd rfl (fm_isRefused_0 hc26), trivial⟩ ?_
          first
            | (exfalso; exact absurd rfl (fm_isRefused_0 hc26))
            | (refine pj_lret dX4_carried_50 rfl ?_; show _ = _ ∧ _ = _; unfold fm_carried fm_carriedG; rw [if_neg hc6, if_neg hc15, if_pos hc26, if_neg hc32]; exact ⟨rfl, rfl⟩)
            | (refine pj_lret dX4_carried_50 rfl ?_; show _ = _ ∧ _ = _; unfold fm_carried fm_carriedG; rw [if_neg hc6, if_neg hc15, if_pos hc26, if_neg hc32]; refine ⟨?_, rfl⟩; unfold fm_isRefused; split <;> rfl)
      · skip
        refine pj_J.go (oX4_carried G) 1 rfl trivial ?_
        first
          | (exfalso; exact absurd rfl (fm_isRefused_0 hc26))
          | (refine pj_lret dX4_carried_30 rfl ?_; show _ = _ ∧ _ = _; unfold fm_carried fm_carriedG; rw [if_neg hc6, if_neg hc15, if_neg hc26]; exact ⟨rfl, rfl⟩)
          | (refine pj_lret dX4_carried_30 rfl ?_; show _ = _ ∧ _ = _; unfold fm_carried fm_carriedG; rw [if_neg hc6, if_neg hc15, if_neg hc26]; refine ⟨?_, rfl⟩; unfold fm_isRefused; split <;> rfl)
def fm_clrB (k : Nat) (m : sx_M) : sx_M := sx_sL (sx_sI (sx_sL (sx_sL m 19 (vp_updL (sx_L m 19) (8 * sx_i m 16 + nI k).toNatClampNeg 0)) 20 (vp_updL (sx_L m 20) (8 * sx_i m 16 + nI k).toNatClampNeg 1)) 26 (upd (sx_I m 26) (8 * sx_i m 16 + nI k).toNatClampNeg (vp_nar .boolean 0))) 21 (vp_updL (sx_L m 21) (8 * sx_i m 16 + nI k).toNatClampNeg 0)
def fm_clears (m : sx_M) : sx_M := sx_si (sx_si (it_up fm_clrB 8 0 m) 27 0) 28 0
theorem fm_clrB_i : ∀ (n k : Nat) (m : sx_M), (it_up fm_clrB n k m).1 = m.1 := by
  intro n
  induction n with
  | zero => intro k m; rfl
  | succ n ih => intro k m; exact ih (k + 1) (fm_clrB k m)
theorem c_X4_clears {G : pj_G} {d : Nat} {c : sx_C} {m : sx_M} {o : Nat → Int64} {D : pj_H} (hb : sx_i m 16 = 0 ∨ sx_i m 16 = 1) : pj_Rt G mX4_clears (d) [.ref 59] (sx_mk c m o D) 0 0 none (sx_mk c (fm_clears m) o D) := by
  refine pj_Cn.start ?_
  refine pj_J.go (oX4_clears G) 2 rfl trivial ?_
  refine pj_for (fun k s => pj_J G mX4_clears (d) 2 [some (.ref 59), some (.int (nI k))] [] (sx_mk c s o D) 0 0 _) fm_clrB (fun _ s => sx_i s 16 = 0 ∨ sx_i s 16 = 1) 8 (fun k s hk hi => ⟨hi, fun kk => ?_⟩) 8 0 m (by simp) hb (fun hi => ?_)
  · rw [← nI_add1] at kk
    refine pj_J.go (oX4_clears G) 3 rfl trivial ?_
    refine pj_J.neg (nI_lt_lit hk (by decide)) ?_
    refine pj_J.go (oX4_clears G) 42 rfl ⟨by exact vp_in_b8 hi (vp_in_lit hk), by exact vp_in_b8 hi (vp_in_lit hk), by exact vp_in_b8 hi (vp_in_lit hk), by exact vp_in_b8 hi (vp_in_lit hk), trivial⟩ ?_
    exact kk
  · skip
    refine pj_J.go (oX4_clears G) 3 rfl trivial ?_
    refine pj_J.pos (nI_ge_lit (Nat.le_refl 8) (by decide)) ?_
    refine pj_J.go (oX4_clears G) 6 rfl ⟨by exact Or.inl rfl, by exact Or.inl rfl, trivial⟩ ?_
    exact pj_vret dX4_clears_84 rfl ⟨rfl, rfl⟩
def fm_rsA (k : Nat) (m : sx_M) : sx_M := sx_sI (sx_sI m 1 (upd (sx_I m 1) (nI k).toNatClampNeg 0)) 2 (upd (sx_I m 2) (nI k).toNatClampNeg 1)
def fm_rsB (k : Nat) (m : sx_M) : sx_M := sx_sI (sx_sI m 5 (upd (sx_I m 5) (nI k).toNatClampNeg 2)) 6 (upd (upd (sx_I m 6) (8 * nI k).toNatClampNeg 1) (8 * nI k + 1).toNatClampNeg 1)
def fm_rsC (k : Nat) (m : sx_M) : sx_M := sx_sL m 23 (vp_updL (sx_L m 23) (nI k).toNatClampNeg 0)
def fm_rsD (k : Nat) (m : sx_M) : sx_M := sx_sL m 22 (vp_updL (sx_L m 22) (nI k).toNatClampNeg 0)
def fm_rsS (m : sx_M) : sx_M := sx_si (sx_si (sx_si (sx_si (sx_si (sx_si m 3 0) 7 0) 13 0) 14 (-2)) 15 0) 16 0
def fm_resets (m : sx_M) : sx_M := it_up fm_rsD 12 0 (fm_clears (fm_rsS (it_up fm_rsC 8 0 (it_up fm_rsB 4 0 (it_up fm_rsA 8 0 m)))))
theorem c_X4_resets {G : pj_G} {d : Nat} {c : sx_C} {m : sx_M} {o : Nat → Int64} {D : pj_H}  : pj_Rt G mX4_resets (d + 1) [.ref 59] (sx_mk c m o D) 0 0 none (sx_mk c (fm_resets m) o D) := by
  refine pj_Cn.start ?_
  refine pj_J.go (oX4_resets G) 2 rfl trivial ?_
  refine pj_for (fun k s => pj_J G mX4_resets (d + 1) 2 [some (.ref 59), some (.int (nI k))] [] (sx_mk c s o D) 0 0 _) fm_rsA (fun _ _ => True) 8 (fun k s hk hi => ⟨trivial, fun kk => ?_⟩) 8 0 _ (by simp) trivial (fun hi => ?_)
  · rw [← nI_add1] at kk
    refine pj_J.go (oX4_resets G) 3 rfl trivial ?_
    refine pj_J.neg (nI_lt_lit hk (by decide)) ?_
    refine pj_J.go (oX4_resets G) 12 rfl ⟨by exact vp_mono (vp_in_lit hk) (by decide), by exact vp_mono (vp_in_lit hk) (by decide), trivial⟩ ?_
    exact kk
  · skip
    refine pj_J.go (oX4_resets G) 3 rfl trivial ?_
    refine pj_J.pos (nI_ge_lit (Nat.le_refl 8) (by decide)) ?_
    refine pj_J.go (oX4_resets G) 2 rfl trivial ?_
    refine pj_for (fun k s => pj_J G mX4_resets (d + 1) 30 [some (.ref 59), some (.int (nI k))] [] (sx_mk c s o D) 0 0 _) fm_rsB (fun _ _ => True) 4 (fun k s hk hi => ⟨trivial, fun kk => ?_⟩) 4 0 _ (by simp) trivial (fun hi => ?_)
    · rw [← nI_add1] at kk
      refine pj_J.go (oX4_resets G) 3 rfl trivial ?_
      refine pj_J.neg (nI_lt_lit hk (by decide)) ?_
      refine pj_J.go (oX4_resets G) 23 rfl ⟨by exact vp_mono (vp_in_lit hk) (by decide), by exact vp_8k hk, by exact vp_8k1 hk, trivial⟩ ?_
      exact kk
    · skip
      refine pj_J.go (oX4_resets G) 3 rfl trivial ?_
      refine pj_J.pos (nI_ge_lit (Nat.le_refl 4) (by decide)) ?_
      refine pj_J.go (oX4_resets G) 2 rfl trivial ?_
      refine pj_for (fun k s => pj_J G mX4_resets (d + 1) 72 [some (.ref 59), some (.int (nI k))] [] (sx_mk c s o D) 0 0 _) fm_rsC (fun _ _ => True) 8 (fun k s hk hi => ⟨trivial, fun kk => ?_⟩) 8 0 _ (by simp) trivial (fun hi => ?_)
      · rw [← nI_add1] at kk
        refine pj_J.go (oX4_resets G) 3 rfl trivial ?_
        refine pj_J.neg (nI_lt_lit hk (by decide)) ?_
        refine pj_J.go (oX4_resets G) 7 rfl ⟨by exact vp_mono (vp_in_lit hk) (by decide), trivial⟩ ?_
        exact kk
      · skip
        refine pj_J.go (oX4_resets G) 3 rfl trivial ?_
        refine pj_J.pos (nI_ge_lit (Nat.le_refl 8) (by decide)) ?_
        refine pj_J.go (oX4_resets G) 19 rfl trivial ?_
        refine pj_J.cal0 kX4_resets_123 (c_X4_clears (c := c) (o := o) (D := D) (m := fm_rsS (it_up fm_rsC 8 0 (it_up fm_rsB 4 0 (it_up fm_rsA 8 0 m)))) (Or.inl rfl)) ⟨_, _, _, rfl, rfl⟩ pj_le0 pj_le0 pj_le0 ?_
        refine pj_J.go (oX4_resets G) 2 rfl trivial ?_
        refine pj_for (fun k s => pj_J G mX4_resets (d + 1) 128 [some (.ref 59), some (.int (nI k))] [] (sx_mk c s o D) 0 0 _) fm_rsD (fun _ _ => True) 12 (fun k s hk hi => ⟨trivial, fun kk => ?_⟩) 12 0 _ (by simp) trivial (fun hi => ?_)
        · rw [← nI_add1] at kk
          refine pj_J.go (oX4_resets G) 3 rfl trivial ?_
          refine pj_J.neg (nI_lt_lit hk (by decide)) ?_
          refine pj_J.go (oX4_resets G) 7 rfl ⟨by exact vp_mono (vp_in_lit hk) (by decide), trivial⟩ ?_
          exact kk
        · skip
          refine pj_J.go (oX4_resets G) 3 rfl trivial ?_
          refine pj_J.pos (nI_ge_lit (Nat.le_refl 12) (by decide)) ?_
          exact pj_vret dX4_resets_147 rfl ⟨rfl, rfl⟩
theorem c_X4_begin {G : pj_G} {d : Nat} {c : sx_C} {m : sx_M} {o : Nat → Int64} {D : pj_H} : pj_Rt G mX4_begin (d + 2) [.ref 59] (sx_mk c m o D) 0 0 (some (.int 0)) (sx_mk c (fm_resets m) o D) := by
  refine pj_Cn.start ?_
  refine pj_J.go (oX4_begin G) 1 rfl trivial ?_
  refine pj_J.cal0 kX4_begin_1 c_X4_resets ⟨_, _, _, rfl, rfl⟩ pj_le0 pj_le0 pj_le0 ?_
  refine pj_J.go (oX4_begin G) 1 rfl trivial ?_
  exact pj_iret dX4_begin_5 rfl ⟨rfl, rfl⟩
