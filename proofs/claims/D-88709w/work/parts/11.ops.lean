/-! THE SMALL MACHINE's instructions (by tools/gen_ops.py). po_x: what x does; ps_x: the machine does it -/
set_option maxRecDepth 100000
def po_iadd (n : Nat) : pj_Op := fun L st h kc ks => match st with
  | .int y :: .int x :: r => some (none, (n, L, .int (x + y) :: r, h, kc, ks))
  | _ => none
theorem ps_iadd {G : pj_G} {mt : pj_M} {pc : Nat} (hd : decode mt.2.1 pc = .ok (.iadd, 1)) : pj_Snd G mt pc (po_iadd (pc + 1)) := by
  intro L st h kc ks c S ho hc d Q k p l e R s m args below meth cc H locs cells slots mc ms ls hC hR hl hv h1 h2 h3 h4
  unfold po_iadd at ho
  split at ho
  · simp only [Option.some.injEq, Prod.mk.injEq] at ho; obtain ⟨rfl, rfl⟩ := ho
    exact lv_iadd hC.1 hC.2.1 hd (k p l e R s m args below meth cc H locs cells slots mc ms ls hC hR hl hv h1 h2 h3 h4)
  · cases ho
def po_isub (n : Nat) : pj_Op := fun L st h kc ks => match st with
  | .int y :: .int x :: r => some (none, (n, L, .int (x - y) :: r, h, kc, ks))
  | _ => none
theorem ps_isub {G : pj_G} {mt : pj_M} {pc : Nat} (hd : decode mt.2.1 pc = .ok (.isub, 1)) : pj_Snd G mt pc (po_isub (pc + 1)) := by
  intro L st h kc ks c S ho hc d Q k p l e R s m args below meth cc H locs cells slots mc ms ls hC hR hl hv h1 h2 h3 h4
  unfold po_isub at ho
  split at ho
  · simp only [Option.some.injEq, Prod.mk.injEq] at ho; obtain ⟨rfl, rfl⟩ := ho
    exact lv_isub hC.1 hC.2.1 hd (k p l e R s m args below meth cc H locs cells slots mc ms ls hC hR hl hv h1 h2 h3 h4)
  · cases ho
def po_imul (n : Nat) : pj_Op := fun L st h kc ks => match st with
  | .int y :: .int x :: r => some (none, (n, L, .int (x * y) :: r, h, kc, ks))
  | _ => none
theorem ps_imul {G : pj_G} {mt : pj_M} {pc : Nat} (hd : decode mt.2.1 pc = .ok (.imul, 1)) : pj_Snd G mt pc (po_imul (pc + 1)) := by
  intro L st h kc ks c S ho hc d Q k p l e R s m args below meth cc H locs cells slots mc ms ls hC hR hl hv h1 h2 h3 h4
  unfold po_imul at ho
  split at ho
  · simp only [Option.some.injEq, Prod.mk.injEq] at ho; obtain ⟨rfl, rfl⟩ := ho
    exact lv_imul hC.1 hC.2.1 hd (k p l e R s m args below meth cc H locs cells slots mc ms ls hC hR hl hv h1 h2 h3 h4)
  · cases ho
def po_iand (n : Nat) : pj_Op := fun L st h kc ks => match st with
  | .int y :: .int x :: r => some (none, (n, L, .int (x &&& y) :: r, h, kc, ks))
  | _ => none
theorem ps_iand {G : pj_G} {mt : pj_M} {pc : Nat} (hd : decode mt.2.1 pc = .ok (.iand, 1)) : pj_Snd G mt pc (po_iand (pc + 1)) := by
  intro L st h kc ks c S ho hc d Q k p l e R s m args below meth cc H locs cells slots mc ms ls hC hR hl hv h1 h2 h3 h4
  unfold po_iand at ho
  split at ho
  · simp only [Option.some.injEq, Prod.mk.injEq] at ho; obtain ⟨rfl, rfl⟩ := ho
    exact lv_iand hC.1 hC.2.1 hd (k p l e R s m args below meth cc H locs cells slots mc ms ls hC hR hl hv h1 h2 h3 h4)
  · cases ho
def po_ladd (n : Nat) : pj_Op := fun L st h kc ks => match st with
  | .long y :: .long x :: r => some (none, (n, L, .long (x + y) :: r, h, kc, ks))
  | _ => none
theorem ps_ladd {G : pj_G} {mt : pj_M} {pc : Nat} (hd : decode mt.2.1 pc = .ok (.ladd, 1)) : pj_Snd G mt pc (po_ladd (pc + 1)) := by
  intro L st h kc ks c S ho hc d Q k p l e R s m args below meth cc H locs cells slots mc ms ls hC hR hl hv h1 h2 h3 h4
  unfold po_ladd at ho
  split at ho
  · simp only [Option.some.injEq, Prod.mk.injEq] at ho; obtain ⟨rfl, rfl⟩ := ho
    exact lv_ladd hC.1 hC.2.1 hd (k p l e R s m args below meth cc H locs cells slots mc ms ls hC hR hl hv h1 h2 h3 h4)
  · cases ho
def po_lsub (n : Nat) : pj_Op := fun L st h kc ks => match st with
  | .long y :: .long x :: r => some (none, (n, L, .long (x - y) :: r, h, kc, ks))
  | _ => none
theorem ps_lsub {G : pj_G} {mt : pj_M} {pc : Nat} (hd : decode mt.2.1 pc = .ok (.lsub, 1)) : pj_Snd G mt pc (po_lsub (pc + 1)) := by
  intro L st h kc ks c S ho hc d Q k p l e R s m args below meth cc H locs cells slots mc ms ls hC hR hl hv h1 h2 h3 h4
  unfold po_lsub at ho
  split at ho
  · simp only [Option.some.injEq, Prod.mk.injEq] at ho; obtain ⟨rfl, rfl⟩ := ho
    exact lv_lsub hC.1 hC.2.1 hd (k p l e R s m args below meth cc H locs cells slots mc ms ls hC hR hl hv h1 h2 h3 h4)
  · cases ho
def po_lmul (n : Nat) : pj_Op := fun L st h kc ks => match st with
  | .long y :: .long x :: r => some (none, (n, L, .long (x * y) :: r, h, kc, ks))
  | _ => none
theorem ps_lmul {G : pj_G} {mt : pj_M} {pc : Nat} (hd : decode mt.2.1 pc = .ok (.lmul, 1)) : pj_Snd G mt pc (po_lmul (pc + 1)) := by
  intro L st h kc ks c S ho hc d Q k p l e R s m args below meth cc H locs cells slots mc ms ls hC hR hl hv h1 h2 h3 h4
  unfold po_lmul at ho
  split at ho
  · simp only [Option.some.injEq, Prod.mk.injEq] at ho; obtain ⟨rfl, rfl⟩ := ho
    exact lv_lmul hC.1 hC.2.1 hd (k p l e R s m args below meth cc H locs cells slots mc ms ls hC hR hl hv h1 h2 h3 h4)
  · cases ho
def po_land (n : Nat) : pj_Op := fun L st h kc ks => match st with
  | .long y :: .long x :: r => some (none, (n, L, .long (x &&& y) :: r, h, kc, ks))
  | _ => none
theorem ps_land {G : pj_G} {mt : pj_M} {pc : Nat} (hd : decode mt.2.1 pc = .ok (.land, 1)) : pj_Snd G mt pc (po_land (pc + 1)) := by
  intro L st h kc ks c S ho hc d Q k p l e R s m args below meth cc H locs cells slots mc ms ls hC hR hl hv h1 h2 h3 h4
  unfold po_land at ho
  split at ho
  · simp only [Option.some.injEq, Prod.mk.injEq] at ho; obtain ⟨rfl, rfl⟩ := ho
    exact lv_land hC.1 hC.2.1 hd (k p l e R s m args below meth cc H locs cells slots mc ms ls hC hR hl hv h1 h2 h3 h4)
  · cases ho
def po_lor (n : Nat) : pj_Op := fun L st h kc ks => match st with
  | .long y :: .long x :: r => some (none, (n, L, .long (x ||| y) :: r, h, kc, ks))
  | _ => none
theorem ps_lor {G : pj_G} {mt : pj_M} {pc : Nat} (hd : decode mt.2.1 pc = .ok (.lor, 1)) : pj_Snd G mt pc (po_lor (pc + 1)) := by
  intro L st h kc ks c S ho hc d Q k p l e R s m args below meth cc H locs cells slots mc ms ls hC hR hl hv h1 h2 h3 h4
  unfold po_lor at ho
  split at ho
  · simp only [Option.some.injEq, Prod.mk.injEq] at ho; obtain ⟨rfl, rfl⟩ := ho
    exact lv_lor hC.1 hC.2.1 hd (k p l e R s m args below meth cc H locs cells slots mc ms ls hC hR hl hv h1 h2 h3 h4)
  · cases ho
def po_lxor (n : Nat) : pj_Op := fun L st h kc ks => match st with
  | .long y :: .long x :: r => some (none, (n, L, .long (x ^^^ y) :: r, h, kc, ks))
  | _ => none
theorem ps_lxor {G : pj_G} {mt : pj_M} {pc : Nat} (hd : decode mt.2.1 pc = .ok (.lxor, 1)) : pj_Snd G mt pc (po_lxor (pc + 1)) := by
  intro L st h kc ks c S ho hc d Q k p l e R s m args below meth cc H locs cells slots mc ms ls hC hR hl hv h1 h2 h3 h4
  unfold po_lxor at ho
  split at ho
  · simp only [Option.some.injEq, Prod.mk.injEq] at ho; obtain ⟨rfl, rfl⟩ := ho
    exact lv_lxor hC.1 hC.2.1 hd (k p l e R s m args below meth cc H locs cells slots mc ms ls hC hR hl hv h1 h2 h3 h4)
  · cases ho
def po_ineg (n : Nat) : pj_Op := fun L st h kc ks => match st with
  | .int x :: r => some (none, (n, L, .int (-x) :: r, h, kc, ks))
  | _ => none
theorem ps_ineg {G : pj_G} {mt : pj_M} {pc : Nat} (hd : decode mt.2.1 pc = .ok (.ineg, 1)) : pj_Snd G mt pc (po_ineg (pc + 1)) := by
  intro L st h kc ks c S ho hc d Q k p l e R s m args below meth cc H locs cells slots mc ms ls hC hR hl hv h1 h2 h3 h4
  unfold po_ineg at ho
  split at ho
  · simp only [Option.some.injEq, Prod.mk.injEq] at ho; obtain ⟨rfl, rfl⟩ := ho
    exact lv_ineg hC.1 hC.2.1 hd (k p l e R s m args below meth cc H locs cells slots mc ms ls hC hR hl hv h1 h2 h3 h4)
  · cases ho
def po_lneg (n : Nat) : pj_Op := fun L st h kc ks => match st with
  | .long x :: r => some (none, (n, L, .long (-x) :: r, h, kc, ks))
  | _ => none
theorem ps_lneg {G : pj_G} {mt : pj_M} {pc : Nat} (hd : decode mt.2.1 pc = .ok (.lneg, 1)) : pj_Snd G mt pc (po_lneg (pc + 1)) := by
  intro L st h kc ks c S ho hc d Q k p l e R s m args below meth cc H locs cells slots mc ms ls hC hR hl hv h1 h2 h3 h4
  unfold po_lneg at ho
  split at ho
  · simp only [Option.some.injEq, Prod.mk.injEq] at ho; obtain ⟨rfl, rfl⟩ := ho
    exact lv_lneg hC.1 hC.2.1 hd (k p l e R s m args below meth cc H locs cells slots mc ms ls hC hR hl hv h1 h2 h3 h4)
  · cases ho
def po_idiv (n : Nat) : pj_Op := fun L st h kc ks => match st with
  | .int y :: .int x :: r => some (some (¬ y = 0), (n, L, .int (x / y) :: r, h, kc, ks))
  | _ => none
theorem ps_idiv {G : pj_G} {mt : pj_M} {pc : Nat} (hd : decode mt.2.1 pc = .ok (.idiv, 1)) : pj_Snd G mt pc (po_idiv (pc + 1)) := by
  intro L st h kc ks c S ho hc d Q k p l e R s m args below meth cc H locs cells slots mc ms ls hC hR hl hv h1 h2 h3 h4
  unfold po_idiv at ho
  split at ho
  · simp only [Option.some.injEq, Prod.mk.injEq] at ho; obtain ⟨rfl, rfl⟩ := ho
    exact lv_idiv hC.1 hC.2.1 hd hc (k p l e R s m args below meth cc H locs cells slots mc ms ls hC hR hl hv h1 h2 h3 h4)
  · cases ho
def po_irem (n : Nat) : pj_Op := fun L st h kc ks => match st with
  | .int y :: .int x :: r => some (some (¬ y = 0), (n, L, .int (x - x / y * y) :: r, h, kc, ks))
  | _ => none
theorem ps_irem {G : pj_G} {mt : pj_M} {pc : Nat} (hd : decode mt.2.1 pc = .ok (.irem, 1)) : pj_Snd G mt pc (po_irem (pc + 1)) := by
  intro L st h kc ks c S ho hc d Q k p l e R s m args below meth cc H locs cells slots mc ms ls hC hR hl hv h1 h2 h3 h4
  unfold po_irem at ho
  split at ho
  · simp only [Option.some.injEq, Prod.mk.injEq] at ho; obtain ⟨rfl, rfl⟩ := ho
    exact lv_irem hC.1 hC.2.1 hd hc (k p l e R s m args below meth cc H locs cells slots mc ms ls hC hR hl hv h1 h2 h3 h4)
  · cases ho
def po_ldiv (n : Nat) : pj_Op := fun L st h kc ks => match st with
  | .long y :: .long x :: r => some (some (¬ y = 0), (n, L, .long (x / y) :: r, h, kc, ks))
  | _ => none
theorem ps_ldiv {G : pj_G} {mt : pj_M} {pc : Nat} (hd : decode mt.2.1 pc = .ok (.ldiv, 1)) : pj_Snd G mt pc (po_ldiv (pc + 1)) := by
  intro L st h kc ks c S ho hc d Q k p l e R s m args below meth cc H locs cells slots mc ms ls hC hR hl hv h1 h2 h3 h4
  unfold po_ldiv at ho
  split at ho
  · simp only [Option.some.injEq, Prod.mk.injEq] at ho; obtain ⟨rfl, rfl⟩ := ho
    exact lv_ldiv hC.1 hC.2.1 hd hc (k p l e R s m args below meth cc H locs cells slots mc ms ls hC hR hl hv h1 h2 h3 h4)
  · cases ho
def po_lrem (n : Nat) : pj_Op := fun L st h kc ks => match st with
  | .long y :: .long x :: r => some (some (¬ y = 0), (n, L, .long (x - x / y * y) :: r, h, kc, ks))
  | _ => none
theorem ps_lrem {G : pj_G} {mt : pj_M} {pc : Nat} (hd : decode mt.2.1 pc = .ok (.lrem, 1)) : pj_Snd G mt pc (po_lrem (pc + 1)) := by
  intro L st h kc ks c S ho hc d Q k p l e R s m args below meth cc H locs cells slots mc ms ls hC hR hl hv h1 h2 h3 h4
  unfold po_lrem at ho
  split at ho
  · simp only [Option.some.injEq, Prod.mk.injEq] at ho; obtain ⟨rfl, rfl⟩ := ho
    exact lv_lrem hC.1 hC.2.1 hd hc (k p l e R s m args below meth cc H locs cells slots mc ms ls hC hR hl hv h1 h2 h3 h4)
  · cases ho
def po_lshl (n : Nat) : pj_Op := fun L st h kc ks => match st with
  | .int y :: .long x :: r => some (none, (n, L, .long (x <<< (y.toInt64 &&& 63)) :: r, h, kc, ks))
  | _ => none
theorem ps_lshl {G : pj_G} {mt : pj_M} {pc : Nat} (hd : decode mt.2.1 pc = .ok (.lshl, 1)) : pj_Snd G mt pc (po_lshl (pc + 1)) := by
  intro L st h kc ks c S ho hc d Q k p l e R s m args below meth cc H locs cells slots mc ms ls hC hR hl hv h1 h2 h3 h4
  unfold po_lshl at ho
  split at ho
  · simp only [Option.some.injEq, Prod.mk.injEq] at ho; obtain ⟨rfl, rfl⟩ := ho
    exact lv_lshl hC.1 hC.2.1 hd rfl (k p l e R s m args below meth cc H locs cells slots mc ms ls hC hR hl hv h1 h2 h3 h4)
  · cases ho
def po_lshr (n : Nat) : pj_Op := fun L st h kc ks => match st with
  | .int y :: .long x :: r => some (none, (n, L, .long (x >>> (y.toInt64 &&& 63)) :: r, h, kc, ks))
  | _ => none
theorem ps_lshr {G : pj_G} {mt : pj_M} {pc : Nat} (hd : decode mt.2.1 pc = .ok (.lshr, 1)) : pj_Snd G mt pc (po_lshr (pc + 1)) := by
  intro L st h kc ks c S ho hc d Q k p l e R s m args below meth cc H locs cells slots mc ms ls hC hR hl hv h1 h2 h3 h4
  unfold po_lshr at ho
  split at ho
  · simp only [Option.some.injEq, Prod.mk.injEq] at ho; obtain ⟨rfl, rfl⟩ := ho
    exact lv_lshr hC.1 hC.2.1 hd rfl (k p l e R s m args below meth cc H locs cells slots mc ms ls hC hR hl hv h1 h2 h3 h4)
  · cases ho
def po_lcmp (n : Nat) : pj_Op := fun L st h kc ks => match st with
  | .long y :: .long x :: r => some (none, (n, L, .int (lg_cmp x y) :: r, h, kc, ks))
  | _ => none
theorem ps_lcmp {G : pj_G} {mt : pj_M} {pc : Nat} (hd : decode mt.2.1 pc = .ok (.lcmp, 1)) : pj_Snd G mt pc (po_lcmp (pc + 1)) := by
  intro L st h kc ks c S ho hc d Q k p l e R s m args below meth cc H locs cells slots mc ms ls hC hR hl hv h1 h2 h3 h4
  unfold po_lcmp at ho
  split at ho
  · simp only [Option.some.injEq, Prod.mk.injEq] at ho; obtain ⟨rfl, rfl⟩ := ho
    exact W.lcmp hC.1 hC.2.1 hd (k p l e R s m args below meth cc H locs cells slots mc ms ls hC hR hl hv h1 h2 h3 h4)
  · cases ho
def po_dadd (n : Nat) : pj_Op := fun L st h kc ks => match st with
  | .double y :: .double x :: r => some (some (vf_n64 (FP.dadd x y)), (n, L, .double (FP.dadd x y) :: r, h, kc, ks))
  | _ => none
theorem ps_dadd {G : pj_G} {mt : pj_M} {pc : Nat} (hd : decode mt.2.1 pc = .ok (.dadd, 1)) : pj_Snd G mt pc (po_dadd (pc + 1)) := by
  intro L st h kc ks c S ho hc d Q k p l e R s m args below meth cc H locs cells slots mc ms ls hC hR hl hv h1 h2 h3 h4
  unfold po_dadd at ho
  split at ho
  · simp only [Option.some.injEq, Prod.mk.injEq] at ho; obtain ⟨rfl, rfl⟩ := ho
    exact lv_dadd hC.1 hC.2.1 hd hc (k p l e R s m args below meth cc H locs cells slots mc ms ls hC hR hl hv h1 h2 h3 h4)
  · cases ho
def po_dsub (n : Nat) : pj_Op := fun L st h kc ks => match st with
  | .double y :: .double x :: r => some (some (vf_n64 (FP.dsub x y)), (n, L, .double (FP.dsub x y) :: r, h, kc, ks))
  | _ => none
theorem ps_dsub {G : pj_G} {mt : pj_M} {pc : Nat} (hd : decode mt.2.1 pc = .ok (.dsub, 1)) : pj_Snd G mt pc (po_dsub (pc + 1)) := by
  intro L st h kc ks c S ho hc d Q k p l e R s m args below meth cc H locs cells slots mc ms ls hC hR hl hv h1 h2 h3 h4
  unfold po_dsub at ho
  split at ho
  · simp only [Option.some.injEq, Prod.mk.injEq] at ho; obtain ⟨rfl, rfl⟩ := ho
    exact lv_dsub hC.1 hC.2.1 hd hc (k p l e R s m args below meth cc H locs cells slots mc ms ls hC hR hl hv h1 h2 h3 h4)
  · cases ho
def po_dmul (n : Nat) : pj_Op := fun L st h kc ks => match st with
  | .double y :: .double x :: r => some (some (vf_n64 (FP.dmul x y)), (n, L, .double (FP.dmul x y) :: r, h, kc, ks))
  | _ => none
theorem ps_dmul {G : pj_G} {mt : pj_M} {pc : Nat} (hd : decode mt.2.1 pc = .ok (.dmul, 1)) : pj_Snd G mt pc (po_dmul (pc + 1)) := by
  intro L st h kc ks c S ho hc d Q k p l e R s m args below meth cc H locs cells slots mc ms ls hC hR hl hv h1 h2 h3 h4
  unfold po_dmul at ho
  split at ho
  · simp only [Option.some.injEq, Prod.mk.injEq] at ho; obtain ⟨rfl, rfl⟩ := ho
    exact lv_dmul hC.1 hC.2.1 hd hc (k p l e R s m args below meth cc H locs cells slots mc ms ls hC hR hl hv h1 h2 h3 h4)
  · cases ho
def po_ddiv (n : Nat) : pj_Op := fun L st h kc ks => match st with
  | .double y :: .double x :: r => some (some (vf_n64 (FP.ddiv x y)), (n, L, .double (FP.ddiv x y) :: r, h, kc, ks))
  | _ => none
theorem ps_ddiv {G : pj_G} {mt : pj_M} {pc : Nat} (hd : decode mt.2.1 pc = .ok (.ddiv, 1)) : pj_Snd G mt pc (po_ddiv (pc + 1)) := by
  intro L st h kc ks c S ho hc d Q k p l e R s m args below meth cc H locs cells slots mc ms ls hC hR hl hv h1 h2 h3 h4
  unfold po_ddiv at ho
  split at ho
  · simp only [Option.some.injEq, Prod.mk.injEq] at ho; obtain ⟨rfl, rfl⟩ := ho
    exact lv_ddiv hC.1 hC.2.1 hd hc (k p l e R s m args below meth cc H locs cells slots mc ms ls hC hR hl hv h1 h2 h3 h4)
  · cases ho
def po_dcmp (op : CmpOp) (n : Nat) : pj_Op := fun L st h kc ks => match st with
  | .double y :: .double x :: r => some (none, (n, L, .int (Op.cmpValue (FP.dcmp x y) op) :: r, h, kc, ks))
  | _ => none
theorem ps_dcmp {G : pj_G} {mt : pj_M} {pc : Nat} {op : CmpOp} (hd : decode mt.2.1 pc = .ok (.dcmp op, 1)) : pj_Snd G mt pc (po_dcmp op (pc + 1)) := by
  intro L st h kc ks c S ho hc d Q k p l e R s m args below meth cc H locs cells slots mc ms ls hC hR hl hv h1 h2 h3 h4
  unfold po_dcmp at ho
  split at ho
  · simp only [Option.some.injEq, Prod.mk.injEq] at ho; obtain ⟨rfl, rfl⟩ := ho
    exact lv_dcmp hC.1 hC.2.1 hd (k p l e R s m args below meth cc H locs cells slots mc ms ls hC hR hl hv h1 h2 h3 h4)
  · cases ho
def po_i2l (n : Nat) : pj_Op := fun L st h kc ks => match st with
  | .int x :: r => some (none, (n, L, .long (x.toInt64) :: r, h, kc, ks))
  | _ => none
theorem ps_i2l {G : pj_G} {mt : pj_M} {pc : Nat} (hd : decode mt.2.1 pc = .ok (.i2l, 1)) : pj_Snd G mt pc (po_i2l (pc + 1)) := by
  intro L st h kc ks c S ho hc d Q k p l e R s m args below meth cc H locs cells slots mc ms ls hC hR hl hv h1 h2 h3 h4
  unfold po_i2l at ho
  split at ho
  · simp only [Option.some.injEq, Prod.mk.injEq] at ho; obtain ⟨rfl, rfl⟩ := ho
    exact lv_i2l hC.1 hC.2.1 hd rfl (k p l e R s m args below meth cc H locs cells slots mc ms ls hC hR hl hv h1 h2 h3 h4)
  · cases ho
def po_l2i (n : Nat) : pj_Op := fun L st h kc ks => match st with
  | .long x :: r => some (none, (n, L, .int (x.toInt32) :: r, h, kc, ks))
  | _ => none
theorem ps_l2i {G : pj_G} {mt : pj_M} {pc : Nat} (hd : decode mt.2.1 pc = .ok (.l2i, 1)) : pj_Snd G mt pc (po_l2i (pc + 1)) := by
  intro L st h kc ks c S ho hc d Q k p l e R s m args below meth cc H locs cells slots mc ms ls hC hR hl hv h1 h2 h3 h4
  unfold po_l2i at ho
  split at ho
  · simp only [Option.some.injEq, Prod.mk.injEq] at ho; obtain ⟨rfl, rfl⟩ := ho
    exact lv_l2i hC.1 hC.2.1 hd rfl (k p l e R s m args below meth cc H locs cells slots mc ms ls hC hR hl hv h1 h2 h3 h4)
  · cases ho
def po_i2b (n : Nat) : pj_Op := fun L st h kc ks => match st with
  | .int x :: r => some (none, (n, L, .int (x.toInt8.toInt32) :: r, h, kc, ks))
  | _ => none
theorem ps_i2b {G : pj_G} {mt : pj_M} {pc : Nat} (hd : decode mt.2.1 pc = .ok (.i2b, 1)) : pj_Snd G mt pc (po_i2b (pc + 1)) := by
  intro L st h kc ks c S ho hc d Q k p l e R s m args below meth cc H locs cells slots mc ms ls hC hR hl hv h1 h2 h3 h4
  unfold po_i2b at ho
  split at ho
  · simp only [Option.some.injEq, Prod.mk.injEq] at ho; obtain ⟨rfl, rfl⟩ := ho
    exact lv_i2b hC.1 hC.2.1 hd rfl (k p l e R s m args below meth cc H locs cells slots mc ms ls hC hR hl hv h1 h2 h3 h4)
  · cases ho
def po_i2s (n : Nat) : pj_Op := fun L st h kc ks => match st with
  | .int x :: r => some (none, (n, L, .int (x.toInt16.toInt32) :: r, h, kc, ks))
  | _ => none
theorem ps_i2s {G : pj_G} {mt : pj_M} {pc : Nat} (hd : decode mt.2.1 pc = .ok (.i2s, 1)) : pj_Snd G mt pc (po_i2s (pc + 1)) := by
  intro L st h kc ks c S ho hc d Q k p l e R s m args below meth cc H locs cells slots mc ms ls hC hR hl hv h1 h2 h3 h4
  unfold po_i2s at ho
  split at ho
  · simp only [Option.some.injEq, Prod.mk.injEq] at ho; obtain ⟨rfl, rfl⟩ := ho
    exact lv_i2s hC.1 hC.2.1 hd rfl (k p l e R s m args below meth cc H locs cells slots mc ms ls hC hR hl hv h1 h2 h3 h4)
  · cases ho
def po_i2d (n : Nat) : pj_Op := fun L st h kc ks => match st with
  | .int x :: r => some (none, (n, L, .double (FP.i2d x) :: r, h, kc, ks))
  | _ => none
theorem ps_i2d {G : pj_G} {mt : pj_M} {pc : Nat} (hd : decode mt.2.1 pc = .ok (.i2d, 1)) : pj_Snd G mt pc (po_i2d (pc + 1)) := by
  intro L st h kc ks c S ho hc d Q k p l e R s m args below meth cc H locs cells slots mc ms ls hC hR hl hv h1 h2 h3 h4
  unfold po_i2d at ho
  split at ho
  · simp only [Option.some.injEq, Prod.mk.injEq] at ho; obtain ⟨rfl, rfl⟩ := ho
    exact lv_i2d hC.1 hC.2.1 hd (k p l e R s m args below meth cc H locs cells slots mc ms ls hC hR hl hv h1 h2 h3 h4)
  · cases ho
def po_l2d (n : Nat) : pj_Op := fun L st h kc ks => match st with
  | .long x :: r => some (none, (n, L, .double (FP.l2d x) :: r, h, kc, ks))
  | _ => none
theorem ps_l2d {G : pj_G} {mt : pj_M} {pc : Nat} (hd : decode mt.2.1 pc = .ok (.l2d, 1)) : pj_Snd G mt pc (po_l2d (pc + 1)) := by
  intro L st h kc ks c S ho hc d Q k p l e R s m args below meth cc H locs cells slots mc ms ls hC hR hl hv h1 h2 h3 h4
  unfold po_l2d at ho
  split at ho
  · simp only [Option.some.injEq, Prod.mk.injEq] at ho; obtain ⟨rfl, rfl⟩ := ho
    exact lv_l2d hC.1 hC.2.1 hd (k p l e R s m args below meth cc H locs cells slots mc ms ls hC hR hl hv h1 h2 h3 h4)
  · cases ho
def po_d2l (n : Nat) : pj_Op := fun L st h kc ks => match st with
  | .double x :: r => some (none, (n, L, .long (FP.d2l x) :: r, h, kc, ks))
  | _ => none
theorem ps_d2l {G : pj_G} {mt : pj_M} {pc : Nat} (hd : decode mt.2.1 pc = .ok (.d2l, 1)) : pj_Snd G mt pc (po_d2l (pc + 1)) := by
  intro L st h kc ks c S ho hc d Q k p l e R s m args below meth cc H locs cells slots mc ms ls hC hR hl hv h1 h2 h3 h4
  unfold po_d2l at ho
  split at ho
  · simp only [Option.some.injEq, Prod.mk.injEq] at ho; obtain ⟨rfl, rfl⟩ := ho
    exact lv_d2l hC.1 hC.2.1 hd (k p l e R s m args below meth cc H locs cells slots mc ms ls hC hR hl hv h1 h2 h3 h4)
  · cases ho
def po_ci (v : Int32) (n : Nat) : pj_Op := fun L st h kc ks => some (none, (n, L, .int v :: st, h, kc, ks))
def po_cl (v : Int64) (n : Nat) : pj_Op := fun L st h kc ks => some (none, (n, L, .long v :: st, h, kc, ks))
def po_cd (v : UInt64) (n : Nat) : pj_Op := fun L st h kc ks => some (none, (n, L, .double v :: st, h, kc, ks))
def po_null (n : Nat) : pj_Op := fun L st h kc ks => some (none, (n, L, .null :: st, h, kc, ks))
theorem ps_iconst {G : pj_G} {mt : pj_M} {pc : Nat} {n : Int} {v : Int32} (hd : decode mt.2.1 pc = .ok (.iconst n, 1)) (hv0 : Int32.ofInt n = v) : pj_Snd G mt pc (po_ci v (pc + 1)) := by
  intro L st h kc ks c S ho hc d Q k p l e R s m args below meth cc H locs cells slots mc ms ls hC hR hl hv h1 h2 h3 h4
  unfold po_ci at ho
  simp only [Option.some.injEq, Prod.mk.injEq] at ho; obtain ⟨rfl, rfl⟩ := ho
  exact lv_iconst hC.1 hC.2.1 hd hv0 (k p l e R s m args below meth cc H locs cells slots mc ms ls hC hR hl hv h1 h2 h3 h4)
theorem ps_bipush {G : pj_G} {mt : pj_M} {pc : Nat} {n : Int} {v : Int32} (hd : decode mt.2.1 pc = .ok (.bipush n, 2)) (hv0 : (Int8.ofInt n).toInt32 = v) : pj_Snd G mt pc (po_ci v (pc + 2)) := by
  intro L st h kc ks c S ho hc d Q k p l e R s m args below meth cc H locs cells slots mc ms ls hC hR hl hv h1 h2 h3 h4
  unfold po_ci at ho
  simp only [Option.some.injEq, Prod.mk.injEq] at ho; obtain ⟨rfl, rfl⟩ := ho
  exact lv_bipush hC.1 hC.2.1 hd hv0 (k p l e R s m args below meth cc H locs cells slots mc ms ls hC hR hl hv h1 h2 h3 h4)
theorem ps_sipush {G : pj_G} {mt : pj_M} {pc : Nat} {n : Int} {v : Int32} (hd : decode mt.2.1 pc = .ok (.sipush n, 3)) (hv0 : (Int16.ofInt n).toInt32 = v) : pj_Snd G mt pc (po_ci v (pc + 3)) := by
  intro L st h kc ks c S ho hc d Q k p l e R s m args below meth cc H locs cells slots mc ms ls hC hR hl hv h1 h2 h3 h4
  unfold po_ci at ho
  simp only [Option.some.injEq, Prod.mk.injEq] at ho; obtain ⟨rfl, rfl⟩ := ho
  exact lv_sipush hC.1 hC.2.1 hd hv0 (k p l e R s m args below meth cc H locs cells slots mc ms ls hC hR hl hv h1 h2 h3 h4)
theorem ps_lconst {G : pj_G} {mt : pj_M} {pc : Nat} {n : Fin 2} {v : Int64} (hd : decode mt.2.1 pc = .ok (.lconst n, 1)) (hv0 : Int64.ofNat (n : Nat) = v) : pj_Snd G mt pc (po_cl v (pc + 1)) := by
  intro L st h kc ks c S ho hc d Q k p l e R s m args below meth cc H locs cells slots mc ms ls hC hR hl hv h1 h2 h3 h4
  unfold po_cl at ho
  simp only [Option.some.injEq, Prod.mk.injEq] at ho; obtain ⟨rfl, rfl⟩ := ho
  exact lv_lconst hC.1 hC.2.1 hd hv0 (k p l e R s m args below meth cc H locs cells slots mc ms ls hC hR hl hv h1 h2 h3 h4)
theorem ps_dconst0 {G : pj_G} {mt : pj_M} {pc : Nat} (hd : decode mt.2.1 pc = .ok (.dconst 0, 1)) : pj_Snd G mt pc (po_cd FP.dconst0 (pc + 1)) := by
  intro L st h kc ks c S ho hc d Q k p l e R s m args below meth cc H locs cells slots mc ms ls hC hR hl hv h1 h2 h3 h4
  unfold po_cd at ho
  simp only [Option.some.injEq, Prod.mk.injEq] at ho; obtain ⟨rfl, rfl⟩ := ho
  exact lv_dconst0 hC.1 hC.2.1 hd (k p l e R s m args below meth cc H locs cells slots mc ms ls hC hR hl hv h1 h2 h3 h4)
theorem ps_dconst1 {G : pj_G} {mt : pj_M} {pc : Nat} (hd : decode mt.2.1 pc = .ok (.dconst 1, 1)) : pj_Snd G mt pc (po_cd FP.dconst1 (pc + 1)) := by
  intro L st h kc ks c S ho hc d Q k p l e R s m args below meth cc H locs cells slots mc ms ls hC hR hl hv h1 h2 h3 h4
  unfold po_cd at ho
  simp only [Option.some.injEq, Prod.mk.injEq] at ho; obtain ⟨rfl, rfl⟩ := ho
  exact lv_dconst1 hC.1 hC.2.1 hd (k p l e R s m args below meth cc H locs cells slots mc ms ls hC hR hl hv h1 h2 h3 h4)
theorem ps_null {G : pj_G} {mt : pj_M} {pc : Nat} (hd : decode mt.2.1 pc = .ok (.aconst_null, 1)) : pj_Snd G mt pc (po_null (pc + 1)) := by
  intro L st h kc ks c S ho hc d Q k p l e R s m args below meth cc H locs cells slots mc ms ls hC hR hl hv h1 h2 h3 h4
  unfold po_null at ho
  simp only [Option.some.injEq, Prod.mk.injEq] at ho; obtain ⟨rfl, rfl⟩ := ho
  exact lv_null hC.1 hC.2.1 hd (k p l e R s m args below meth cc H locs cells slots mc ms ls hC hR hl hv h1 h2 h3 h4)
theorem ps_ldc {G : pj_G} {mt : pj_M} {pc : Nat} {index : Nat} {v : Int32} (hd : decode mt.2.1 pc = .ok (.ldc index, 2)) (hw : Cond.constant mt.1.cls index v ∈ lw_all) : pj_Snd G mt pc (po_ci v (pc + 2)) := by
  intro L st h kc ks c S ho hc d Q k p l e R s m args below meth cc H locs cells slots mc ms ls hC hR hl hv h1 h2 h3 h4
  unfold po_ci at ho
  simp only [Option.some.injEq, Prod.mk.injEq] at ho; obtain ⟨rfl, rfl⟩ := ho
  exact lv_ldc hC.1 hC.2.1 hC.2.2.2.2.2.1 (hC.2.2.2.2.2.2.2.1 _ hw) hd (k p l e R s m args below meth cc H locs cells slots mc ms ls hC hR hl hv h1 h2 h3 h4)
theorem ps_ldcw {G : pj_G} {mt : pj_M} {pc : Nat} {index : Nat} {v : Int32} (hd : decode mt.2.1 pc = .ok (.ldc_w index, 3)) (hw : Cond.constant mt.1.cls index v ∈ lw_all) : pj_Snd G mt pc (po_ci v (pc + 3)) := by
  intro L st h kc ks c S ho hc d Q k p l e R s m args below meth cc H locs cells slots mc ms ls hC hR hl hv h1 h2 h3 h4
  unfold po_ci at ho
  simp only [Option.some.injEq, Prod.mk.injEq] at ho; obtain ⟨rfl, rfl⟩ := ho
  exact lv_ldcw hC.1 hC.2.1 hC.2.2.2.2.2.1 (hC.2.2.2.2.2.2.2.1 _ hw) hd (k p l e R s m args below meth cc H locs cells slots mc ms ls hC hR hl hv h1 h2 h3 h4)
theorem ps_ldc2 {G : pj_G} {mt : pj_M} {pc : Nat} {index : Nat} {v : Int64} (hd : decode mt.2.1 pc = .ok (.ldc2_w index, 3)) (hw : Cond.constantLong mt.1.cls index v ∈ lw_all) : pj_Snd G mt pc (po_cl v (pc + 3)) := by
  intro L st h kc ks c S ho hc d Q k p l e R s m args below meth cc H locs cells slots mc ms ls hC hR hl hv h1 h2 h3 h4
  unfold po_cl at ho
  simp only [Option.some.injEq, Prod.mk.injEq] at ho; obtain ⟨rfl, rfl⟩ := ho
  exact lv_ldc2 hC.1 hC.2.1 hC.2.2.2.2.2.1 (hC.2.2.2.2.2.2.2.1 _ hw) hd (k p l e R s m args below meth cc H locs cells slots mc ms ls hC hR hl hv h1 h2 h3 h4)
theorem ps_ldc2d {G : pj_G} {mt : pj_M} {pc : Nat} {index : Nat} {v : UInt64} (hd : decode mt.2.1 pc = .ok (.ldc2_w index, 3)) (hw : Cond.constantDouble mt.1.cls index v ∈ lw_all) : pj_Snd G mt pc (po_cd v (pc + 3)) := by
  intro L st h kc ks c S ho hc d Q k p l e R s m args below meth cc H locs cells slots mc ms ls hC hR hl hv h1 h2 h3 h4
  unfold po_cd at ho
  simp only [Option.some.injEq, Prod.mk.injEq] at ho; obtain ⟨rfl, rfl⟩ := ho
  exact lv_ldc2d hC.1 hC.2.1 hC.2.2.2.2.2.1 (hC.2.2.2.2.2.2.2.1 _ hw) hd (k p l e R s m args below meth cc H locs cells slots mc ms ls hC hR hl hv h1 h2 h3 h4)
def po_ild (i n : Nat) : pj_Op := fun L st h kc ks => match L[i]? with
  | some (some (.int x)) => some (none, (n, L, .int x :: st, h, kc, ks))
  | _ => none
theorem ps_iload_n {G : pj_G} {mt : pj_M} {pc : Nat} {k : Fin 4} {i : Nat} (hd : decode mt.2.1 pc = .ok (.iload_n k, 1)) (hi : (k : Nat) = i) : pj_Snd G mt pc (po_ild i (pc + 1)) := by
  intro L st h kc ks c S ho hc d Q k p l e R s m args below meth cc H locs cells slots mc ms ls hC hR hl hv h1 h2 h3 h4
  unfold po_ild at ho
  split at ho
  · rename_i x hx
    simp only [Option.some.injEq, Prod.mk.injEq] at ho; obtain ⟨rfl, rfl⟩ := ho
    exact lv_iload_n hC.1 hC.2.1 hd hi (hv.2.2 i _ hx) (k p l e R s m args below meth cc H locs cells slots mc ms ls hC hR hl hv h1 h2 h3 h4)
  · cases ho
theorem ps_iload {G : pj_G} {mt : pj_M} {pc : Nat} {i : Nat} (hd : decode mt.2.1 pc = .ok (.iload i, 2)) : pj_Snd G mt pc (po_ild i (pc + 2)) := by
  intro L st h kc ks c S ho hc d Q k p l e R s m args below meth cc H locs cells slots mc ms ls hC hR hl hv h1 h2 h3 h4
  unfold po_ild at ho
  split at ho
  · rename_i x hx
    simp only [Option.some.injEq, Prod.mk.injEq] at ho; obtain ⟨rfl, rfl⟩ := ho
    exact lv_iload hC.1 hC.2.1 hd (hv.2.2 i _ hx) (k p l e R s m args below meth cc H locs cells slots mc ms ls hC hR hl hv h1 h2 h3 h4)
  · cases ho
def po_lld (i n : Nat) : pj_Op := fun L st h kc ks => match L[i]? with
  | some (some (.long x)) => some (none, (n, L, .long x :: st, h, kc, ks))
  | _ => none
theorem ps_lload_n {G : pj_G} {mt : pj_M} {pc : Nat} {k : Fin 4} {i : Nat} (hd : decode mt.2.1 pc = .ok (.lload_n k, 1)) (hi : (k : Nat) = i) : pj_Snd G mt pc (po_lld i (pc + 1)) := by
  intro L st h kc ks c S ho hc d Q k p l e R s m args below meth cc H locs cells slots mc ms ls hC hR hl hv h1 h2 h3 h4
  unfold po_lld at ho
  split at ho
  · rename_i x hx
    simp only [Option.some.injEq, Prod.mk.injEq] at ho; obtain ⟨rfl, rfl⟩ := ho
    exact lv_lload_n hC.1 hC.2.1 hd hi (hv.2.2 i _ hx) (k p l e R s m args below meth cc H locs cells slots mc ms ls hC hR hl hv h1 h2 h3 h4)
  · cases ho
theorem ps_lload {G : pj_G} {mt : pj_M} {pc : Nat} {i : Nat} (hd : decode mt.2.1 pc = .ok (.lload i, 2)) : pj_Snd G mt pc (po_lld i (pc + 2)) := by
  intro L st h kc ks c S ho hc d Q k p l e R s m args below meth cc H locs cells slots mc ms ls hC hR hl hv h1 h2 h3 h4
  unfold po_lld at ho
  split at ho
  · rename_i x hx
    simp only [Option.some.injEq, Prod.mk.injEq] at ho; obtain ⟨rfl, rfl⟩ := ho
    exact lv_lload hC.1 hC.2.1 hd (hv.2.2 i _ hx) (k p l e R s m args below meth cc H locs cells slots mc ms ls hC hR hl hv h1 h2 h3 h4)
  · cases ho
def po_dld (i n : Nat) : pj_Op := fun L st h kc ks => match L[i]? with
  | some (some (.double x)) => some (none, (n, L, .double x :: st, h, kc, ks))
  | _ => none
theorem ps_dload_n {G : pj_G} {mt : pj_M} {pc : Nat} {k : Fin 4} {i : Nat} (hd : decode mt.2.1 pc = .ok (.dload_n k, 1)) (hi : (k : Nat) = i) : pj_Snd G mt pc (po_dld i (pc + 1)) := by
  intro L st h kc ks c S ho hc d Q k p l e R s m args below meth cc H locs cells slots mc ms ls hC hR hl hv h1 h2 h3 h4
  unfold po_dld at ho
  split at ho
  · rename_i x hx
    simp only [Option.some.injEq, Prod.mk.injEq] at ho; obtain ⟨rfl, rfl⟩ := ho
    exact lv_dload_n hC.1 hC.2.1 hd hi (hv.2.2 i _ hx) (k p l e R s m args below meth cc H locs cells slots mc ms ls hC hR hl hv h1 h2 h3 h4)
  · cases ho
theorem ps_dload {G : pj_G} {mt : pj_M} {pc : Nat} {i : Nat} (hd : decode mt.2.1 pc = .ok (.dload i, 2)) : pj_Snd G mt pc (po_dld i (pc + 2)) := by
  intro L st h kc ks c S ho hc d Q k p l e R s m args below meth cc H locs cells slots mc ms ls hC hR hl hv h1 h2 h3 h4
  unfold po_dld at ho
  split at ho
  · rename_i x hx
    simp only [Option.some.injEq, Prod.mk.injEq] at ho; obtain ⟨rfl, rfl⟩ := ho
    exact lv_dload hC.1 hC.2.1 hd (hv.2.2 i _ hx) (k p l e R s m args below meth cc H locs cells slots mc ms ls hC hR hl hv h1 h2 h3 h4)
  · cases ho
def po_ald (i n : Nat) : pj_Op := fun L st h kc ks => match L[i]? with
  | some (some (.ref x)) => some (none, (n, L, .ref x :: st, h, kc, ks))
  | some (some .null) => some (none, (n, L, .null :: st, h, kc, ks))
  | _ => none
theorem ps_aload_n {G : pj_G} {mt : pj_M} {pc : Nat} {k : Fin 4} {i : Nat} (hd : decode mt.2.1 pc = .ok (.aload_n k, 1)) (hi : (k : Nat) = i) : pj_Snd G mt pc (po_ald i (pc + 1)) := by
  intro L st h kc ks c S ho hc d Q k p l e R s m args below meth cc H locs cells slots mc ms ls hC hR hl hv h1 h2 h3 h4
  unfold po_ald at ho
  split at ho
  · rename_i x hx
    simp only [Option.some.injEq, Prod.mk.injEq] at ho; obtain ⟨rfl, rfl⟩ := ho
    exact lv_aload_n hC.1 hC.2.1 hd hi (hv.2.2 i _ hx) (k p l e R s m args below meth cc H locs cells slots mc ms ls hC hR hl hv h1 h2 h3 h4)
  · rename_i hx
    simp only [Option.some.injEq, Prod.mk.injEq] at ho; obtain ⟨rfl, rfl⟩ := ho
    exact lv_aload_nN hC.1 hC.2.1 hd hi (hv.2.2 i _ hx) (k p l e R s m args below meth cc H locs cells slots mc ms ls hC hR hl hv h1 h2 h3 h4)
  · cases ho
theorem ps_aload {G : pj_G} {mt : pj_M} {pc : Nat} {i : Nat} (hd : decode mt.2.1 pc = .ok (.aload i, 2)) : pj_Snd G mt pc (po_ald i (pc + 2)) := by
  intro L st h kc ks c S ho hc d Q k p l e R s m args below meth cc H locs cells slots mc ms ls hC hR hl hv h1 h2 h3 h4
  unfold po_ald at ho
  split at ho
  · rename_i x hx
    simp only [Option.some.injEq, Prod.mk.injEq] at ho; obtain ⟨rfl, rfl⟩ := ho
    exact lv_aload hC.1 hC.2.1 hd (hv.2.2 i _ hx) (k p l e R s m args below meth cc H locs cells slots mc ms ls hC hR hl hv h1 h2 h3 h4)
  · rename_i hx
    simp only [Option.some.injEq, Prod.mk.injEq] at ho; obtain ⟨rfl, rfl⟩ := ho
    exact lv_aloadN hC.1 hC.2.1 hd (hv.2.2 i _ hx) (k p l e R s m args below meth cc H locs cells slots mc ms ls hC hR hl hv h1 h2 h3 h4)
  · cases ho
/-- no long ends at place i -/
def pj_free1 (L : pj_L) (i : Nat) : Bool := match i with
  | 0 => true
  | j + 1 => match L[j]? with
    | some (some (.long _)) => false
    | some (some (.double _)) => false
    | _ => true
theorem pj_v_cat (G : pj_G) (v : Value) : (pj_v G v).category = v.category := by cases v <;> rfl
def pj_all (G : pj_G) (L : pj_L) : List (Nat × Value) := (List.range L.length).filterMap fun i => match L[i]? with
  | some (some v) => some (i, pj_v G v)
  | _ => none
theorem pj_all_mem {G : pj_G} {L : pj_L} {i : Nat} {v : Value} (h : L[i]? = some (some v)) : (i, pj_v G v) ∈ pj_all G L := by
  refine List.mem_filterMap.mpr ⟨i, List.mem_range.mpr (List.getElem?_eq_some_iff.mp h).1, ?_⟩
  rw [h]
theorem pj_all_has {G : pj_G} {L : pj_L} {ls : Array Slot} {n : Nat} (h : pj_lv G ls n L) : lv_has ls n (pj_all G L) := by
  refine ⟨h.1, h.2.1, fun q hq => ?_⟩
  obtain ⟨i, -, hi⟩ := List.mem_filterMap.mp hq
  split at hi
  · rename_i v hv
    simp only [Option.some.injEq] at hi
    subst hi
    exact h.2.2 i v hv
  · cases hi
theorem pj_set1 {G : pj_G} {L : pj_L} {ls : Array Slot} {n i : Nat} {v : Value} (hc : v.category = 1) (hf : pj_free1 L i = true) (h : lv_has ls n ((i, pj_v G v) :: (pj_all G L).filter (fun q => !(q.1 == i) && !(q.1 + 1 == i && q.2.category == 2)))) : pj_lv G ls n (L.set i (some v)) := by
  refine ⟨h.1, h.2.1, fun j w hj => ?_⟩
  by_cases e : i = j
  · subst e
    rw [List.getElem?_set_self'] at hj
    have hw : w = v := by
      cases hz : L[i]? with
      | none => rw [hz] at hj; simp at hj
      | some z => rw [hz] at hj; simp at hj; exact hj.symm
    subst hw
    exact h.2.2 (i, pj_v G w) List.mem_cons_self
  · rw [List.getElem?_set_ne e] at hj
    refine h.2.2 (j, pj_v G w) (List.mem_cons_of_mem _ (List.mem_filter.mpr ⟨pj_all_mem hj, ?_⟩))
    have e1 : (j == i) = false := beq_eq_false_iff_ne.mpr (Ne.symm e)
    by_cases e2 : j + 1 = i
    · subst e2
      simp only [pj_free1, hj] at hf
      have : (pj_v G w).category = 1 := by
        rw [pj_v_cat]
        cases w <;> first | rfl | simp at hf
      simp [e1, this]
    · simp [e1, e2]
theorem pj_set2 {G : pj_G} {L : pj_L} {ls : Array Slot} {n i : Nat} {v : Value} (hf : pj_free1 L i = true) (h : lv_has ls n ((i, pj_v G v) :: (pj_all G L).filter (fun q => !(q.1 == i) && (!(q.1 == i + 1) && !(q.1 + 1 == i && q.2.category == 2))))) : pj_lv G ls n ((L.set (i + 1) none).set i (some v)) := by
  refine ⟨h.1, h.2.1, fun j w hj => ?_⟩
  by_cases e : i = j
  · subst e
    rw [List.getElem?_set_self'] at hj
    have hw : w = v := by
      cases hz : (L.set (i + 1) none)[i]? with
      | none => rw [hz] at hj; simp at hj
      | some z => rw [hz] at hj; simp at hj; exact hj.symm
    subst hw
    exact h.2.2 (i, pj_v G w) List.mem_cons_self
  · rw [List.getElem?_set_ne e] at hj
    by_cases e3 : i + 1 = j
    · subst e3
      rw [List.getElem?_set_self'] at hj
      cases hz : L[i + 1]? with
      | none => rw [hz] at hj; simp at hj
      | some z => rw [hz] at hj; simp at hj
    · rw [List.getElem?_set_ne e3] at hj
      refine h.2.2 (j, pj_v G w) (List.mem_cons_of_mem _ (List.mem_filter.mpr ⟨pj_all_mem hj, ?_⟩))
      have e1 : (j == i) = false := beq_eq_false_iff_ne.mpr (Ne.symm e)
      have e4 : (j == i + 1) = false := beq_eq_false_iff_ne.mpr (Ne.symm e3)
      by_cases e2 : j + 1 = i
      · subst e2
        simp only [pj_free1, hj] at hf
        have : (pj_v G w).category = 1 := by
          rw [pj_v_cat]
          cases w <;> first | rfl | simp at hf
        simp [e1, this, e4]
      · simp [e1, e2, e4]
/-- a list written out -/
def pj_nrm {α : Sort _} : pj_L → (pj_L → α) → α
  | [], k => k []
  | x :: r, k => pj_nrm r (fun r' => k (x :: r'))
theorem pj_nrm_eq {α : Sort _} : ∀ (L : pj_L) (k : pj_L → α), pj_nrm L k = k L := by
  intro L
  induction L with
  | nil => intro k; rfl
  | cons x r ih => intro k; rw [pj_nrm, ih]
def po_ist (i n mx : Nat) : pj_Op := fun L st h kc ks => match st with
  | .int x :: r => if pj_free1 L i = true ∧ i < mx then pj_nrm (L.set i (some (.int x))) (fun L => some (none, (n, L, r, h, kc, ks))) else none
  | _ => none
theorem ps_istore_n {G : pj_G} {mt : pj_M} {pc : Nat} {k : Fin 4} {i : Nat} (hd : decode mt.2.1 pc = .ok (.istore_n k, 1)) (hi : (k : Nat) = i) : pj_Snd G mt pc (po_ist i (pc + 1) mt.2.2.1) := by
  intro L st h kc ks c S ho hc d Q k p l e R s m args below meth cc H locs cells slots mc ms ls hC hR hl hv h1 h2 h3 h4
  unfold po_ist at ho
  split at ho
  · rename_i x r
    split at ho
    · rename_i hf
      simp only [pj_nrm_eq, Option.some.injEq, Prod.mk.injEq] at ho; obtain ⟨rfl, rfl⟩ := ho
      exact lv_istore_n hC.1 hC.2.1 hd hi (pj_all_has hv) hf.2 rfl (fun ls' hl' => (k p l e R s m args below meth cc H locs cells slots mc ms ls' hC hR hl (pj_set1 (v := .int x) rfl hf.1 hl') h1 h2 h3 h4))
    · cases ho
  · cases ho
theorem ps_istore {G : pj_G} {mt : pj_M} {pc : Nat} {i : Nat} (hd : decode mt.2.1 pc = .ok (.istore i, 2)) : pj_Snd G mt pc (po_ist i (pc + 2) mt.2.2.1) := by
  intro L st h kc ks c S ho hc d Q k p l e R s m args below meth cc H locs cells slots mc ms ls hC hR hl hv h1 h2 h3 h4
  unfold po_ist at ho
  split at ho
  · rename_i x r
    split at ho
    · rename_i hf
      simp only [pj_nrm_eq, Option.some.injEq, Prod.mk.injEq] at ho; obtain ⟨rfl, rfl⟩ := ho
      exact lv_istore hC.1 hC.2.1 hd (pj_all_has hv) hf.2 rfl (fun ls' hl' => (k p l e R s m args below meth cc H locs cells slots mc ms ls' hC hR hl (pj_set1 (v := .int x) rfl hf.1 hl') h1 h2 h3 h4))
    · cases ho
  · cases ho
def po_lst (i n mx : Nat) : pj_Op := fun L st h kc ks => match st with
  | .long x :: r => if pj_free1 L i = true ∧ i + 1 < mx then pj_nrm ((L.set (i + 1) none).set i (some (.long x))) (fun L => some (none, (n, L, r, h, kc, ks))) else none
  | _ => none
theorem ps_lstore_n {G : pj_G} {mt : pj_M} {pc : Nat} {k : Fin 4} {i : Nat} (hd : decode mt.2.1 pc = .ok (.lstore_n k, 1)) (hi : (k : Nat) = i) : pj_Snd G mt pc (po_lst i (pc + 1) mt.2.2.1) := by
  intro L st h kc ks c S ho hc d Q k p l e R s m args below meth cc H locs cells slots mc ms ls hC hR hl hv h1 h2 h3 h4
  unfold po_lst at ho
  split at ho
  · rename_i x r
    split at ho
    · rename_i hf
      simp only [pj_nrm_eq, Option.some.injEq, Prod.mk.injEq] at ho; obtain ⟨rfl, rfl⟩ := ho
      exact lv_lstore_n hC.1 hC.2.1 hd hi (pj_all_has hv) hf.2 rfl (fun ls' hl' => (k p l e R s m args below meth cc H locs cells slots mc ms ls' hC hR hl (pj_set2 (v := .long x) hf.1 hl') h1 h2 h3 h4))
    · cases ho
  · cases ho
theorem ps_lstore {G : pj_G} {mt : pj_M} {pc : Nat} {i : Nat} (hd : decode mt.2.1 pc = .ok (.lstore i, 2)) : pj_Snd G mt pc (po_lst i (pc + 2) mt.2.2.1) := by
  intro L st h kc ks c S ho hc d Q k p l e R s m args below meth cc H locs cells slots mc ms ls hC hR hl hv h1 h2 h3 h4
  unfold po_lst at ho
  split at ho
  · rename_i x r
    split at ho
    · rename_i hf
      simp only [pj_nrm_eq, Option.some.injEq, Prod.mk.injEq] at ho; obtain ⟨rfl, rfl⟩ := ho
      exact lv_lstore hC.1 hC.2.1 hd (pj_all_has hv) hf.2 rfl (fun ls' hl' => (k p l e R s m args below meth cc H locs cells slots mc ms ls' hC hR hl (pj_set2 (v := .long x) hf.1 hl') h1 h2 h3 h4))
    · cases ho
  · cases ho
def po_dst (i n mx : Nat) : pj_Op := fun L st h kc ks => match st with
  | .double x :: r => if pj_free1 L i = true ∧ i + 1 < mx then pj_nrm ((L.set (i + 1) none).set i (some (.double x))) (fun L => some (none, (n, L, r, h, kc, ks))) else none
  | _ => none
theorem ps_dstore_n {G : pj_G} {mt : pj_M} {pc : Nat} {k : Fin 4} {i : Nat} (hd : decode mt.2.1 pc = .ok (.dstore_n k, 1)) (hi : (k : Nat) = i) : pj_Snd G mt pc (po_dst i (pc + 1) mt.2.2.1) := by
  intro L st h kc ks c S ho hc d Q k p l e R s m args below meth cc H locs cells slots mc ms ls hC hR hl hv h1 h2 h3 h4
  unfold po_dst at ho
  split at ho
  · rename_i x r
    split at ho
    · rename_i hf
      simp only [pj_nrm_eq, Option.some.injEq, Prod.mk.injEq] at ho; obtain ⟨rfl, rfl⟩ := ho
      exact lv_dstore_n hC.1 hC.2.1 hd hi (pj_all_has hv) hf.2 rfl (fun ls' hl' => (k p l e R s m args below meth cc H locs cells slots mc ms ls' hC hR hl (pj_set2 (v := .double x) hf.1 hl') h1 h2 h3 h4))
    · cases ho
  · cases ho
theorem ps_dstore {G : pj_G} {mt : pj_M} {pc : Nat} {i : Nat} (hd : decode mt.2.1 pc = .ok (.dstore i, 2)) : pj_Snd G mt pc (po_dst i (pc + 2) mt.2.2.1) := by
  intro L st h kc ks c S ho hc d Q k p l e R s m args below meth cc H locs cells slots mc ms ls hC hR hl hv h1 h2 h3 h4
  unfold po_dst at ho
  split at ho
  · rename_i x r
    split at ho
    · rename_i hf
      simp only [pj_nrm_eq, Option.some.injEq, Prod.mk.injEq] at ho; obtain ⟨rfl, rfl⟩ := ho
      exact lv_dstore hC.1 hC.2.1 hd (pj_all_has hv) hf.2 rfl (fun ls' hl' => (k p l e R s m args below meth cc H locs cells slots mc ms ls' hC hR hl (pj_set2 (v := .double x) hf.1 hl') h1 h2 h3 h4))
    · cases ho
  · cases ho
def po_ast (i n mx : Nat) : pj_Op := fun L st h kc ks => match st with
  | .ref x :: r => if pj_free1 L i = true ∧ i < mx then pj_nrm (L.set i (some (.ref x))) (fun L => some (none, (n, L, r, h, kc, ks))) else none
  | .null :: r => if pj_free1 L i = true ∧ i < mx then pj_nrm (L.set i (some .null)) (fun L => some (none, (n, L, r, h, kc, ks))) else none
  | _ => none
theorem ps_astore_n {G : pj_G} {mt : pj_M} {pc : Nat} {k : Fin 4} {i : Nat} (hd : decode mt.2.1 pc = .ok (.astore_n k, 1)) (hi : (k : Nat) = i) : pj_Snd G mt pc (po_ast i (pc + 1) mt.2.2.1) := by
  intro L st h kc ks c S ho hc d Q k p l e R s m args below meth cc H locs cells slots mc ms ls hC hR hl hv h1 h2 h3 h4
  unfold po_ast at ho
  split at ho
  · rename_i x r
    split at ho
    · rename_i hf
      simp only [pj_nrm_eq, Option.some.injEq, Prod.mk.injEq] at ho; obtain ⟨rfl, rfl⟩ := ho
      exact lv_astore_n hC.1 hC.2.1 hd hi (pj_all_has hv) hf.2 rfl (fun ls' hl' => (k p l e R s m args below meth cc H locs cells slots mc ms ls' hC hR hl (pj_set1 (v := .ref x) rfl hf.1 hl') h1 h2 h3 h4))
    · cases ho
  · rename_i r
    split at ho
    · rename_i hf
      simp only [pj_nrm_eq, Option.some.injEq, Prod.mk.injEq] at ho; obtain ⟨rfl, rfl⟩ := ho
      exact lv_astore_nN hC.1 hC.2.1 hd hi (pj_all_has hv) hf.2 rfl (fun ls' hl' => (k p l e R s m args below meth cc H locs cells slots mc ms ls' hC hR hl (pj_set1 (v := .null) rfl hf.1 hl') h1 h2 h3 h4))
    · cases ho
  · cases ho
theorem ps_astore {G : pj_G} {mt : pj_M} {pc : Nat} {i : Nat} (hd : decode mt.2.1 pc = .ok (.astore i, 2)) : pj_Snd G mt pc (po_ast i (pc + 2) mt.2.2.1) := by
  intro L st h kc ks c S ho hc d Q k p l e R s m args below meth cc H locs cells slots mc ms ls hC hR hl hv h1 h2 h3 h4
  unfold po_ast at ho
  split at ho
  · rename_i x r
    split at ho
    · rename_i hf
      simp only [pj_nrm_eq, Option.some.injEq, Prod.mk.injEq] at ho; obtain ⟨rfl, rfl⟩ := ho
      exact lv_astore hC.1 hC.2.1 hd (pj_all_has hv) hf.2 rfl (fun ls' hl' => (k p l e R s m args below meth cc H locs cells slots mc ms ls' hC hR hl (pj_set1 (v := .ref x) rfl hf.1 hl') h1 h2 h3 h4))
    · cases ho
  · rename_i r
    split at ho
    · rename_i hf
      simp only [pj_nrm_eq, Option.some.injEq, Prod.mk.injEq] at ho; obtain ⟨rfl, rfl⟩ := ho
      exact lv_astoreN hC.1 hC.2.1 hd (pj_all_has hv) hf.2 rfl (fun ls' hl' => (k p l e R s m args below meth cc H locs cells slots mc ms ls' hC hR hl (pj_set1 (v := .null) rfl hf.1 hl') h1 h2 h3 h4))
    · cases ho
  · cases ho
def po_iinc (i : Nat) (v : Int32) (n mx : Nat) : pj_Op := fun L st h kc ks => match L[i]? with
  | some (some (.int x)) => if pj_free1 L i = true ∧ i < mx then pj_nrm (L.set i (some (.int (x + v)))) (fun L => some (none, (n, L, st, h, kc, ks))) else none
  | _ => none
theorem ps_iinc {G : pj_G} {mt : pj_M} {pc : Nat} {i : Nat} {n : Int} {v : Int32} (hd : decode mt.2.1 pc = .ok (.iinc i n, 3)) (hn : Int32.ofInt n = v) : pj_Snd G mt pc (po_iinc i v (pc + 3) mt.2.2.1) := by
  intro L st h kc ks c S ho hc d Q k p l e R s m args below meth cc H locs cells slots mc ms ls hC hR hl hv h1 h2 h3 h4
  unfold po_iinc at ho
  split at ho
  · rename_i x hx
    split at ho
    · rename_i hf
      simp only [pj_nrm_eq, Option.some.injEq, Prod.mk.injEq] at ho; obtain ⟨rfl, rfl⟩ := ho
      obtain ⟨j, hj⟩ := List.getElem?_of_mem (pj_all_mem (G := G) hx)
      exact lv_iinc hC.1 hC.2.1 hd (pj_all_has hv) hj (by rw [hn]) hf.2 rfl (fun ls' hl' => (k p l e R s m args below meth cc H locs cells slots mc ms ls' hC hR hl (pj_set1 (v := .int (x + v)) rfl hf.1 hl') h1 h2 h3 h4))
    · cases ho
  · cases ho
def po_dup (n : Nat) : pj_Op := fun L st h kc ks => match st with
  | v :: r => if v.category = 1 then some (none, (n, L, v :: v :: r, h, kc, ks)) else none
  | _ => none
theorem ps_dup {G : pj_G} {mt : pj_M} {pc : Nat} (hd : decode mt.2.1 pc = .ok (.dup, 1)) : pj_Snd G mt pc (po_dup (pc + 1)) := by
  intro L st h kc ks c S ho hc d Q k p l e R s m args below meth cc H locs cells slots mc ms ls hC hR hl hv h1 h2 h3 h4
  unfold po_dup at ho
  split at ho
  · rename_i v r
    split at ho
    · rename_i hf
      simp only [pj_nrm_eq, Option.some.injEq, Prod.mk.injEq] at ho; obtain ⟨rfl, rfl⟩ := ho
      exact lv_dup hC.1 hC.2.1 hd ((pj_v_cat G v).trans hf) (k p l e R s m args below meth cc H locs cells slots mc ms ls hC hR hl hv h1 h2 h3 h4)
    · cases ho
  · cases ho
def po_pop (n : Nat) : pj_Op := fun L st h kc ks => match st with
  | v :: r => if v.category = 1 then some (none, (n, L, r, h, kc, ks)) else none
  | _ => none
theorem ps_pop {G : pj_G} {mt : pj_M} {pc : Nat} (hd : decode mt.2.1 pc = .ok (.pop, 1)) : pj_Snd G mt pc (po_pop (pc + 1)) := by
  intro L st h kc ks c S ho hc d Q k p l e R s m args below meth cc H locs cells slots mc ms ls hC hR hl hv h1 h2 h3 h4
  unfold po_pop at ho
  split at ho
  · rename_i v r
    split at ho
    · rename_i hf
      simp only [pj_nrm_eq, Option.some.injEq, Prod.mk.injEq] at ho; obtain ⟨rfl, rfl⟩ := ho
      exact lv_pop hC.1 hC.2.1 hd ((pj_v_cat G v).trans hf) (k p l e R s m args below meth cc H locs cells slots mc ms ls hC hR hl hv h1 h2 h3 h4)
    · cases ho
  · cases ho
def po_dup2 (n : Nat) : pj_Op := fun L st h kc ks => match st with
  | v :: r => if v.category = 2 then some (none, (n, L, v :: v :: r, h, kc, ks)) else match r with
    | w :: r => if w.category = 1 ∧ v.category = 1 then some (none, (n, L, v :: w :: v :: w :: r, h, kc, ks)) else none
    | _ => none
  | _ => none
theorem ps_dup2 {G : pj_G} {mt : pj_M} {pc : Nat} (hd : decode mt.2.1 pc = .ok (.dup2, 1)) : pj_Snd G mt pc (po_dup2 (pc + 1)) := by
  intro L st h kc ks c S ho hc d Q k p l e R s m args below meth cc H locs cells slots mc ms ls hC hR hl hv h1 h2 h3 h4
  unfold po_dup2 at ho
  split at ho
  · rename_i v r
    split at ho
    · rename_i hf
      simp only [pj_nrm_eq, Option.some.injEq, Prod.mk.injEq] at ho; obtain ⟨rfl, rfl⟩ := ho
      exact lv_dup2_2 hC.1 hC.2.1 hd ((pj_v_cat G v).trans hf) (k p l e R s m args below meth cc H locs cells slots mc ms ls hC hR hl hv h1 h2 h3 h4)
    · split at ho
      · rename_i w r
        split at ho
        · rename_i hf
          simp only [Option.some.injEq, Prod.mk.injEq] at ho; obtain ⟨rfl, rfl⟩ := ho
          exact lv_dup2_11 hC.1 hC.2.1 hd ((pj_v_cat G v).trans hf.2) ((pj_v_cat G w).trans hf.1) (k p l e R s m args below meth cc H locs cells slots mc ms ls hC hR hl hv h1 h2 h3 h4)
        · cases ho
      · cases ho
  · cases ho
def po_if_eq (t n : Nat) : pj_Op := fun L st h kc ks => match st with
  | .int x :: r => some (none, (if x = 0 then t else n, L, r, h, kc, ks))
  | _ => none
theorem ps_if_eq {G : pj_G} {mt : pj_M} {pc t : Nat} {off : Int} (hd : decode mt.2.1 pc = .ok (.ifCond .eq off, 3)) (ht : (pc : Int) + off = (t : Int)) : pj_Snd G mt pc (po_if_eq t (pc + 3)) := by
  intro L st h kc ks c S ho hc d Q k p l e R s m args below meth cc H locs cells slots mc ms ls hC hR hl hv h1 h2 h3 h4
  unfold po_if_eq at ho
  split at ho
  · rename_i x r
    simp only [Option.some.injEq, Prod.mk.injEq] at ho; obtain ⟨rfl, rfl⟩ := ho
    refine lv_if_eq hC.1 hC.2.1 hd ht (fun hz => ?_) (fun hz => ?_)
    · have k := k p l e R s m args below meth cc H locs cells slots mc ms ls hC hR hl hv h1 h2 h3 h4
      simp only [hz, if_true] at k
      exact k
    · have k := k p l e R s m args below meth cc H locs cells slots mc ms ls hC hR hl hv h1 h2 h3 h4
      simp only [hz, if_false] at k
      exact k
  · cases ho
def po_if_lt (t n : Nat) : pj_Op := fun L st h kc ks => match st with
  | .int x :: r => some (none, (if x < 0 then t else n, L, r, h, kc, ks))
  | _ => none
theorem ps_if_lt {G : pj_G} {mt : pj_M} {pc t : Nat} {off : Int} (hd : decode mt.2.1 pc = .ok (.ifCond .lt off, 3)) (ht : (pc : Int) + off = (t : Int)) : pj_Snd G mt pc (po_if_lt t (pc + 3)) := by
  intro L st h kc ks c S ho hc d Q k p l e R s m args below meth cc H locs cells slots mc ms ls hC hR hl hv h1 h2 h3 h4
  unfold po_if_lt at ho
  split at ho
  · rename_i x r
    simp only [Option.some.injEq, Prod.mk.injEq] at ho; obtain ⟨rfl, rfl⟩ := ho
    refine lv_if_lt hC.1 hC.2.1 hd ht (fun hz => ?_) (fun hz => ?_)
    · have k := k p l e R s m args below meth cc H locs cells slots mc ms ls hC hR hl hv h1 h2 h3 h4
      simp only [hz, if_true] at k
      exact k
    · have k := k p l e R s m args below meth cc H locs cells slots mc ms ls hC hR hl hv h1 h2 h3 h4
      simp only [hz, if_false] at k
      exact k
  · cases ho
def po_if_ge (t n : Nat) : pj_Op := fun L st h kc ks => match st with
  | .int x :: r => some (none, (if 0 ≤ x then t else n, L, r, h, kc, ks))
  | _ => none
theorem ps_if_ge {G : pj_G} {mt : pj_M} {pc t : Nat} {off : Int} (hd : decode mt.2.1 pc = .ok (.ifCond .ge off, 3)) (ht : (pc : Int) + off = (t : Int)) : pj_Snd G mt pc (po_if_ge t (pc + 3)) := by
  intro L st h kc ks c S ho hc d Q k p l e R s m args below meth cc H locs cells slots mc ms ls hC hR hl hv h1 h2 h3 h4
  unfold po_if_ge at ho
  split at ho
  · rename_i x r
    simp only [Option.some.injEq, Prod.mk.injEq] at ho; obtain ⟨rfl, rfl⟩ := ho
    refine lv_if_ge hC.1 hC.2.1 hd ht (fun hz => ?_) (fun hz => ?_)
    · have k := k p l e R s m args below meth cc H locs cells slots mc ms ls hC hR hl hv h1 h2 h3 h4
      simp only [hz, if_true] at k
      exact k
    · have k := k p l e R s m args below meth cc H locs cells slots mc ms ls hC hR hl hv h1 h2 h3 h4
      simp only [hz, if_false] at k
      exact k
  · cases ho
def po_if_gt (t n : Nat) : pj_Op := fun L st h kc ks => match st with
  | .int x :: r => some (none, (if 0 < x then t else n, L, r, h, kc, ks))
  | _ => none
theorem ps_if_gt {G : pj_G} {mt : pj_M} {pc t : Nat} {off : Int} (hd : decode mt.2.1 pc = .ok (.ifCond .gt off, 3)) (ht : (pc : Int) + off = (t : Int)) : pj_Snd G mt pc (po_if_gt t (pc + 3)) := by
  intro L st h kc ks c S ho hc d Q k p l e R s m args below meth cc H locs cells slots mc ms ls hC hR hl hv h1 h2 h3 h4
  unfold po_if_gt at ho
  split at ho
  · rename_i x r
    simp only [Option.some.injEq, Prod.mk.injEq] at ho; obtain ⟨rfl, rfl⟩ := ho
    refine lv_if_gt hC.1 hC.2.1 hd ht (fun hz => ?_) (fun hz => ?_)
    · have k := k p l e R s m args below meth cc H locs cells slots mc ms ls hC hR hl hv h1 h2 h3 h4
      simp only [hz, if_true] at k
      exact k
    · have k := k p l e R s m args below meth cc H locs cells slots mc ms ls hC hR hl hv h1 h2 h3 h4
      simp only [hz, if_false] at k
      exact k
  · cases ho
def po_if_le (t n : Nat) : pj_Op := fun L st h kc ks => match st with
  | .int x :: r => some (none, (if x ≤ 0 then t else n, L, r, h, kc, ks))
  | _ => none
theorem ps_if_le {G : pj_G} {mt : pj_M} {pc t : Nat} {off : Int} (hd : decode mt.2.1 pc = .ok (.ifCond .le off, 3)) (ht : (pc : Int) + off = (t : Int)) : pj_Snd G mt pc (po_if_le t (pc + 3)) := by
  intro L st h kc ks c S ho hc d Q k p l e R s m args below meth cc H locs cells slots mc ms ls hC hR hl hv h1 h2 h3 h4
  unfold po_if_le at ho
  split at ho
  · rename_i x r
    simp only [Option.some.injEq, Prod.mk.injEq] at ho; obtain ⟨rfl, rfl⟩ := ho
    refine lv_if_le hC.1 hC.2.1 hd ht (fun hz => ?_) (fun hz => ?_)
    · have k := k p l e R s m args below meth cc H locs cells slots mc ms ls hC hR hl hv h1 h2 h3 h4
      simp only [hz, if_true] at k
      exact k
    · have k := k p l e R s m args below meth cc H locs cells slots mc ms ls hC hR hl hv h1 h2 h3 h4
      simp only [hz, if_false] at k
      exact k
  · cases ho
def po_ic_eq (t n : Nat) : pj_Op := fun L st h kc ks => match st with
  | .int y :: .int x :: r => some (none, (if x = y then t else n, L, r, h, kc, ks))
  | _ => none
theorem ps_ic_eq {G : pj_G} {mt : pj_M} {pc t : Nat} {off : Int} (hd : decode mt.2.1 pc = .ok (.if_icmp .eq off, 3)) (ht : (pc : Int) + off = (t : Int)) : pj_Snd G mt pc (po_ic_eq t (pc + 3)) := by
  intro L st h kc ks c S ho hc d Q k p l e R s m args below meth cc H locs cells slots mc ms ls hC hR hl hv h1 h2 h3 h4
  unfold po_ic_eq at ho
  split at ho
  · rename_i y x r
    simp only [Option.some.injEq, Prod.mk.injEq] at ho; obtain ⟨rfl, rfl⟩ := ho
    refine lv_icmp_eq hC.1 hC.2.1 hd ht (fun hz => ?_) (fun hz => ?_)
    · have k := k p l e R s m args below meth cc H locs cells slots mc ms ls hC hR hl hv h1 h2 h3 h4
      simp only [hz, if_true] at k
      exact k
    · have k := k p l e R s m args below meth cc H locs cells slots mc ms ls hC hR hl hv h1 h2 h3 h4
      simp only [hz, if_false] at k
      exact k
  · cases ho
def po_ic_lt (t n : Nat) : pj_Op := fun L st h kc ks => match st with
  | .int y :: .int x :: r => some (none, (if x < y then t else n, L, r, h, kc, ks))
  | _ => none
theorem ps_ic_lt {G : pj_G} {mt : pj_M} {pc t : Nat} {off : Int} (hd : decode mt.2.1 pc = .ok (.if_icmp .lt off, 3)) (ht : (pc : Int) + off = (t : Int)) : pj_Snd G mt pc (po_ic_lt t (pc + 3)) := by
  intro L st h kc ks c S ho hc d Q k p l e R s m args below meth cc H locs cells slots mc ms ls hC hR hl hv h1 h2 h3 h4
  unfold po_ic_lt at ho
  split at ho
  · rename_i y x r
    simp only [Option.some.injEq, Prod.mk.injEq] at ho; obtain ⟨rfl, rfl⟩ := ho
    refine lv_icmp_lt hC.1 hC.2.1 hd ht (fun hz => ?_) (fun hz => ?_)
    · have k := k p l e R s m args below meth cc H locs cells slots mc ms ls hC hR hl hv h1 h2 h3 h4
      simp only [hz, if_true] at k
      exact k
    · have k := k p l e R s m args below meth cc H locs cells slots mc ms ls hC hR hl hv h1 h2 h3 h4
      simp only [hz, if_false] at k
      exact k
  · cases ho
def po_ic_ge (t n : Nat) : pj_Op := fun L st h kc ks => match st with
  | .int y :: .int x :: r => some (none, (if y ≤ x then t else n, L, r, h, kc, ks))
  | _ => none
theorem ps_ic_ge {G : pj_G} {mt : pj_M} {pc t : Nat} {off : Int} (hd : decode mt.2.1 pc = .ok (.if_icmp .ge off, 3)) (ht : (pc : Int) + off = (t : Int)) : pj_Snd G mt pc (po_ic_ge t (pc + 3)) := by
  intro L st h kc ks c S ho hc d Q k p l e R s m args below meth cc H locs cells slots mc ms ls hC hR hl hv h1 h2 h3 h4
  unfold po_ic_ge at ho
  split at ho
  · rename_i y x r
    simp only [Option.some.injEq, Prod.mk.injEq] at ho; obtain ⟨rfl, rfl⟩ := ho
    refine lv_icmp_ge hC.1 hC.2.1 hd ht (fun hz => ?_) (fun hz => ?_)
    · have k := k p l e R s m args below meth cc H locs cells slots mc ms ls hC hR hl hv h1 h2 h3 h4
      simp only [hz, if_true] at k
      exact k
    · have k := k p l e R s m args below meth cc H locs cells slots mc ms ls hC hR hl hv h1 h2 h3 h4
      simp only [hz, if_false] at k
      exact k
  · cases ho
def po_ic_gt (t n : Nat) : pj_Op := fun L st h kc ks => match st with
  | .int y :: .int x :: r => some (none, (if y < x then t else n, L, r, h, kc, ks))
  | _ => none
theorem ps_ic_gt {G : pj_G} {mt : pj_M} {pc t : Nat} {off : Int} (hd : decode mt.2.1 pc = .ok (.if_icmp .gt off, 3)) (ht : (pc : Int) + off = (t : Int)) : pj_Snd G mt pc (po_ic_gt t (pc + 3)) := by
  intro L st h kc ks c S ho hc d Q k p l e R s m args below meth cc H locs cells slots mc ms ls hC hR hl hv h1 h2 h3 h4
  unfold po_ic_gt at ho
  split at ho
  · rename_i y x r
    simp only [Option.some.injEq, Prod.mk.injEq] at ho; obtain ⟨rfl, rfl⟩ := ho
    refine lv_icmp_gt hC.1 hC.2.1 hd ht (fun hz => ?_) (fun hz => ?_)
    · have k := k p l e R s m args below meth cc H locs cells slots mc ms ls hC hR hl hv h1 h2 h3 h4
      simp only [hz, if_true] at k
      exact k
    · have k := k p l e R s m args below meth cc H locs cells slots mc ms ls hC hR hl hv h1 h2 h3 h4
      simp only [hz, if_false] at k
      exact k
  · cases ho
def po_ic_le (t n : Nat) : pj_Op := fun L st h kc ks => match st with
  | .int y :: .int x :: r => some (none, (if x ≤ y then t else n, L, r, h, kc, ks))
  | _ => none
theorem ps_ic_le {G : pj_G} {mt : pj_M} {pc t : Nat} {off : Int} (hd : decode mt.2.1 pc = .ok (.if_icmp .le off, 3)) (ht : (pc : Int) + off = (t : Int)) : pj_Snd G mt pc (po_ic_le t (pc + 3)) := by
  intro L st h kc ks c S ho hc d Q k p l e R s m args below meth cc H locs cells slots mc ms ls hC hR hl hv h1 h2 h3 h4
  unfold po_ic_le at ho
  split at ho
  · rename_i y x r
    simp only [Option.some.injEq, Prod.mk.injEq] at ho; obtain ⟨rfl, rfl⟩ := ho
    refine lv_icmp_le hC.1 hC.2.1 hd ht (fun hz => ?_) (fun hz => ?_)
    · have k := k p l e R s m args below meth cc H locs cells slots mc ms ls hC hR hl hv h1 h2 h3 h4
      simp only [hz, if_true] at k
      exact k
    · have k := k p l e R s m args below meth cc H locs cells slots mc ms ls hC hR hl hv h1 h2 h3 h4
      simp only [hz, if_false] at k
      exact k
  · cases ho
def po_if_ne (t n : Nat) : pj_Op := fun L st h kc ks => match st with
  | .int x :: r => some (none, (if x = 0 then n else t, L, r, h, kc, ks))
  | _ => none
theorem ps_if_ne {G : pj_G} {mt : pj_M} {pc t : Nat} {off : Int} (hd : decode mt.2.1 pc = .ok (.ifCond .ne off, 3)) (ht : (pc : Int) + off = (t : Int)) : pj_Snd G mt pc (po_if_ne t (pc + 3)) := by
  intro L st h kc ks c S ho hc d Q k p l e R s m args below meth cc H locs cells slots mc ms ls hC hR hl hv h1 h2 h3 h4
  unfold po_if_ne at ho
  split at ho
  · simp only [Option.some.injEq, Prod.mk.injEq] at ho; obtain ⟨rfl, rfl⟩ := ho
    refine lv_if_ne hC.1 hC.2.1 hd ht (fun hz => ?_) (fun hz => ?_)
    · have k := k p l e R s m args below meth cc H locs cells slots mc ms ls hC hR hl hv h1 h2 h3 h4
      simp only [hz, if_false] at k
      exact k
    · have k := k p l e R s m args below meth cc H locs cells slots mc ms ls hC hR hl hv h1 h2 h3 h4
      simp only [hz, if_true] at k
      exact k
  · cases ho
def po_ic_ne (t n : Nat) : pj_Op := fun L st h kc ks => match st with
  | .int y :: .int x :: r => some (none, (if x = y then n else t, L, r, h, kc, ks))
  | _ => none
theorem ps_ic_ne {G : pj_G} {mt : pj_M} {pc t : Nat} {off : Int} (hd : decode mt.2.1 pc = .ok (.if_icmp .ne off, 3)) (ht : (pc : Int) + off = (t : Int)) : pj_Snd G mt pc (po_ic_ne t (pc + 3)) := by
  intro L st h kc ks c S ho hc d Q k p l e R s m args below meth cc H locs cells slots mc ms ls hC hR hl hv h1 h2 h3 h4
  unfold po_ic_ne at ho
  split at ho
  · simp only [Option.some.injEq, Prod.mk.injEq] at ho; obtain ⟨rfl, rfl⟩ := ho
    refine lv_icmp_ne hC.1 hC.2.1 hd ht (fun hz => ?_) (fun hz => ?_)
    · have k := k p l e R s m args below meth cc H locs cells slots mc ms ls hC hR hl hv h1 h2 h3 h4
      simp only [hz, if_false] at k
      exact k
    · have k := k p l e R s m args below meth cc H locs cells slots mc ms ls hC hR hl hv h1 h2 h3 h4
      simp only [hz, if_true] at k
      exact k
  · cases ho
def po_goto (t : Nat) : pj_Op := fun L st h kc ks => some (none, (t, L, st, h, kc, ks))
theorem ps_goto {G : pj_G} {mt : pj_M} {pc t : Nat} {off : Int} (hd : decode mt.2.1 pc = .ok (.goto off, 3)) (ht : (pc : Int) + off = (t : Int)) : pj_Snd G mt pc (po_goto t) := by
  intro L st h kc ks c S ho hc d Q k p l e R s m args below meth cc H locs cells slots mc ms ls hC hR hl hv h1 h2 h3 h4
  unfold po_goto at ho
  simp only [Option.some.injEq, Prod.mk.injEq] at ho; obtain ⟨rfl, rfl⟩ := ho
  exact lv_goto hC.1 hC.2.1 hd ht (k p l e R s m args below meth cc H locs cells slots mc ms ls hC hR hl hv h1 h2 h3 h4)
def po_ifnull (t n : Nat) : pj_Op := fun L st h kc ks => match st with
  | .ref _ :: r => some (none, (n, L, r, h, kc, ks))
  | .null :: r => some (none, (t, L, r, h, kc, ks))
  | _ => none
theorem ps_ifnull {G : pj_G} {mt : pj_M} {pc t : Nat} {off : Int} (hd : decode mt.2.1 pc = .ok (.ifnull off, 3)) (ht : (pc : Int) + off = (t : Int)) : pj_Snd G mt pc (po_ifnull t (pc + 3)) := by
  intro L st h kc ks c S ho hc d Q k p l e R s m args below meth cc H locs cells slots mc ms ls hC hR hl hv h1 h2 h3 h4
  unfold po_ifnull at ho
  split at ho
  · simp only [Option.some.injEq, Prod.mk.injEq] at ho; obtain ⟨rfl, rfl⟩ := ho
    exact lv_ifnull hC.1 hC.2.1 hd (k p l e R s m args below meth cc H locs cells slots mc ms ls hC hR hl hv h1 h2 h3 h4)
  · simp only [Option.some.injEq, Prod.mk.injEq] at ho; obtain ⟨rfl, rfl⟩ := ho
    exact lv_ifnullN hC.1 hC.2.1 hd ht (k p l e R s m args below meth cc H locs cells slots mc ms ls hC hR hl hv h1 h2 h3 h4)
  · cases ho
def po_ifnonnull (t n : Nat) : pj_Op := fun L st h kc ks => match st with
  | .ref _ :: r => some (none, (t, L, r, h, kc, ks))
  | .null :: r => some (none, (n, L, r, h, kc, ks))
  | _ => none
theorem ps_ifnonnull {G : pj_G} {mt : pj_M} {pc t : Nat} {off : Int} (hd : decode mt.2.1 pc = .ok (.ifnonnull off, 3)) (ht : (pc : Int) + off = (t : Int)) : pj_Snd G mt pc (po_ifnonnull t (pc + 3)) := by
  intro L st h kc ks c S ho hc d Q k p l e R s m args below meth cc H locs cells slots mc ms ls hC hR hl hv h1 h2 h3 h4
  unfold po_ifnonnull at ho
  split at ho
  · simp only [Option.some.injEq, Prod.mk.injEq] at ho; obtain ⟨rfl, rfl⟩ := ho
    exact lv_ifnonnull hC.1 hC.2.1 hd ht (k p l e R s m args below meth cc H locs cells slots mc ms ls hC hR hl hv h1 h2 h3 h4)
  · simp only [Option.some.injEq, Prod.mk.injEq] at ho; obtain ⟨rfl, rfl⟩ := ho
    exact lv_ifnonnullN hC.1 hC.2.1 hd (k p l e R s m args below meth cc H locs cells slots mc ms ls hC hR hl hv h1 h2 h3 h4)
  · cases ho
