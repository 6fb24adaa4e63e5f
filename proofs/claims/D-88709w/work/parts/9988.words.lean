/-! the words of what the machine itself throws (by tools/gen_throw2.py) -/
set_option maxRecDepth 100000
theorem px_thS : ∀ a ∈ Jvm.Bundle.throwableSAtoms, px_in a := List.forall_mem_cons.mpr ⟨Or.inl q1042, List.forall_mem_cons.mpr ⟨Or.inl q1043, List.forall_mem_cons.mpr ⟨Or.inl q1079, List.forall_mem_cons.mpr ⟨Or.inl q1107, (fun a h => by cases h)⟩⟩⟩⟩
theorem px_str : ∀ a ∈ Jvm.Bundle.stringAtoms, px_in a := List.forall_mem_cons.mpr ⟨Or.inl q86, List.forall_mem_cons.mpr ⟨Or.inl q1113, List.forall_mem_cons.mpr ⟨Or.inl q1114, List.forall_mem_cons.mpr ⟨Or.inl q1115, List.forall_mem_cons.mpr ⟨Or.inl q1117, List.forall_mem_cons.mpr ⟨Or.inl q1116, List.forall_mem_cons.mpr ⟨Or.inl q1118, (fun a h => by cases h)⟩⟩⟩⟩⟩⟩⟩
theorem px_csC : ∀ a ∈ Jvm.Bundle.chainSAtoms "java/lang/ClassCastException" ["java/lang/RuntimeException", "java/lang/Exception"], px_in a := List.forall_mem_cons.mpr ⟨Or.inl q1189, List.forall_mem_cons.mpr ⟨Or.inl q1190, List.forall_mem_cons.mpr ⟨Or.inl q1191, List.forall_mem_cons.mpr ⟨Or.inl q1036, List.forall_mem_cons.mpr ⟨Or.inr (Or.inl ⟨pj_xD 5 rfl, rfl⟩), List.forall_mem_cons.mpr ⟨Or.inl q1036, List.forall_mem_cons.mpr ⟨Or.inl q1037, List.forall_mem_cons.mpr ⟨Or.inl q1038, List.forall_mem_cons.mpr ⟨Or.inl q1039, List.forall_mem_cons.mpr ⟨Or.inr (Or.inl ⟨pj_xD 7 rfl, rfl⟩), List.forall_mem_cons.mpr ⟨Or.inl q1039, List.forall_mem_cons.mpr ⟨Or.inl q1040, List.forall_mem_cons.mpr ⟨Or.inl q1041, List.forall_mem_cons.mpr ⟨Or.inl q1042, List.forall_mem_cons.mpr ⟨Or.inr (Or.inl ⟨pj_xD 9 rfl, rfl⟩), (fun a h => by cases h)⟩⟩⟩⟩⟩⟩⟩⟩⟩⟩⟩⟩⟩⟩⟩
theorem px_msC : ∀ a ∈ Jvm.Bundle.messageArmAtoms "java/lang/ClassCastException" ["java/lang/RuntimeException", "java/lang/Exception"], px_in a := by
  intro a h0
  rcases List.mem_append.mp h0 with h | h
  · rcases List.mem_append.mp h with h | h
    · rcases List.mem_append.mp h with h | h
      · rcases List.mem_append.mp h with h | h
        · exact px_thA a h
        · exact px_thS a h
      · exact px_csC a h
    · exact px_str a h
  · clear h0
    revert a
    exact List.forall_mem_cons.mpr ⟨Or.inl q89, List.forall_mem_cons.mpr ⟨Or.inl q1188, List.forall_mem_cons.mpr ⟨Or.inr (Or.inl ⟨pj_xC 3 rfl, rfl⟩), List.forall_mem_cons.mpr ⟨Or.inl q1200, List.forall_mem_cons.mpr ⟨Or.inl q1054, List.forall_mem_cons.mpr ⟨Or.inl q1194, List.forall_mem_cons.mpr ⟨Or.inl q1195, List.forall_mem_cons.mpr ⟨Or.inl q1197, List.forall_mem_cons.mpr ⟨Or.inl q1193, List.forall_mem_cons.mpr ⟨Or.inr (Or.inr (Or.inl rfl)), List.forall_mem_cons.mpr ⟨Or.inr (Or.inr (Or.inr (Or.inl rfl))), List.forall_mem_cons.mpr ⟨Or.inl q1109, List.forall_mem_cons.mpr ⟨Or.inl q1108, List.forall_mem_cons.mpr ⟨Or.inl q1192, (fun a h => by cases h)⟩⟩⟩⟩⟩⟩⟩⟩⟩⟩⟩⟩⟩⟩
theorem px_csA : ∀ a ∈ Jvm.Bundle.chainSAtoms "java/lang/ArrayIndexOutOfBoundsException" ["java/lang/IndexOutOfBoundsException", "java/lang/RuntimeException", "java/lang/Exception"], px_in a := List.forall_mem_cons.mpr ⟨Or.inl q1235, List.forall_mem_cons.mpr ⟨Or.inl q1236, List.forall_mem_cons.mpr ⟨Or.inl q1237, List.forall_mem_cons.mpr ⟨Or.inl q1238, List.forall_mem_cons.mpr ⟨Or.inr (Or.inl ⟨pj_xD 11 rfl, rfl⟩), List.forall_mem_cons.mpr ⟨Or.inl q1238, List.forall_mem_cons.mpr ⟨Or.inl q1239, List.forall_mem_cons.mpr ⟨Or.inl q1240, List.forall_mem_cons.mpr ⟨Or.inl q1036, List.forall_mem_cons.mpr ⟨Or.inr (Or.inl ⟨pj_xD 5 rfl, rfl⟩), List.forall_mem_cons.mpr ⟨Or.inl q1036, List.forall_mem_cons.mpr ⟨Or.inl q1037, List.forall_mem_cons.mpr ⟨Or.inl q1038, List.forall_mem_cons.mpr ⟨Or.inl q1039, List.forall_mem_cons.mpr ⟨Or.inr (Or.inl ⟨pj_xD 7 rfl, rfl⟩), List.forall_mem_cons.mpr ⟨Or.inl q1039, List.forall_mem_cons.mpr ⟨Or.inl q1040, List.forall_mem_cons.mpr ⟨Or.inl q1041, List.forall_mem_cons.mpr ⟨Or.inl q1042, List.forall_mem_cons.mpr ⟨Or.inr (Or.inl ⟨pj_xD 9 rfl, rfl⟩), (fun a h => by cases h)⟩⟩⟩⟩⟩⟩⟩⟩⟩⟩⟩⟩⟩⟩⟩⟩⟩⟩⟩⟩
theorem px_msA : ∀ a ∈ Jvm.Bundle.messageArmAtoms "java/lang/ArrayIndexOutOfBoundsException" ["java/lang/IndexOutOfBoundsException", "java/lang/RuntimeException", "java/lang/Exception"], px_in a := by
  intro a h0
  rcases List.mem_append.mp h0 with h | h
  · rcases List.mem_append.mp h with h | h
    · rcases List.mem_append.mp h with h | h
      · rcases List.mem_append.mp h with h | h
        · exact px_thA a h
        · exact px_thS a h
      · exact px_csA a h
    · exact px_str a h
  · clear h0
    revert a
    exact List.forall_mem_cons.mpr ⟨Or.inl q92, List.forall_mem_cons.mpr ⟨Or.inl q1234, List.forall_mem_cons.mpr ⟨Or.inr (Or.inl ⟨pj_xC 5 rfl, rfl⟩), List.forall_mem_cons.mpr ⟨Or.inl q1251, List.forall_mem_cons.mpr ⟨Or.inl q1053, List.forall_mem_cons.mpr ⟨Or.inl q1243, List.forall_mem_cons.mpr ⟨Or.inl q1244, List.forall_mem_cons.mpr ⟨Or.inl q1246, List.forall_mem_cons.mpr ⟨Or.inl q1242, List.forall_mem_cons.mpr ⟨Or.inr (Or.inr (Or.inl rfl)), List.forall_mem_cons.mpr ⟨Or.inr (Or.inr (Or.inr (Or.inl rfl))), List.forall_mem_cons.mpr ⟨Or.inl q1109, List.forall_mem_cons.mpr ⟨Or.inl q1108, List.forall_mem_cons.mpr ⟨Or.inl q1241, (fun a h => by cases h)⟩⟩⟩⟩⟩⟩⟩⟩⟩⟩⟩⟩⟩⟩
theorem px_csG : ∀ a ∈ Jvm.Bundle.chainSAtoms "java/lang/NegativeArraySizeException" ["java/lang/RuntimeException", "java/lang/Exception"], px_in a := List.forall_mem_cons.mpr ⟨Or.inl q1033, List.forall_mem_cons.mpr ⟨Or.inl q1034, List.forall_mem_cons.mpr ⟨Or.inl q1035, List.forall_mem_cons.mpr ⟨Or.inl q1036, List.forall_mem_cons.mpr ⟨Or.inr (Or.inl ⟨pj_xD 5 rfl, rfl⟩), List.forall_mem_cons.mpr ⟨Or.inl q1036, List.forall_mem_cons.mpr ⟨Or.inl q1037, List.forall_mem_cons.mpr ⟨Or.inl q1038, List.forall_mem_cons.mpr ⟨Or.inl q1039, List.forall_mem_cons.mpr ⟨Or.inr (Or.inl ⟨pj_xD 7 rfl, rfl⟩), List.forall_mem_cons.mpr ⟨Or.inl q1039, List.forall_mem_cons.mpr ⟨Or.inl q1040, List.forall_mem_cons.mpr ⟨Or.inl q1041, List.forall_mem_cons.mpr ⟨Or.inl q1042, List.forall_mem_cons.mpr ⟨Or.inr (Or.inl ⟨pj_xD 9 rfl, rfl⟩), (fun a h => by cases h)⟩⟩⟩⟩⟩⟩⟩⟩⟩⟩⟩⟩⟩⟩⟩
theorem px_msG : ∀ a ∈ Jvm.Bundle.messageArmAtoms "java/lang/NegativeArraySizeException" ["java/lang/RuntimeException", "java/lang/Exception"], px_in a := by
  intro a h0
  rcases List.mem_append.mp h0 with h | h
  · rcases List.mem_append.mp h with h | h
    · rcases List.mem_append.mp h with h | h
      · rcases List.mem_append.mp h with h | h
        · exact px_thA a h
        · exact px_thS a h
      · exact px_csG a h
    · exact px_str a h
  · clear h0
    revert a
    exact List.forall_mem_cons.mpr ⟨Or.inl q85, List.forall_mem_cons.mpr ⟨Or.inl q1032, List.forall_mem_cons.mpr ⟨Or.inr (Or.inl ⟨pj_xC 0 rfl, rfl⟩), List.forall_mem_cons.mpr ⟨Or.inl q1103, List.forall_mem_cons.mpr ⟨Or.inl q1057, List.forall_mem_cons.mpr ⟨Or.inl q1087, List.forall_mem_cons.mpr ⟨Or.inl q1089, List.forall_mem_cons.mpr ⟨Or.inl q1093, List.forall_mem_cons.mpr ⟨Or.inl q1085, List.forall_mem_cons.mpr ⟨Or.inr (Or.inr (Or.inl rfl)), List.forall_mem_cons.mpr ⟨Or.inr (Or.inr (Or.inr (Or.inl rfl))), List.forall_mem_cons.mpr ⟨Or.inl q1109, List.forall_mem_cons.mpr ⟨Or.inl q1108, List.forall_mem_cons.mpr ⟨Or.inl q1083, (fun a h => by cases h)⟩⟩⟩⟩⟩⟩⟩⟩⟩⟩⟩⟩⟩⟩
theorem px_np0 : ∀ a ∈ Jvm.Bundle.npeAtoms, px_in a := List.forall_mem_cons.mpr ⟨Or.inl q1069, List.forall_mem_cons.mpr ⟨Or.inl q1059, List.forall_mem_cons.mpr ⟨Or.inl q1060, List.forall_mem_cons.mpr ⟨Or.inl q1172, List.forall_mem_cons.mpr ⟨Or.inl q1174, List.forall_mem_cons.mpr ⟨Or.inl q1066, List.forall_mem_cons.mpr ⟨Or.inl q1067, List.forall_mem_cons.mpr ⟨Or.inr (Or.inl ⟨pj_xC 2 rfl, rfl⟩), (fun a h => by cases h)⟩⟩⟩⟩⟩⟩⟩⟩
theorem px_np1 : ∀ a ∈ Jvm.Bundle.passAtoms "java/lang/NullPointerException" "java/lang/RuntimeException" 1 Jvm.LibCode.NullPointerException.Init0.code, px_in a := List.forall_mem_cons.mpr ⟨Or.inl q1163, List.forall_mem_cons.mpr ⟨Or.inl q1164, List.forall_mem_cons.mpr ⟨Or.inl q1165, List.forall_mem_cons.mpr ⟨Or.inl q1166, List.forall_mem_cons.mpr ⟨Or.inr (Or.inl ⟨pj_xD 4 rfl, rfl⟩), (fun a h => by cases h)⟩⟩⟩⟩⟩
theorem px_np2 : ∀ a ∈ Jvm.Bundle.passAtoms "java/lang/RuntimeException" "java/lang/Exception" 1 Jvm.LibCode.RuntimeException.Init0.code, px_in a := List.forall_mem_cons.mpr ⟨Or.inl q1166, List.forall_mem_cons.mpr ⟨Or.inl q1167, List.forall_mem_cons.mpr ⟨Or.inl q1168, List.forall_mem_cons.mpr ⟨Or.inl q1169, List.forall_mem_cons.mpr ⟨Or.inr (Or.inl ⟨pj_xD 6 rfl, rfl⟩), (fun a h => by cases h)⟩⟩⟩⟩⟩
theorem px_np3 : ∀ a ∈ Jvm.Bundle.passAtoms "java/lang/Exception" "java/lang/Throwable" 1 Jvm.LibCode.Exception.Init0.code, px_in a := List.forall_mem_cons.mpr ⟨Or.inl q1169, List.forall_mem_cons.mpr ⟨Or.inl q1170, List.forall_mem_cons.mpr ⟨Or.inl q1171, List.forall_mem_cons.mpr ⟨Or.inl q1111, List.forall_mem_cons.mpr ⟨Or.inr (Or.inl ⟨pj_xD 8 rfl, rfl⟩), (fun a h => by cases h)⟩⟩⟩⟩⟩
theorem px_npW : ∀ a ∈ Jvm.Bundle.npeArmAtoms 8, px_in a := by
  intro a h0
  rcases List.mem_append.mp h0 with h | h
  · rcases List.mem_append.mp h with h | h
    · rcases List.mem_append.mp h with h | h
      · rcases List.mem_append.mp h with h | h
        · rcases List.mem_append.mp h with h | h
          · exact px_thA a h
          · exact px_np0 a h
        · exact px_np1 a h
      · exact px_np2 a h
    · exact px_np3 a h
  · clear h0
    revert a
    exact List.forall_mem_cons.mpr ⟨Or.inl q88, List.forall_mem_cons.mpr ⟨Or.inl q1064, List.forall_mem_cons.mpr ⟨Or.inr (Or.inl ⟨pj_xC 1 rfl, rfl⟩), List.forall_mem_cons.mpr ⟨Or.inl q1185, List.forall_mem_cons.mpr ⟨Or.inl q1058, List.forall_mem_cons.mpr ⟨Or.inl q1180, List.forall_mem_cons.mpr ⟨Or.inl q1181, List.forall_mem_cons.mpr ⟨Or.inl q1183, List.forall_mem_cons.mpr ⟨Or.inr (Or.inr (Or.inl rfl)), List.forall_mem_cons.mpr ⟨Or.inr (Or.inr (Or.inr (Or.inl rfl))), List.forall_mem_cons.mpr ⟨Or.inl q1109, List.forall_mem_cons.mpr ⟨Or.inl q1108, List.forall_mem_cons.mpr ⟨Or.inl q1178, (fun a h => by cases h)⟩⟩⟩⟩⟩⟩⟩⟩⟩⟩⟩⟩⟩
