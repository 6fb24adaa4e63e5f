/-! the fixed cells of the run (by tools/gen_state.py); ids: 0 script, 1 spares, 2 C, 3 p, 4 q, 5 lines, 6 weights, 7 weightCount, 8 programs, 9 accounts, 10 run0, 11 run0.num, 12 run0.den, 13 run0.shown, 14 run0.parts, 15 run0.results, 16 run0.lines, 17 run0.accounts, 18 run0.value, 19 run0.got, 20 run0.piece, 21 run1, 22 run1.num, 23 run1.den, 24 run1.shown, 25 run1.parts, 26 run1.results, 27 run1.lines, 28 run1.accounts, 29 run1.value, 30 run1.got, 31 run1.piece, 32 run2, 33 run2.num, 34 run2.den, 35 run2.shown, 36 run2.parts, 37 run2.results, 38 run2.lines, 39 run2.accounts, 40 run2.value, 41 run2.got, 42 run2.piece, 43 pieces, 44 rests, 45 order, 46 turned, 47 single, 48 most, 49 least, 50 nextMost, 51 nextLeast, 52 tapes, 53 tape0, 54 tape1, 55 tape2, 56 tape3, 57 tape4, 58 tape5, 59 M, 60 m.rateP, 61 m.rateQ, 62 m.bill, 63 m.weights, 64 m.weight, 65 m.acts, 66 m.kind, 67 m.actS, 68 m.actT, 69 m.actV, 70 m.billRow, 71 m.up, 72 m.low, 73 m.parts, 74 m.results, 75 m.account, 76 m.carriedUp, 77 m.carriedLow, 78 m.isShown, 79 m.sort, 80 m.size, 81 m.cells, 82 m.iPrograms, 83 m.iLeaks, 84 m.iAccount, 85 m.iUp, 86 m.iLow, 87 m.aheadAccount, 88 m.first, 89 m.slotF, 90 m.partF, 91 m.place, 92 m.firstResult, 93 m.best, 94 m.next, 95 m.isReached, 96 m.moved, 97 out, 98.. moving -/
set_option maxRecDepth 100000
/-- scalars and arrays of an object, by the numbers of its fields: ints (and booleans), longs, doubles; int arrays, long arrays, double arrays -/
abbrev sx_M : Type := (Nat → Int32) × (Nat → Int64) × (Nat → UInt64) × (Nat → Nat → Int32) × (Nat → Nat → Int64) × (Nat → Nat → UInt64)
abbrev sx_i (m : sx_M) : Nat → Int32 := m.1
abbrev sx_l (m : sx_M) : Nat → Int64 := m.2.1
abbrev sx_d (m : sx_M) : Nat → UInt64 := m.2.2.1
abbrev sx_I (m : sx_M) : Nat → Nat → Int32 := m.2.2.2.1
abbrev sx_L (m : sx_M) : Nat → Nat → Int64 := m.2.2.2.2.1
abbrev sx_D (m : sx_M) : Nat → Nat → UInt64 := m.2.2.2.2.2
def sx_si (m : sx_M) (k : Nat) (v : Int32) : sx_M := (va_up m.1 k v, m.2)
def sx_sl (m : sx_M) (k : Nat) (v : Int64) : sx_M := (m.1, va_up m.2.1 k v, m.2.2)
def sx_sd (m : sx_M) (k : Nat) (v : UInt64) : sx_M := (m.1, m.2.1, va_up m.2.2.1 k v, m.2.2.2)
def sx_sI (m : sx_M) (k : Nat) (f : Nat → Int32) : sx_M := (m.1, m.2.1, m.2.2.1, va_up m.2.2.2.1 k f, m.2.2.2.2)
def sx_sL (m : sx_M) (k : Nat) (f : Nat → Int64) : sx_M := (m.1, m.2.1, m.2.2.1, m.2.2.2.1, va_up m.2.2.2.2.1 k f, m.2.2.2.2.2)
def sx_sD (m : sx_M) (k : Nat) (f : Nat → UInt64) : sx_M := (m.1, m.2.1, m.2.2.1, m.2.2.2.1, m.2.2.2.2.1, va_up m.2.2.2.2.2 k f)
/-- the component's fixed part: its own scalars and arrays, its three runs, its programs, its tapes' contents -/
abbrev sx_C : Type := sx_M × (Nat → sx_M) × (Nat → Option Nat) × (Nat → Option Nat)
abbrev sx_R (c : sx_C) : Nat → sx_M := c.2.1
abbrev sx_P (c : sx_C) : Nat → Option Nat := c.2.2.1
abbrev sx_T (c : sx_C) : Nat → Option Nat := c.2.2.2
def sx_sR (c : sx_C) (j : Nat) (r : sx_M) : sx_C := (c.1, va_up c.2.1 j r, c.2.2)
def sx_sP (c : sx_C) (f : Nat → Option Nat) : sx_C := (c.1, c.2.1, f, c.2.2.2)
def sx_sT (c : sx_C) (k : Nat) (v : Option Nat) : sx_C := (c.1, c.2.1, c.2.2.1, va_up c.2.2.2 k v)
def sx_sM (c : sx_C) (m : sx_M) : sx_C := (m, c.2)
/-- where the six tapes stand -/
def sx_tr : Nat → Option Nat := fun j => if j < 6 then some (53 + j) else none
def sx_mk (c : sx_C) (m : sx_M) (o : Nat → Int64) (D : pj_H) : pj_H :=
  .inl (90, (0, .inl (fun _ => 0))) ::
  .inl (90, (0, .inl (fun _ => 0))) ::
  .inr (0, [.ref 3, .ref 4, .ref 5, .int (sx_i c.1 3), .ref 6, .ref 7, .ref 8, .int (sx_i c.1 7), .ref 9, .int (sx_i c.1 9), .ref 10, .ref 21, .ref 32, .ref 43, .ref 44, .int (sx_i c.1 15), .ref 45, .ref 46, .ref 47, .ref 48, .ref 49, .ref 50, .ref 51, .ref 52, .int (sx_i c.1 24)]) ::
  .inl (0, (8, .inl (sx_I c.1 0))) ::
  .inl (0, (8, .inl (sx_I c.1 1))) ::
  .inl (0, (12, .inl (sx_I c.1 2))) ::
  .inl (0, (32, .inl (sx_I c.1 4))) ::
  .inl (0, (4, .inl (sx_I c.1 5))) ::
  .inl (6, (4, .inr (.inr (.inr (.inr (sx_P c)))))) ::
  .inl (1, (8, .inr (.inl (sx_L c.1 8)))) ::
  .inr (1, [.ref 11, .ref 12, .ref 13, .ref 14, .int (sx_i (sx_R c 0) 4), .int (sx_i (sx_R c 0) 5), .long (sx_l (sx_R c 0) 6), .ref 15, .ref 16, .int (sx_i (sx_R c 0) 9), .long (sx_l (sx_R c 0) 10), .long (sx_l (sx_R c 0) 11), .ref 17, .int (sx_i (sx_R c 0) 13), .ref 18, .ref 19, .ref 20, .double (sx_d (sx_R c 0) 17), .ref 2]) ::
  .inl (1, (8, .inr (.inl (sx_L (sx_R c 0) 0)))) ::
  .inl (1, (8, .inr (.inl (sx_L (sx_R c 0) 1)))) ::
  .inl (2, (8, .inl (sx_I (sx_R c 0) 2))) ::
  .inl (1, (8, .inr (.inl (sx_L (sx_R c 0) 3)))) ::
  .inl (1, (12, .inr (.inl (sx_L (sx_R c 0) 7)))) ::
  .inl (0, (12, .inl (sx_I (sx_R c 0) 8))) ::
  .inl (1, (8, .inr (.inl (sx_L (sx_R c 0) 12)))) ::
  .inl (3, (8, .inr (.inr (.inr (.inl (sx_D (sx_R c 0) 14)))))) ::
  .inl (3, (12, .inr (.inr (.inr (.inl (sx_D (sx_R c 0) 15)))))) ::
  .inl (3, (8, .inr (.inr (.inr (.inl (sx_D (sx_R c 0) 16)))))) ::
  .inr (1, [.ref 22, .ref 23, .ref 24, .ref 25, .int (sx_i (sx_R c 1) 4), .int (sx_i (sx_R c 1) 5), .long (sx_l (sx_R c 1) 6), .ref 26, .ref 27, .int (sx_i (sx_R c 1) 9), .long (sx_l (sx_R c 1) 10), .long (sx_l (sx_R c 1) 11), .ref 28, .int (sx_i (sx_R c 1) 13), .ref 29, .ref 30, .ref 31, .double (sx_d (sx_R c 1) 17), .ref 2]) ::
  .inl (1, (8, .inr (.inl (sx_L (sx_R c 1) 0)))) ::
  .inl (1, (8, .inr (.inl (sx_L (sx_R c 1) 1)))) ::
  .inl (2, (8, .inl (sx_I (sx_R c 1) 2))) ::
  .inl (1, (8, .inr (.inl (sx_L (sx_R c 1) 3)))) ::
  .inl (1, (12, .inr (.inl (sx_L (sx_R c 1) 7)))) ::
  .inl (0, (12, .inl (sx_I (sx_R c 1) 8))) ::
  .inl (1, (8, .inr (.inl (sx_L (sx_R c 1) 12)))) ::
  .inl (3, (8, .inr (.inr (.inr (.inl (sx_D (sx_R c 1) 14)))))) ::
  .inl (3, (12, .inr (.inr (.inr (.inl (sx_D (sx_R c 1) 15)))))) ::
  .inl (3, (8, .inr (.inr (.inr (.inl (sx_D (sx_R c 1) 16)))))) ::
  .inr (1, [.ref 33, .ref 34, .ref 35, .ref 36, .int (sx_i (sx_R c 2) 4), .int (sx_i (sx_R c 2) 5), .long (sx_l (sx_R c 2) 6), .ref 37, .ref 38, .int (sx_i (sx_R c 2) 9), .long (sx_l (sx_R c 2) 10), .long (sx_l (sx_R c 2) 11), .ref 39, .int (sx_i (sx_R c 2) 13), .ref 40, .ref 41, .ref 42, .double (sx_d (sx_R c 2) 17), .ref 2]) ::
  .inl (1, (8, .inr (.inl (sx_L (sx_R c 2) 0)))) ::
  .inl (1, (8, .inr (.inl (sx_L (sx_R c 2) 1)))) ::
  .inl (2, (8, .inl (sx_I (sx_R c 2) 2))) ::
  .inl (1, (8, .inr (.inl (sx_L (sx_R c 2) 3)))) ::
  .inl (1, (12, .inr (.inl (sx_L (sx_R c 2) 7)))) ::
  .inl (0, (12, .inl (sx_I (sx_R c 2) 8))) ::
  .inl (1, (8, .inr (.inl (sx_L (sx_R c 2) 12)))) ::
  .inl (3, (8, .inr (.inr (.inr (.inl (sx_D (sx_R c 2) 14)))))) ::
  .inl (3, (12, .inr (.inr (.inr (.inl (sx_D (sx_R c 2) 15)))))) ::
  .inl (3, (8, .inr (.inr (.inr (.inl (sx_D (sx_R c 2) 16)))))) ::
  .inl (1, (8, .inr (.inl (sx_L c.1 13)))) ::
  .inl (1, (8, .inr (.inl (sx_L c.1 14)))) ::
  .inl (0, (6, .inl (sx_I c.1 16))) ::
  .inl (0, (12, .inl (sx_I c.1 17))) ::
  .inl (0, (1, .inl (sx_I c.1 18))) ::
  .inl (0, (2600, .inl (sx_I c.1 19))) ::
  .inl (0, (2600, .inl (sx_I c.1 20))) ::
  .inl (0, (2600, .inl (sx_I c.1 21))) ::
  .inl (0, (2600, .inl (sx_I c.1 22))) ::
  .inl (8, (6, .inr (.inr (.inr (.inr sx_tr))))) ::
  .inr (2, [va_rf (sx_T c 0)]) ::
  .inr (2, [va_rf (sx_T c 1)]) ::
  .inr (2, [va_rf (sx_T c 2)]) ::
  .inr (2, [va_rf (sx_T c 3)]) ::
  .inr (2, [va_rf (sx_T c 4)]) ::
  .inr (2, [va_rf (sx_T c 5)]) ::
  .inr (3, [.int (sx_i m 0), .ref 60, .ref 61, .int (sx_i m 3), .ref 62, .ref 63, .ref 64, .int (sx_i m 7), .ref 65, .ref 66, .ref 67, .ref 68, .ref 69, .int (sx_i m 13), .int (sx_i m 14), .int (sx_i m 15), .int (sx_i m 16), .int (sx_i m 17), .ref 70, .ref 71, .ref 72, .ref 73, .ref 74, .ref 75, .ref 76, .ref 77, .ref 78, .int (sx_i m 27), .int (sx_i m 28), .long (sx_l m 29), .int (sx_i m 30), .int (sx_i m 31), .int (sx_i m 32), .ref 79, .ref 80, .ref 81, .ref 82, .ref 83, .ref 84, .ref 85, .ref 86, .ref 87, .ref 88, .ref 89, .ref 90, .double (sx_d m 45), .ref 91, .ref 92, .ref 93, .ref 94, .ref 95, .ref 96]) ::
  .inl (0, (8, .inl (sx_I m 1))) ::
  .inl (0, (8, .inl (sx_I m 2))) ::
  .inl (0, (12, .inl (sx_I m 4))) ::
  .inl (0, (4, .inl (sx_I m 5))) ::
  .inl (0, (32, .inl (sx_I m 6))) ::
  .inl (0, (4, .inl (sx_I m 8))) ::
  .inl (0, (80, .inl (sx_I m 9))) ::
  .inl (0, (80, .inl (sx_I m 10))) ::
  .inl (0, (80, .inl (sx_I m 11))) ::
  .inl (0, (80, .inl (sx_I m 12))) ::
  .inl (0, (12, .inl (sx_I m 18))) ::
  .inl (1, (16, .inr (.inl (sx_L m 19)))) ::
  .inl (1, (16, .inr (.inl (sx_L m 20)))) ::
  .inl (1, (16, .inr (.inl (sx_L m 21)))) ::
  .inl (1, (24, .inr (.inl (sx_L m 22)))) ::
  .inl (1, (16, .inr (.inl (sx_L m 23)))) ::
  .inl (1, (8, .inr (.inl (sx_L m 24)))) ::
  .inl (1, (8, .inr (.inl (sx_L m 25)))) ::
  .inl (2, (16, .inl (sx_I m 26))) ::
  .inl (0, (6, .inl (sx_I m 33))) ::
  .inl (0, (6, .inl (sx_I m 34))) ::
  .inl (1, (384, .inr (.inl (sx_L m 35)))) ::
  .inl (0, (6, .inl (sx_I m 36))) ::
  .inl (0, (6, .inl (sx_I m 37))) ::
  .inl (1, (48, .inr (.inl (sx_L m 38)))) ::
  .inl (1, (24, .inr (.inl (sx_L m 39)))) ::
  .inl (1, (24, .inr (.inl (sx_L m 40)))) ::
  .inl (1, (8, .inr (.inl (sx_L m 41)))) ::
  .inl (1, (8, .inr (.inl (sx_L m 42)))) ::
  .inl (3, (8, .inr (.inr (.inr (.inl (sx_D m 43)))))) ::
  .inl (3, (8, .inr (.inr (.inr (.inl (sx_D m 44)))))) ::
  .inl (0, (6, .inl (sx_I m 46))) ::
  .inl (1, (12, .inr (.inl (sx_L m 47)))) ::
  .inl (1, (200, .inr (.inl (sx_L m 48)))) ::
  .inl (1, (200, .inr (.inl (sx_L m 49)))) ::
  .inl (2, (200, .inl (sx_I m 50))) ::
  .inl (1, (64, .inr (.inl (sx_L m 51)))) ::
  .inl (1, (1, .inr (.inl o))) :: D
