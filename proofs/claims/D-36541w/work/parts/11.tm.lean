/-! TillhouseModel: its object; rows of digits -/
def tmF (a : Nat → Nat) (z : Nat → Int) : List Value := [.ref (a 0), .ref (a 1), .int (jI (z 2)), .ref (a 3), .ref (a 4), .ref (a 5), .ref (a 6), .int (jI (z 7)), .int (jI (z 8)), .ref (a 9), .ref (a 10), .ref (a 11), .ref (a 12), .ref (a 13), .ref (a 14), .ref (a 15), .ref (a 16), .ref (a 17), .ref (a 18), .ref (a 19), .ref (a 20), .ref (a 21), .ref (a 22), .ref (a 23), .ref (a 24), .ref (a 25), .ref (a 26), .int (jI (z 27)), .ref (a 28), .ref (a 29), .ref (a 30), .int (jI (z 31)), .int (jI (z 32)), .ref (a 33), .ref (a 34), .ref (a 35), .ref (a 36), .ref (a 37), .ref (a 38), .int (jI (z 39)), .ref (a 40), .ref (a 41), .ref (a 42), .ref (a 43), .int (jI (z 44)), .int (jI (z 45)), .ref (a 46), .ref (a 47), .ref (a 48), .int (jI (z 49))]

def tmO (g : GG) (o : Nat) (a : Nat → Nat) (z : Nat → Int) : HP := ob g o 3 (tmF a z)
def dg (D M : Nat → Nat) (row k : Nat) : Nat := if k < M row then D (240 * row + k) else 0
theorem dg_lt {D M : Nat → Nat} {row k : Nat} (h : k < M row) : dg D M row k = D (240 * row + k) := if_pos h
theorem dg_ge {D M : Nat → Nat} {row k : Nat} (h : M row ≤ k) : dg D M row k = 0 := if_neg (by omega)
