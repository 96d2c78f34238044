/-! an order of places, told by its length (the kernel counts) -/
theorem perm_ok {Ps : List HP} (is : List Nat) (m : Nat) (h : is.isPerm (List.range m) = true) (hl : Ps.length = m) : is.isPerm (List.range Ps.length) = true := by rw [hl]; exact h
