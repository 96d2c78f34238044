/-! a reference that may be null, laid into a field -/
theorem va_rf_nar (o : Option Nat) {ty : FieldType} (h : ty.isReference = true) : narrow ty (va_rf o) = va_rf o := by
  cases o <;> cases ty <;> first | rfl | (simp [FieldType.isReference] at h)
theorem va_rf_fit (o : Option Nat) {ty : FieldType} (h : ty.isReference = true) : fits ty (va_rf o) = true := by
  cases o <;> cases ty <;> first | rfl | (simp [FieldType.isReference] at h)
