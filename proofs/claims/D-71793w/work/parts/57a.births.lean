/-! births and slots of the classes -/
set_option maxRecDepth 100000
theorem apX0 : ∀ a, a < 19 → ∀ b, b < 19 → a ≠ b → x_ap TX0 a b := by decide +kernel
theorem dvX0 : ∀ j, j < 19 → defaultValue (tyX0 j) = vp_V [.null, .null, .int (iI 0), .null, .int (iI 0), .null, .null, .int (iI 0), .int (iI 0), .int (iI 0), .null, .null, .null, .null, .null, .null, .null, .int (iI 0), .null] j := by
  intro j hj
  match j, hj with
  | 0, _ => rfl
  | 1, _ => rfl
  | 2, _ => rfl
  | 3, _ => rfl
  | 4, _ => rfl
  | 5, _ => rfl
  | 6, _ => rfl
  | 7, _ => rfl
  | 8, _ => rfl
  | 9, _ => rfl
  | 10, _ => rfl
  | 11, _ => rfl
  | 12, _ => rfl
  | 13, _ => rfl
  | 14, _ => rfl
  | 15, _ => rfl
  | 16, _ => rfl
  | 17, _ => rfl
  | 18, _ => rfl
  | n + 19, h => exact absurd h (by omega)
theorem apX1 : ∀ a, a < 1 → ∀ b, b < 1 → a ≠ b → x_ap TX1 a b := by decide +kernel
theorem dvX1 : ∀ j, j < 1 → defaultValue (tyX1 j) = vp_V [.null] j := by
  intro j hj
  match j, hj with
  | 0, _ => rfl
  | n + 1, h => exact absurd h (by omega)
theorem apX2 : ∀ a, a < 1 → ∀ b, b < 1 → a ≠ b → x_ap TX2 a b := by decide +kernel
theorem dvX2 : ∀ j, j < 1 → defaultValue (tyX2 j) = vp_V [.null] j := by
  intro j hj
  match j, hj with
  | 0, _ => rfl
  | n + 1, h => exact absurd h (by omega)
theorem apX6 : ∀ a, a < 3 → ∀ b, b < 3 → a ≠ b → x_ap TX6 a b := by decide +kernel
theorem dvX6 : ∀ j, j < 3 → defaultValue (tyX6 j) = vp_V [.int (iI 0), .int (iI 0), .null] j := by
  intro j hj
  match j, hj with
  | 0, _ => rfl
  | 1, _ => rfl
  | 2, _ => rfl
  | n + 3, h => exact absurd h (by omega)
theorem apX7 : ∀ a, a < 4 → ∀ b, b < 4 → a ≠ b → x_ap TX7 a b := by decide +kernel
theorem dvX7 : ∀ j, j < 4 → defaultValue (tyX7 j) = vp_V [.int (iI 0), .int (iI 0), .null, .null] j := by
  intro j hj
  match j, hj with
  | 0, _ => rfl
  | 1, _ => rfl
  | 2, _ => rfl
  | 3, _ => rfl
  | n + 4, h => exact absurd h (by omega)
theorem apX8 : ∀ a, a < 5 → ∀ b, b < 5 → a ≠ b → x_ap TX8 a b := by decide +kernel
theorem dvX8 : ∀ j, j < 5 → defaultValue (tyX8 j) = vp_V [.int (iI 0), .int (iI 0), .null, .null, .null] j := by
  intro j hj
  match j, hj with
  | 0, _ => rfl
  | 1, _ => rfl
  | 2, _ => rfl
  | 3, _ => rfl
  | 4, _ => rfl
  | n + 5, h => exact absurd h (by omega)
theorem apX5 : ∀ a, a < 7 → ∀ b, b < 7 → a ≠ b → x_ap TX5 a b := by decide +kernel
theorem dvX5 : ∀ j, j < 7 → defaultValue (tyX5 j) = vp_V [.null, .int (iI 0), .int (iI 0), .int (iI 0), .int (iI 0), .null, .null] j := by
  intro j hj
  match j, hj with
  | 0, _ => rfl
  | 1, _ => rfl
  | 2, _ => rfl
  | 3, _ => rfl
  | 4, _ => rfl
  | 5, _ => rfl
  | 6, _ => rfl
  | n + 7, h => exact absurd h (by omega)
theorem apX10 : ∀ a, a < 4 → ∀ b, b < 4 → a ≠ b → x_ap TX10 a b := by decide +kernel
theorem dvX10 : ∀ j, j < 4 → defaultValue (tyX10 j) = vp_V [.int (iI 0), .null, .int (iI 0), .null] j := by
  intro j hj
  match j, hj with
  | 0, _ => rfl
  | 1, _ => rfl
  | 2, _ => rfl
  | 3, _ => rfl
  | n + 4, h => exact absurd h (by omega)
theorem apX11 : ∀ a, a < 2 → ∀ b, b < 2 → a ≠ b → x_ap TX11 a b := by decide +kernel
theorem dvX11 : ∀ j, j < 2 → defaultValue (tyX11 j) = vp_V [.int (iI 0), .null] j := by
  intro j hj
  match j, hj with
  | 0, _ => rfl
  | 1, _ => rfl
  | n + 2, h => exact absurd h (by omega)
theorem apX12 : ∀ a, a < 3 → ∀ b, b < 3 → a ≠ b → x_ap TX12 a b := by decide +kernel
theorem dvX12 : ∀ j, j < 3 → defaultValue (tyX12 j) = vp_V [.int (iI 0), .int (iI 0), .null] j := by
  intro j hj
  match j, hj with
  | 0, _ => rfl
  | 1, _ => rfl
  | 2, _ => rfl
  | n + 3, h => exact absurd h (by omega)
theorem apX13 : ∀ a, a < 4 → ∀ b, b < 4 → a ≠ b → x_ap TX13 a b := by decide +kernel
theorem dvX13 : ∀ j, j < 4 → defaultValue (tyX13 j) = vp_V [.int (iI 0), .int (iI 0), .int (iI 0), .null] j := by
  intro j hj
  match j, hj with
  | 0, _ => rfl
  | 1, _ => rfl
  | 2, _ => rfl
  | 3, _ => rfl
  | n + 4, h => exact absurd h (by omega)
theorem apX14 : ∀ a, a < 4 → ∀ b, b < 4 → a ≠ b → x_ap TX14 a b := by decide +kernel
theorem dvX14 : ∀ j, j < 4 → defaultValue (tyX14 j) = vp_V [.int (iI 0), .null, .int (iI 0), .null] j := by
  intro j hj
  match j, hj with
  | 0, _ => rfl
  | 1, _ => rfl
  | 2, _ => rfl
  | 3, _ => rfl
  | n + 4, h => exact absurd h (by omega)
theorem apX15 : ∀ a, a < 3 → ∀ b, b < 3 → a ≠ b → x_ap TX15 a b := by decide +kernel
theorem dvX15 : ∀ j, j < 3 → defaultValue (tyX15 j) = vp_V [.int (iI 0), .null, .null] j := by
  intro j hj
  match j, hj with
  | 0, _ => rfl
  | 1, _ => rfl
  | 2, _ => rfl
  | n + 3, h => exact absurd h (by omega)
theorem apX16 : ∀ a, a < 2 → ∀ b, b < 2 → a ≠ b → x_ap TX16 a b := by decide +kernel
theorem dvX16 : ∀ j, j < 2 → defaultValue (tyX16 j) = vp_V [.int (iI 0), .int (iI 0)] j := by
  intro j hj
  match j, hj with
  | 0, _ => rfl
  | 1, _ => rfl
  | n + 2, h => exact absurd h (by omega)
theorem apX17 : ∀ a, a < 1 → ∀ b, b < 1 → a ≠ b → x_ap TX17 a b := by decide +kernel
theorem dvX17 : ∀ j, j < 1 → defaultValue (tyX17 j) = vp_V [.null] j := by
  intro j hj
  match j, hj with
  | 0, _ => rfl
  | n + 1, h => exact absurd h (by omega)
theorem apX18 : ∀ a, a < 7 → ∀ b, b < 7 → a ≠ b → x_ap TX18 a b := by decide +kernel
theorem dvX18 : ∀ j, j < 7 → defaultValue (tyX18 j) = vp_V [.null, .int (iI 0), .int (iI 0), .int (iI 0), .int (iI 0), .int (iI 0), .null] j := by
  intro j hj
  match j, hj with
  | 0, _ => rfl
  | 1, _ => rfl
  | 2, _ => rfl
  | 3, _ => rfl
  | 4, _ => rfl
  | 5, _ => rfl
  | 6, _ => rfl
  | n + 7, h => exact absurd h (by omega)
theorem apX19 : ∀ a, a < 4 → ∀ b, b < 4 → a ≠ b → x_ap TX19 a b := by decide +kernel
theorem dvX19 : ∀ j, j < 4 → defaultValue (tyX19 j) = vp_V [.null, .null, .int (iI 0), .null] j := by
  intro j hj
  match j, hj with
  | 0, _ => rfl
  | 1, _ => rfl
  | 2, _ => rfl
  | 3, _ => rfl
  | n + 4, h => exact absurd h (by omega)
theorem apJ2 : ∀ a, a < 3 → ∀ b, b < 3 → a ≠ b → x_ap TJ2 a b := by decide +kernel
theorem dvJ2 : ∀ j, j < 3 → defaultValue (tyJ2 j) = vp_V [.int (iI 0), .null, .int (iI 0)] j := by
  intro j hj
  match j, hj with
  | 0, _ => rfl
  | 1, _ => rfl
  | 2, _ => rfl
  | n + 3, h => exact absurd h (by omega)
