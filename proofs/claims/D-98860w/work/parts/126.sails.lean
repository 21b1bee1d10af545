/-! 126: sails calls itself -/
set_option maxRecDepth 100000
noncomputable def fl_sails : Nat → Int32 → Int32 → Int32 → Int32 → nwX → Option (Int32 × nwX)
  | 0, _, _, _, _, _ => none
  | n + 1, x1, x2, x3, x4, μ => fx_sails_ (fl_sails n) x1 x2 x3 x4 μ
theorem tl_sails (l : Launch) (D : va_G) (dT : Nat → ClassId) (g : Nat) : ∀ (n : Nat) (x1 x2 x3 x4 : Int32) (μ : nwX) (res : Int32 × nwX), fl_sails n x1 x2 x3 x4 μ = some res → Met l yX0_sails (ws_ yX0_sails cX0_sails 6 (some .boolean)) (rmd (5 + n)) (va_Pc [.ref g, .int x1, .int x2, .int x3, .int x4] (fun U => PX D dT g μ U.heap ∧ EV D dT U)) (va_Qi (fun r' (_ : Unit) => r' = res.1) (fun _ t => PX D dT g res.2 t.heap) (xA g)) 0 0 (xA g) := by
  intro n
  induction n with
  | zero => intro x1 x2 x3 x4 μ res h; cases h
  | succ n ih => intro x1 x2 x3 x4 μ res h; exact tx_sails_ l D dT g (5 + n) _ (by omega) ih x1 x2 x3 x4 μ res h
noncomputable def fx_sails (x1 x2 x3 x4 : Int32) (μ : nwX) : Option (Int32 × nwX) := fl_sails 15 x1 x2 x3 x4 μ
theorem tx_sails (l : Launch) (D : va_G) (dT : Nat → ClassId) (g : Nat) (x1 x2 x3 x4 : Int32) (μ : nwX) (res : Int32 × nwX) (hf : fx_sails x1 x2 x3 x4 μ = some res) : Met l yX0_sails (ws_ yX0_sails cX0_sails 6 (some .boolean)) (rmd 20) (va_Pc [.ref g, .int x1, .int x2, .int x3, .int x4] (fun U => PX D dT g μ U.heap ∧ EV D dT U)) (va_Qi (fun r' (_ : Unit) => r' = res.1) (fun _ t => PX D dT g res.2 t.heap) (xA g)) 0 0 (xA g) := tl_sails l D dT g 15 x1 x2 x3 x4 μ res hf
