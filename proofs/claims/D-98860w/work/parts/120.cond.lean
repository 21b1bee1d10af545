/-! 120: any, all, one: they call each other -/
set_option maxRecDepth 100000
/-- k: 0 any, 1 all, 2 one; at most n calls deep -/
noncomputable def fr_cond (ξ : nwM) : Nat → Nat → nwM → nwR (nwT2 × nwM)
  | 0, _, _ => none
  | n + 1, k, μ => if k = 0 then fr_any_ (fr_cond ξ n 1) ξ μ else if k = 1 then fr_all_ (fr_cond ξ n 2) ξ μ else fr_one_ (fr_cond ξ n 2) (fr_cond ξ n 0) ξ μ
abbrev cMet (l : Launch) (D : va_G) (dT : Nat → ClassId) (a g : Nat) (ξ : nwM) (β : Nat → Nat) (σ : nwM) (ρ : Nat → Nat) (Z : nwZ) (y : MethodName) (bytes : ByteArray) (mx n k : Nat) : Prop := ∀ (sz : Nat) (μ : nwM) (res : Nat × (nwF ⊕ (nwT2 × nwM))), fr_cond ξ n k μ = some res → nx_Met l y (ws_ y bytes mx (some (.object "NamesWeather$Term"))) (rmc (13 + n) res.1) (va_Pc [.ref a] (RQ D dT a g ξ β σ ρ Z sz μ)) (QcR D a g (nA a sz) (pvG (PT D) sz) res.2) (XcR D (nA a sz) res.2) res.1 (24 * res.1) (nA a sz)
theorem tr_cond (l : Launch) (hst : l.stackTraces = false) (D : va_G) (dT : Nat → ClassId) (a g : Nat) (ξ : nwM) (β : Nat → Nat) (σ : nwM) (ρ : Nat → Nat) (Z : nwZ) : ∀ n, cMet l D dT a g ξ β σ ρ Z yX3_any cX3_any 2 n 0 ∧ cMet l D dT a g ξ β σ ρ Z yX3_all cX3_all 2 n 1 ∧ cMet l D dT a g ξ β σ ρ Z yX3_one cX3_one 3 n 2 := by
  intro n
  induction n with
  | zero => exact ⟨fun _ _ _ h => (by cases h), fun _ _ _ h => (by cases h), fun _ _ _ h => (by cases h)⟩
  | succ n ih =>
    obtain ⟨h0, h1, h2⟩ := ih
    exact ⟨fun sz μ res hf => tr_any_ l hst D dT a g ξ β σ ρ Z sz (13 + n) _ (by omega) h1 μ res hf, fun sz μ res hf => tr_all_ l hst D dT a g ξ β σ ρ Z sz (13 + n) _ (by omega) h2 μ res hf, fun sz μ res hf => tr_one_ l hst D dT a g ξ β σ ρ Z sz (13 + n) _ _ (by omega) h2 h0 μ res hf⟩
theorem tr_cond_any (l : Launch) (hst : l.stackTraces = false) (D : va_G) (dT : Nat → ClassId) (a g : Nat) (ξ : nwM) (β : Nat → Nat) (σ : nwM) (ρ : Nat → Nat) (Z : nwZ) (sz n : Nat) (μ : nwM) (res : Nat × (nwF ⊕ (nwT2 × nwM))) (hf : fr_cond ξ n 0 μ = some res) : nx_Met l yX3_any (ws_ yX3_any cX3_any 2 (some (.object "NamesWeather$Term"))) (rmc (13 + n) res.1) (va_Pc [.ref a] (RQ D dT a g ξ β σ ρ Z sz μ)) (QcR D a g (nA a sz) (pvG (PT D) sz) res.2) (XcR D (nA a sz) res.2) res.1 (24 * res.1) (nA a sz) := (tr_cond l hst D dT a g ξ β σ ρ Z n).1 sz μ res hf
