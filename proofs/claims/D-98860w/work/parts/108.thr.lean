/-! 1031: programs that may throw a Fault and make cells (nwR), their contracts -/
set_option maxRecDepth 100000
abbrev nwF : Type := Int32 × Int32
/-- how many cells are made; a Fault or an answer -/
abbrev nwR (α : Type) : Type := Option (Nat × (nwF ⊕ α))
def xq_ {α β : Type} (o : nwR α) (k : α → nwR β) : nwR β := o.bind fun q => match q.2 with
  | .inl f => some (q.1, .inl f)
  | .inr v => (k v).map fun z => (q.1 + z.1, z.2)
def xn_ {β : Type} (n : Nat) (o : nwR β) : nwR β := o.map fun z => (n + z.1, z.2)
theorem xq_in {α β : Type} {o : nwR α} {k : α → nwR β} {n : Nat} {x : nwF ⊕ β} (h : xq_ o k = some (n, x)) : (∃ f, o = some (n, .inl f) ∧ x = .inl f) ∨ ∃ m v n', o = some (m, .inr v) ∧ k v = some (n', x) ∧ n = m + n' := by
  unfold xq_ at h
  obtain ⟨⟨m, y⟩, h1, h2⟩ := ob h
  cases y with
  | inl f => cases h2; exact Or.inl ⟨f, h1, rfl⟩
  | inr v =>
    have h2 : ((k v).map fun z => (m + z.1, z.2)) = some (n, x) := h2
    cases hk : k v with
    | none => rw [hk] at h2; cases h2
    | some z =>
      rw [hk] at h2
      cases h2
      exact Or.inr ⟨m, v, z.1, h1, hk, rfl⟩
theorem xn_in {β : Type} {n N : Nat} {o : nwR β} {x : nwF ⊕ β} (h : xn_ n o = some (N, x)) : ∃ n', o = some (n', x) ∧ N = n + n' := by
  unfold xn_ at h
  cases o with
  | none => cases h
  | some z => cases h; exact ⟨z.1, rfl, rfl⟩
/-- a loop of at most n rounds -/
def ic_ {σ ρ : Type} (f : σ → nwR (σ ⊕ ρ)) : Nat → σ → nwR ρ
  | 0, _ => none
  | n + 1, s => xq_ (f s) fun x => match x with
    | .inl s' => ic_ f n s'
    | .inr r => some (0, .inr r)
def wc_ {σ ρ : Type} (f : σ → nwR (σ ⊕ ρ)) (s : σ) : nwR ρ := ic_ f 1000 s
theorem ic_run {σ ρ : Type} {f : σ → nwR (σ ⊕ ρ)} {S : σ → Nat → Prop} {fin : nwF ⊕ ρ → Prop} (step : ∀ s m y n', f s = some (m, y) → Sum.elim (fun fl => n' = 0 ∧ fin (.inl fl)) (Sum.elim (fun s' => S s' n') (fun r => n' = 0 ∧ fin (.inr r))) y → S s (m + n')) : ∀ (k : Nat) (s : σ) (n : Nat) (x : nwF ⊕ ρ), ic_ f k s = some (n, x) → fin x → S s n := by
  intro k
  induction k with
  | zero => intro s n x h; cases h
  | succ k ih =>
    intro s n x h hx
    rcases xq_in h with ⟨fl, h1, rfl⟩ | ⟨m, v, n', h1, h2, rfl⟩
    · exact step s n _ 0 h1 ⟨rfl, hx⟩
    · cases v with
      | inl s' => exact step s m _ n' h1 (ih s' n' x h2 hx)
      | inr r => cases h2; exact step s m _ 0 h1 ⟨rfl, hx⟩
theorem wc_run {σ ρ : Type} {f : σ → nwR (σ ⊕ ρ)} {S : σ → Nat → Prop} {fin : nwF ⊕ ρ → Prop} (step : ∀ s m y n', f s = some (m, y) → Sum.elim (fun fl => n' = 0 ∧ fin (.inl fl)) (Sum.elim (fun s' => S s' n') (fun r => n' = 0 ∧ fin (.inr r))) y → S s (m + n')) {s : σ} {n : Nat} {x : nwF ⊕ ρ} (h : wc_ f s = some (n, x)) (hx : fin x) : S s n := ic_run step 1000 s n x h hx
/-- a Fault of kind f.1 at place f.2 -/
def FO (D : va_G) (f : nwF) (q : Nat) (H : Heap) : Prop := ∃ V : Nat → Value, t_OB q (D.1 4) 8 (D.2 4) H V ∧ V 6 = .int f.1 ∧ V 7 = .int f.2
/-- the end of a call that throws -/
def XcR {α : Type} (D : va_G) (A : Nat → Prop) : nwF ⊕ α → Addr → String → State → State → Prop
  | .inl f => fun q E st t => E = "NamesWeather$Fault" ∧ FO D f q t.heap ∧ va_F A st t
  | .inr _ => fun _ _ _ _ => False
/-- the end of a call that answers an int, nothing, a reference to a thing of which PV holds -/
def QcI (D : va_G) (a g : Nat) (A : Nat → Prop) : nwF ⊕ (Int32 × nwM) → Array Value → State → Outcome → State → Prop
  | .inl _ => fun _ _ _ _ => False
  | .inr v => va_Qi (fun r' (_ : Unit) => r' = v.1) (fun _ t => RD D a g v.2 t.heap) A
def QcV (D : va_G) (a g : Nat) (A : Nat → Prop) : nwF ⊕ nwM → Array Value → State → Outcome → State → Prop
  | .inl _ => fun _ _ _ _ => False
  | .inr v => va_Qv (fun (_ : Unit) => True) (fun _ t => RD D a g v t.heap) A
def QcR {α : Type} (D : va_G) (a g : Nat) (A : Nat → Prop) (PV : α → Nat → Heap → Prop) : nwF ⊕ (α × nwM) → Array Value → State → Outcome → State → Prop
  | .inl _ => fun _ _ _ _ => False
  | .inr v => va_Qr (fun (_ : Unit) => True) (fun _ b t => PV v.1 b t.heap ∧ RD D a g v.2 t.heap) A
theorem mf_imp {l : Launch} {x : MethodName} {S : Spec} {P : Array Value → State → Prop} {K : Program → Env → List Frame → State → Array Value → Prop} {Q Q' : Array Value → State → Outcome → State → Prop} (h : MetFree l x S P K Q) (hq : ∀ a s o s', Q a s o s' → Q' a s o s') : MetFree l x S P K Q' := by
  intro p e ha hc hk s m args below hf happ hP hK
  obtain ⟨n, o, h1, h2, h3, h4⟩ := h p e ha hc hk s m args below hf happ hP hK
  exact ⟨n, o, h1, h2, h3, hq _ _ _ _ h4⟩
/-- one that throws nothing returns -/
theorem nx_met {α : Type} {l : Launch} {y : MethodName} {ws : List Cond} {rm : Room} {Pc : Array Value → State → Prop} {Qc : Array Value → State → Outcome → State → Prop} {D : va_G} {A : Nat → Prop} {v : α} {mc ms : Nat} {free : Addr → Prop} (h : nx_Met l y ws rm Pc Qc (XcR D A (.inr v)) mc ms free) : Met l y ws rm Pc Qc mc ms free := mf_imp h (fun a s o s' hq => by
  rcases hq with hq | ⟨q, -, E, ce, L, hx, -⟩
  · exact hq
  · exact hx.elim)
