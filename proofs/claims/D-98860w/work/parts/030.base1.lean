/-! BASE 1: option programs, loops, pictures of the heap (my own rows) -/
set_option maxRecDepth 100000
abbrev nwM : Type := Nat → Nat → Int32
def up_ (μ : nwM) (k i : Nat) (v : Int32) : nwM := fun a b => if a = k ∧ b = i then v else μ a b
def inb (i : Int32) (n : Nat) : Bool := decide (¬ (i < 0 ∨ n ≤ i.toNatClampNeg))
/-- an element of array k, of n places -/
def rd_ (μ : nwM) (k n : Nat) (i : Int32) : Option Int32 := if inb i n = true then some (μ k i.toNatClampNeg) else none
def wr_ (μ : nwM) (k n : Nat) (i v : Int32) : Option nwM := if inb i n = true then some (up_ μ k i.toNatClampNeg v) else none
/-- an int field is written -/
def wf_ (μ : nwM) (k : Nat) (v : Int32) : Option nwM := some (up_ μ k 0 v)
/-- a boolean field is written -/
def wz_ (μ : nwM) (k : Nat) (v : Int32) : Option nwM := if v = 0 ∨ v = 1 then some (up_ μ k 0 v) else none
/-- a boolean is answered -/
def zr_ (v : Int32) : Option Int32 := if v = 0 ∨ v = 1 then some v else none
def dv_ (x y : Int32) : Option Int32 := if y = 0 then none else some (x / y)
def rm_ (x y : Int32) : Option Int32 := if y = 0 then none else some (x - x / y * y)
def bd2 {α β γ : Type} (o : Option (α × β)) (k : α → β → Option γ) : Option γ := o.bind (fun q => k q.1 q.2)
theorem bd2_some {α β γ : Type} (a : α) (b : β) (k : α → β → Option γ) : bd2 (some (a, b)) k = k a b := rfl
theorem bd2_none {α β γ : Type} (k : α → β → Option γ) : bd2 none k = none := rfl
theorem ob {α β : Type} {o : Option α} {k : α → Option β} {r : β} (h : o.bind k = some r) : ∃ a, o = some a ∧ k a = some r := by
  cases o with
  | none => cases h
  | some a => exact ⟨a, rfl, h⟩
theorem ob2 {α β γ : Type} {o : Option (α × β)} {k : α → β → Option γ} {r : γ} (h : bd2 o k = some r) : ∃ a b, o = some (a, b) ∧ k a b = some r := by
  cases o with
  | none => cases h
  | some q => exact ⟨q.1, q.2, rfl, h⟩
theorem ite_t {α : Type} {c : Prop} [inst : Decidable c] {a b r : α} (hc : c) (h : (@ite α c inst a b) = r) : a = r := by rw [if_pos hc] at h; exact h
theorem ite_f {α : Type} {c : Prop} [inst : Decidable c] {a b r : α} (hc : ¬ c) (h : (@ite α c inst a b) = r) : b = r := by rw [if_neg hc] at h; exact h
theorem inb_in {i : Int32} {n : Nat} (h : inb i n = true) : vp_in i n := by
  unfold vp_in
  unfold inb at h
  exact of_decide_eq_true h
theorem inb_of {i : Int32} {n : Nat} (h : vp_in i n) : inb i n = true := by
  unfold vp_in at h
  unfold inb
  exact decide_eq_true h
theorem rd_in {μ : nwM} {k n : Nat} {i v : Int32} (h : rd_ μ k n i = some v) : vp_in i n ∧ v = μ k i.toNatClampNeg := by
  unfold rd_ at h
  split at h
  · rename_i q; cases h; exact ⟨inb_in q, rfl⟩
  · cases h
theorem wr_in {μ μ' : nwM} {k n : Nat} {i v : Int32} (h : wr_ μ k n i v = some μ') : vp_in i n ∧ μ' = up_ μ k i.toNatClampNeg v := by
  unfold wr_ at h
  split at h
  · rename_i q; cases h; exact ⟨inb_in q, rfl⟩
  · cases h
theorem wz_in {μ μ' : nwM} {k : Nat} {v : Int32} (h : wz_ μ k v = some μ') : (v = 0 ∨ v = 1) ∧ μ' = up_ μ k 0 v := by
  unfold wz_ at h
  split at h
  · rename_i q; cases h; exact ⟨q, rfl⟩
  · cases h
theorem zr_in {v v' : Int32} (h : zr_ v = some v') : (v = 0 ∨ v = 1) ∧ v' = v := by
  unfold zr_ at h
  split at h
  · rename_i q; cases h; exact ⟨q, rfl⟩
  · cases h
theorem dv_in {x y v : Int32} (h : dv_ x y = some v) : ¬ y = 0 ∧ x / y = v := by
  unfold dv_ at h
  split at h
  · cases h
  · rename_i q; cases h; exact ⟨q, rfl⟩
theorem rm_in {x y v : Int32} (h : rm_ x y = some v) : ¬ y = 0 ∧ x - x / y * y = v := by
  unfold rm_ at h
  split at h
  · cases h
  · rename_i q; cases h; exact ⟨q, rfl⟩
theorem zb_nar {v : Int32} (h : v = 0 ∨ v = 1) : narrow .boolean (.int v) = .int v := by
  rcases h with rfl | rfl <;> decide
theorem zb_fit {v : Int32} (h : v = 0 ∨ v = 1) : fits .boolean (.int v) = true := by
  rcases h with rfl | rfl <;> decide
/-! loops -/
def it_ {σ ρ : Type} (f : σ → Option (σ ⊕ ρ)) : Nat → σ → Option ρ
  | 0, _ => none
  | n + 1, s => match f s with
    | none => none
    | some (.inl s') => it_ f n s'
    | some (.inr r) => some r
theorem it_none {σ ρ : Type} {f : σ → Option (σ ⊕ ρ)} {n : Nat} {s : σ} (h : f s = none) : it_ f (n + 1) s = none := by
  simp only [it_, h]
theorem it_inl {σ ρ : Type} {f : σ → Option (σ ⊕ ρ)} {n : Nat} {s s' : σ} (h : f s = some (.inl s')) : it_ f (n + 1) s = it_ f n s' := by
  simp only [it_, h]
theorem it_inr {σ ρ : Type} {f : σ → Option (σ ⊕ ρ)} {n : Nat} {s : σ} {r : ρ} (h : f s = some (.inr r)) : it_ f (n + 1) s = some r := by
  simp only [it_, h]
theorem it_succ {σ ρ : Type} {f : σ → Option (σ ⊕ ρ)} : ∀ (n : Nat) (s : σ) (r : ρ), it_ f n s = some r → it_ f (n + 1) s = some r := by
  intro n
  induction n with
  | zero => intro s r h; cases h
  | succ n ih =>
    intro s r h
    cases hf : f s with
    | none => rw [it_none hf] at h; cases h
    | some x =>
      cases x with
      | inl s' => rw [it_inl hf] at h ⊢; exact ih s' r h
      | inr r' => rw [it_inr hf] at h ⊢; exact h
theorem it_le {σ ρ : Type} {f : σ → Option (σ ⊕ ρ)} {n k : Nat} {s : σ} {r : ρ} (h : it_ f n s = some r) (hk : n ≤ k) : it_ f k s = some r := by
  induction hk with
  | refl => exact h
  | step _ ih => exact it_succ _ _ _ ih
theorem it_det {σ ρ : Type} {f : σ → Option (σ ⊕ ρ)} {n k : Nat} {s : σ} {r r' : ρ} (h : it_ f n s = some r) (h' : it_ f k s = some r') : r = r' := by
  have h1 := it_le h (Nat.le_max_left n k)
  have h2 := it_le h' (Nat.le_max_right n k)
  exact Option.some.inj (h1.symm.trans h2)
/-- a loop, run till it ends; none if it doesn't -/
noncomputable def wh_ {σ ρ : Type} (f : σ → Option (σ ⊕ ρ)) (s : σ) : Option ρ :=
  @dite (Option ρ) (∃ n r, it_ f n s = some r) (Classical.propDecidable _) (fun h => some (Classical.choose (Classical.choose_spec h))) (fun _ => none)
theorem wh_of {σ ρ : Type} {f : σ → Option (σ ⊕ ρ)} {n : Nat} {s : σ} {r : ρ} (h : it_ f n s = some r) : wh_ f s = some r := by
  have hx : ∃ n r, it_ f n s = some r := ⟨n, r, h⟩
  unfold wh_
  rw [dif_pos hx]
  exact congrArg some (it_det (Classical.choose_spec (Classical.choose_spec hx)) h)
theorem wh_ex {σ ρ : Type} {f : σ → Option (σ ⊕ ρ)} {s : σ} {r : ρ} (h : wh_ f s = some r) : ∃ n, it_ f n s = some r := by
  unfold wh_ at h
  by_cases hx : ∃ n r, it_ f n s = some r
  · rw [dif_pos hx] at h
    have := Classical.choose_spec (Classical.choose_spec hx)
    rw [Option.some.inj h] at this
    exact ⟨_, this⟩
  · rw [dif_neg hx] at h
    cases h
theorem wh_inl {σ ρ : Type} {f : σ → Option (σ ⊕ ρ)} {s s' : σ} {r : ρ} (h : f s = some (.inl s')) (k : wh_ f s' = some r) : wh_ f s = some r := by
  obtain ⟨n, hn⟩ := wh_ex k
  exact wh_of (n := n + 1) (by rw [it_inl h]; exact hn)
theorem wh_inr {σ ρ : Type} {f : σ → Option (σ ⊕ ρ)} {s : σ} {r : ρ} (h : f s = some (.inr r)) : wh_ f s = some r :=
  wh_of (n := 1) (it_inr h)
theorem wh_run {σ ρ : Type} {f : σ → Option (σ ⊕ ρ)} {P : σ → Prop} {PE : ρ → Prop} (step : ∀ s x, f s = some x → Sum.elim P PE x → P s) {s : σ} {r : ρ} (h : wh_ f s = some r) (hr : PE r) : P s := by
  obtain ⟨n, hn⟩ := wh_ex h
  clear h
  induction n generalizing s with
  | zero => cases hn
  | succ n ih =>
    cases hf : f s with
    | none => rw [it_none hf] at hn; cases hn
    | some x =>
      cases x with
      | inl s' => rw [it_inl hf] at hn; exact step s _ hf (ih hn)
      | inr r' => rw [it_inr hf] at hn; cases hn; exact step s _ hf hr
/-- a loop with an invariant and a measure -/
theorem wh_inv {σ ρ : Type} {f : σ → Option (σ ⊕ ρ)} (I : σ → Prop) (F : ρ → Prop) (μ : σ → Nat) (step : ∀ s, I s → (∃ s', f s = some (.inl s') ∧ I s' ∧ μ s' < μ s) ∨ (∃ r, f s = some (.inr r) ∧ F r)) {s : σ} (h : I s) : ∃ r, wh_ f s = some r ∧ F r := by
  generalize hn : μ s = n
  induction n using Nat.strongRecOn generalizing s with
  | _ n ih =>
    rcases step s h with ⟨s', h1, h2, h3⟩ | ⟨r, h1, h2⟩
    · obtain ⟨r, e, hF⟩ := ih (μ s') (by omega) h2 rfl
      exact ⟨r, wh_inl h1 e, hF⟩
    · exact ⟨r, wh_inr h1, h2⟩
/-- a loop that counts from a to b -/
theorem wh_for {σ ρ : Type} {f : σ → Option (σ ⊕ ρ)} (st : Nat → σ) (a b : Nat) (hab : a ≤ b) {r : ρ} (step : ∀ i, a ≤ i → i < b → f (st i) = some (.inl (st (i + 1)))) (fin : f (st b) = some (.inr r)) : wh_ f (st a) = some r := by
  generalize hn : b - a = n
  induction n generalizing a with
  | zero =>
    have : a = b := by omega
    subst this
    exact wh_inr fin
  | succ n ih => exact wh_inl (step a (Nat.le_refl _) (by omega)) (ih (a + 1) (by omega) (fun i h1 h2 => step i (by omega) h2) (by omega))
/-! pictures: sh says which cells there are (objects: class, fields; arrays: type, length), V what they hold -/
abbrev nwS : Type := Nat → Option ((Nat × Nat) ⊕ (Nat × Nat))
def nwCl : List vw_C := [(RX0, TX0, 13), (RX1, TX1, 23), (RX2, TX2, 49), (RX3, TX3, 7), (RX4, TX4, 8), (RX6, TX6, 1), (RX7, TX7, 1), (RX8, TX8, 3), (RX9, TX9, 1), (RX10, TX10, 3), (RX11, TX11, 3), (RX13, TX13, 3), (RX14, TX14, 5), (RX16, TX16, 2), (RX17, TX17, 3), (RX18, TX18, 3), (RJ2, TJ2, 3)]
def nwT (dT : Nat → ClassId) : List (ClassId × FieldType) := [(dT 0, .int), (dT 1, .byte), (dT 2, .array .int), (dT 3, .object "NamesWeather$Skies"), (dT 4, .object "java/lang/Object")]
def GP (D : va_G) (dT : Nat → ClassId) (sh : nwS) (V : Nat → Nat → Value) (H : Heap) : Prop :=
  (∀ a ci N, sh a = some (.inl (ci, N)) → t_OB a (D.1 ci) N (D.2 ci) H (V a)) ∧ ∀ a t n, sh a = some (.inr (t, n)) → H[a]? = some (arrV (dT t) n (V a))
theorem GP.lt {D : va_G} {dT : Nat → ClassId} {sh : nwS} {V : Nat → Nat → Value} {H : Heap} (h : GP D dT sh V H) {a : Nat} (ha : sh a ≠ none) : a < H.size := by
  cases hs : sh a with
  | none => exact absurd hs ha
  | some x =>
    cases x with
    | inl q =>
      obtain ⟨cell, h1, -⟩ := h.1 a q.1 q.2 hs
      exact (Array.getElem?_eq_some_iff.mp h1).1
    | inr q => exact (Array.getElem?_eq_some_iff.mp (h.2 a q.1 q.2 hs)).1
/-- another content, the same where it counts -/
theorem GP.to {D : va_G} {dT : Nat → ClassId} {sh sh' : nwS} {V V' : Nat → Nat → Value} {H : Heap} (h : GP D dT sh V H) (hs : ∀ a, sh' a ≠ none → sh a = sh' a) (hv : ∀ a ci N k, sh' a = some (.inl (ci, N)) → k < N → V a k = V' a k) (hw : ∀ a t n k, sh' a = some (.inr (t, n)) → k < n → V a k = V' a k) : GP D dT sh' V' H := by
  refine ⟨fun a ci N e => ?_, fun a t n e => ?_⟩
  · exact (h.1 a ci N (by rw [hs a (by rw [e]; exact fun z => by cases z)]; exact e)).to (fun k hk => hv a ci N k e hk)
  · rw [h.2 a t n (by rw [hs a (by rw [e]; exact fun z => by cases z)]; exact e)]
    refine congrArg some ?_
    unfold arrV
    congr 2
    funext j
    exact hw a t n j.val e j.isLt
theorem GP.kept {D : va_G} {dT : Nat → ClassId} {sh : nwS} {V : Nat → Nat → Value} {H H1 : Heap} (h : GP D dT sh V H) (hq : ∀ a, sh a ≠ none → H1[a]? = H[a]?) : GP D dT sh V H1 := by
  refine ⟨fun a ci N e => (h.1 a ci N e).kept (hq a (by rw [e]; exact fun z => by cases z)), fun a t n e => ?_⟩
  rw [hq a (by rw [e]; exact fun z => by cases z)]
  exact h.2 a t n e
/-- one cell's content changes -/
def upV (V : Nat → Nat → Value) (a : Nat) (f : Nat → Value) : Nat → Nat → Value := fun b => if b = a then f else V b
theorem upV_self (V : Nat → Nat → Value) (a : Nat) (f : Nat → Value) : upV V a f a = f := if_pos rfl
theorem upV_ne {V : Nat → Nat → Value} {a b : Nat} {f : Nat → Value} (h : b ≠ a) : upV V a f b = V b := if_neg h
theorem GP.putO {D : va_G} {dT : Nat → ClassId} {sh : nwS} {V : Nat → Nat → Value} {H H1 : Heap} {a ci N : Nat} {f : Nat → Value} (h : GP D dT sh V H) (hs : sh a = some (.inl (ci, N))) (h1 : t_OB a (D.1 ci) N (D.2 ci) H1 f) (oq : ∀ q, q ≠ a → H1[q]? = H[q]?) : GP D dT sh (upV V a f) H1 := by
  refine ⟨fun b cj M e => ?_, fun b t n e => ?_⟩
  · by_cases hb : b = a
    · subst hb
      rw [hs] at e
      cases e
      rw [upV_self]
      exact h1
    · rw [upV_ne hb]
      exact (h.1 b cj M e).kept (oq b hb)
  · have hb : b ≠ a := fun z => by subst z; rw [hs] at e; cases e
    rw [upV_ne hb, oq b hb]
    exact h.2 b t n e
theorem GP.putA {D : va_G} {dT : Nat → ClassId} {sh : nwS} {V : Nat → Nat → Value} {H H1 : Heap} {a t n : Nat} {f : Nat → Value} (h : GP D dT sh V H) (hs : sh a = some (.inr (t, n))) (h1 : H1[a]? = some (arrV (dT t) n f)) (oq : ∀ q, q ≠ a → H1[q]? = H[q]?) : GP D dT sh (upV V a f) H1 := by
  refine ⟨fun b cj M e => ?_, fun b t' n' e => ?_⟩
  · have hb : b ≠ a := fun z => by subst z; rw [hs] at e; cases e
    rw [upV_ne hb]
    exact (h.1 b cj M e).kept (oq b hb)
  · by_cases hb : b = a
    · subst hb
      rw [hs] at e
      cases e
      rw [upV_self]
      exact h1
    · rw [upV_ne hb, oq b hb]
      exact h.2 b t' n' e
def rmd (d : Nat) : Room := { frames := d, cells := 0, slots := 0, locals := 64 * d }
theorem rmd_ok {d d' L : Nat} (h : d' < d) (hL : L ≤ 45) : (rmd d').frames + 1 ≤ (rmd d).frames ∧ 8 + (L + 11) + (rmd d').locals ≤ (rmd d).locals := by
  show d' + 1 ≤ d ∧ 8 + (L + 11) + 64 * d' ≤ 64 * d
  omega
section NWROWS
variable {p : Program} {l : Launch} {e : Env} {R : Room} {s : State} {m : MethodId} {args : Array Value} {below : List Frame} {meth : Method} {c : Code} {H : Heap} {locs : List Loc} {cells slots : Nat} {Q : State → Prop}
variable {cc : ByteArray} {pc nL : Nat} {ls : Array Slot} {rest : List Value} {D : va_G} {dT : Nat → ClassId} {A : Nat → Prop} {H0 : Heap} {own : String} {sh : nwS} {V : Nat → Nat → Value}
theorem lv_nm {x y : Int32} (h : x = y) (k : W p l e R s m args below meth c H locs cells slots Q (F0 m pc ls (.int y :: rest))) : W p l e R s m args below meth c H locs cells slots Q (F0 m pc ls (.int x :: rest)) := by subst h; exact k
theorem gp_get (E : CallFix p m c cc nL s args lw_all own) (hK : va_K D nwCl (nwT dT) s) (hG : GP D dT sh V H) {a ci N index : Nat} {C ref : String} {T : u_T} (hs : sh a = some (.inl (ci, N))) (hc : nwCl[ci]? = some (C, T, N)) (hin : ∀ w ∈ u_ws C T N, w ∈ lw_all) (k : Nat) (hk : k < N) (hlink : (Cond.fieldLink own index ref (T k).2.1 (T k).2.2.1).before args s = true) (hsame : ∀ x, s.fieldFound? (T k).1 (T k).2.1 (T k).2.2.1 = some x → s.fieldFound? ref (T k).2.1 (T k).2.2.1 = some x) {v : Value} (hv : V a k = v) (hdg : decode cc pc = .ok (.getfield index, 3))
    (kk : W p l e R s m args below meth c H locs cells slots Q (F0 m (pc + 3) ls (v :: rest))) : W p l e R s m args below meth c H locs cells slots Q (F0 m pc ls (.ref a :: rest)) := by
  obtain ⟨hexec, hb, -, hown, hts⟩ := E
  obtain ⟨cell, q1, q2, q3, q4⟩ := hG.1 a ci N hs
  obtain ⟨hS, hfc, kC, hkC, hkind⟩ := hK.1 ci _ hc
  obtain ⟨cf, kf, fi, f, hi, hsl⟩ := hS k hk
  refine W.getf hexec hb hown hlink (hsame _ hi) (u_facts hfc hkC (u_lays hts hin hk) hi).1 q1 (by rw [q3]; exact fun h => by cases h) (v := v) ?_ rfl rfl hdg kk
  rw [hsl, q4 k hk, hv]
theorem gp_getN (E : CallFix p m c cc nL s args lw_all own) (hK : va_K D nwCl (nwT dT) s) (hG : GP D dT sh V H) {a ci N index : Nat} {C ref host : String} {T : u_T} (hs : sh a = some (.inl (ci, N))) (hc : nwCl[ci]? = some (C, T, N)) (hin : ∀ w ∈ u_ws C T N, w ∈ lw_all) (k : Nat) (hk : k < N) (hlink : (Cond.fieldLinkNest own index ref (T k).2.1 (T k).2.2.1 host).before args s = true) (hsame : ∀ x, s.fieldFound? (T k).1 (T k).2.1 (T k).2.2.1 = some x → s.fieldFound? ref (T k).2.1 (T k).2.2.1 = some x) {v : Value} (hv : V a k = v) (hdg : decode cc pc = .ok (.getfield index, 3))
    (kk : W p l e R s m args below meth c H locs cells slots Q (F0 m (pc + 3) ls (v :: rest))) : W p l e R s m args below meth c H locs cells slots Q (F0 m pc ls (.ref a :: rest)) := by
  obtain ⟨hexec, hb, -, hown, hts⟩ := E
  obtain ⟨cell, q1, q2, q3, q4⟩ := hG.1 a ci N hs
  obtain ⟨hS, hfc, kC, hkC, hkind⟩ := hK.1 ci _ hc
  obtain ⟨cf, kf, fi, f, hi, hsl⟩ := hS k hk
  refine va_Wgetf hexec hb hown hlink (hsame _ hi) (u_facts hfc hkC (u_lays hts hin hk) hi).1 q1 (by rw [q3]; exact fun h => by cases h) (v := v) ?_ rfl rfl hdg kk
  rw [hsl, q4 k hk, hv]
theorem gp_put (E : CallFix p m c cc nL s args lw_all own) (hK : va_K D nwCl (nwT dT) s) (hG : GP D dT sh V H) (hS0 : va_S A H0 H locs) {a ci N index : Nat} {C ref : String} {T : u_T} (hA : A a) (hs : sh a = some (.inl (ci, N))) (hc : nwCl[ci]? = some (C, T, N)) (hin : ∀ w ∈ u_ws C T N, w ∈ lw_all) (ty0 : Nat → FieldType) (hty : ∀ k, k < N → parseFieldDescriptor (T k).2.2.1 = some (ty0 k)) (hnm : ∀ a, a < N → ∀ b, b < N → a ≠ b → (T a).2.1 ≠ (T b).2.1) (k : Nat) (hk : k < N) (hlink : (Cond.fieldLink own index ref (T k).2.1 (T k).2.2.1).before args s = true) (hsame : ∀ x, s.fieldFound? (T k).1 (T k).2.1 (T k).2.2.1 = some x → s.fieldFound? ref (T k).2.1 (T k).2.2.1 = some x) (hfin : (T k).2.2.2 = false) {ty : FieldType} {v : Value} (hd : parseFieldDescriptor (T k).2.2.1 = some ty) (hn : narrow ty v = v) (hfit : fits ty v = true) (hdg : decode cc pc = .ok (.putfield index, 3))
    (kk : ∀ (H1 : Heap) (locs1 : List Loc), GP D dT sh (upV V a (updV (V a) k v)) H1 → (∀ q, q ≠ a → H1[q]? = H[q]?) → va_S A H0 H1 locs1 → W p l e R s m args below meth c H1 locs1 cells slots Q (F0 m (pc + 3) ls rest)) : W p l e R s m args below meth c H locs cells slots Q (F0 m pc ls (v :: .ref a :: rest)) := by
  obtain ⟨hexec, hb, -, hown, hts⟩ := E
  have hap := va_apart (own := own) hts hin ty0 hty hnm hK hc
  obtain ⟨cell, q1, q2, q3, q4⟩ := hG.1 a ci N hs
  obtain ⟨hS, hfc, kC, hkC, hkind⟩ := hK.1 ci _ hc
  obtain ⟨cf, kf, fi, f, hi, hsl⟩ := hS k hk
  have hlay := hts _ (hin _ (u_in_lay hk))
  unfold u_lay at hlay
  rw [if_neg (by rw [hfin]; decide)] at hlay
  have hst := (u_facts hfc hkC (u_lays hts hin hk) hi).1
  have h6 := u_store hfc hkC hkind hlay hi hd hn hfit
  refine W.putK hexec hb (f := f) ⟨hown, hlink, ⟨_, _, _, hsame _ hi⟩, hst⟩ (by rw [q2]; exact h6) q1 q3 (by rw [hsl]; exact k2_hasslot (q4 k hk)) rfl rfl hdg fun H' e1 e2 e3 => ?_
  rw [hsl] at e1 ⊢
  exact kk H' _ (hG.putO hs ⟨_, e1, q2, q3, t_set q4 hap hk v⟩ e3) e3 (hS0.put e2 e3 hA)
theorem gp_putN (E : CallFix p m c cc nL s args lw_all own) (hK : va_K D nwCl (nwT dT) s) (hG : GP D dT sh V H) (hS0 : va_S A H0 H locs) {a ci N index : Nat} {C ref host : String} {T : u_T} (hA : A a) (hs : sh a = some (.inl (ci, N))) (hc : nwCl[ci]? = some (C, T, N)) (hin : ∀ w ∈ u_ws C T N, w ∈ lw_all) (ty0 : Nat → FieldType) (hty : ∀ k, k < N → parseFieldDescriptor (T k).2.2.1 = some (ty0 k)) (hnm : ∀ a, a < N → ∀ b, b < N → a ≠ b → (T a).2.1 ≠ (T b).2.1) (k : Nat) (hk : k < N) (hlink : (Cond.fieldLinkNest own index ref (T k).2.1 (T k).2.2.1 host).before args s = true) (hsame : ∀ x, s.fieldFound? (T k).1 (T k).2.1 (T k).2.2.1 = some x → s.fieldFound? ref (T k).2.1 (T k).2.2.1 = some x) (hfin : (T k).2.2.2 = false) {ty : FieldType} {v : Value} (hd : parseFieldDescriptor (T k).2.2.1 = some ty) (hn : narrow ty v = v) (hfit : fits ty v = true) (hdg : decode cc pc = .ok (.putfield index, 3))
    (kk : ∀ (H1 : Heap) (locs1 : List Loc), GP D dT sh (upV V a (updV (V a) k v)) H1 → (∀ q, q ≠ a → H1[q]? = H[q]?) → va_S A H0 H1 locs1 → W p l e R s m args below meth c H1 locs1 cells slots Q (F0 m (pc + 3) ls rest)) : W p l e R s m args below meth c H locs cells slots Q (F0 m pc ls (v :: .ref a :: rest)) := by
  obtain ⟨hexec, hb, -, hown, hts⟩ := E
  have hap := va_apart (own := own) hts hin ty0 hty hnm hK hc
  obtain ⟨cell, q1, q2, q3, q4⟩ := hG.1 a ci N hs
  obtain ⟨hS, hfc, kC, hkC, hkind⟩ := hK.1 ci _ hc
  obtain ⟨cf, kf, fi, f, hi, hsl⟩ := hS k hk
  have hlay := hts _ (hin _ (u_in_lay hk))
  unfold u_lay at hlay
  rw [if_neg (by rw [hfin]; decide)] at hlay
  have hst := (u_facts hfc hkC (u_lays hts hin hk) hi).1
  have h6 := u_store hfc hkC hkind hlay hi hd hn hfit
  refine va_WputK hexec hb (f := f) hown hlink (hsame _ hi) hst (by rw [q2]; exact h6) q1 q3 (by rw [hsl]; exact k2_hasslot (q4 k hk)) rfl rfl hdg fun H' e1 e2 e3 => ?_
  rw [hsl] at e1 ⊢
  exact kk H' _ (hG.putO hs ⟨_, e1, q2, q3, t_set q4 hap hk v⟩ e3) e3 (hS0.put e2 e3 hA)
theorem gp_iald (E : CallFix p m c cc nL s args lw_all own) (hK : va_K D nwCl (nwT dT) s) (hG : GP D dT sh V H) {a n : Nat} (hs : sh a = some (.inr (0, n))) {i : Int32} (hin : vp_in i n) {v : Value} (hv : V a i.toNatClampNeg = v) (hdg : decode cc pc = .ok (.iaload, 1))
    (kk : W p l e R s m args below meth c H locs cells slots Q (F0 m (pc + 1) ls (v :: rest))) : W p l e R s m args below meth c H locs cells slots Q (F0 m pc ls (.int i :: .ref a :: rest)) := by
  have hlt : i.toNatClampNeg < n := Nat.not_le.mp fun q => hin (Or.inr q)
  exact W.iald (v := v) E.1 E.2.1 (hG.2 a 0 n hs) ((hK.2 0 (dT 0, .int) rfl).1 n (V a)) (fun q => by cases q) (by show ¬ (i < 0 ∨ (arrV _ _ _).slots.size ≤ _); rw [arrV_size]; exact hin) (by show (arrV _ _ _).slots[_]? = _; rw [arrV_read _ _ hlt, hv]) rfl rfl hdg kk
theorem gp_bald (E : CallFix p m c cc nL s args lw_all own) (hK : va_K D nwCl (nwT dT) s) (hG : GP D dT sh V H) {a n : Nat} (hs : sh a = some (.inr (1, n))) {i : Int32} (hin : vp_in i n) {v : Value} (hv : V a i.toNatClampNeg = v) (hdg : decode cc pc = .ok (.baload, 1))
    (kk : W p l e R s m args below meth c H locs cells slots Q (F0 m (pc + 1) ls (v :: rest))) : W p l e R s m args below meth c H locs cells slots Q (F0 m pc ls (.int i :: .ref a :: rest)) := by
  have hlt : i.toNatClampNeg < n := Nat.not_le.mp fun q => hin (Or.inr q)
  exact W.bald (v := v) E.1 E.2.1 (hG.2 a 1 n hs) ((hK.2 1 (dT 1, .byte) rfl).1 n (V a)) (fun q => by cases q) (by show ¬ (i < 0 ∨ (arrV _ _ _).slots.size ≤ _); rw [arrV_size]; exact hin) (by show (arrV _ _ _).slots[_]? = _; rw [arrV_read _ _ hlt, hv]) rfl rfl hdg kk
theorem gp_iast (E : CallFix p m c cc nL s args lw_all own) (hK : va_K D nwCl (nwT dT) s) (hG : GP D dT sh V H) (hS : va_S A H0 H locs) {a n : Nat} (hA : A a) (hs : sh a = some (.inr (0, n))) {i x : Int32} (hin : vp_in i n) (hdg : decode cc pc = .ok (.iastore, 1))
    (kk : ∀ (H1 : Heap) (locs1 : List Loc), GP D dT sh (upV V a (updV (V a) i.toNatClampNeg (.int x))) H1 → (∀ q, q ≠ a → H1[q]? = H[q]?) → va_S A H0 H1 locs1 → W p l e R s m args below meth c H1 locs1 cells slots Q (F0 m (pc + 1) ls rest)) : W p l e R s m args below meth c H locs cells slots Q (F0 m pc ls (.int x :: .int i :: .ref a :: rest)) := by
  refine W.iast E.1 E.2.1 (hG.2 a 0 n hs) ((hK.2 0 (dT 0, .int) rfl).1 n (V a)) (fun q => by cases q) (by show ¬ (i < 0 ∨ (arrV _ _ _).slots.size ≤ _); rw [arrV_size]; exact hin) rfl rfl hdg fun H1 e z oq => ?_
  refine kk H1 _ (hG.putA hs ?_ oq) oq (hS.put z oq hA)
  rw [e, arrV_store]
theorem gp_bast (E : CallFix p m c cc nL s args lw_all own) (hK : va_K D nwCl (nwT dT) s) (hG : GP D dT sh V H) (hS : va_S A H0 H locs) {a n : Nat} (hA : A a) (hs : sh a = some (.inr (1, n))) {i x : Int32} (hin : vp_in i n) (hdg : decode cc pc = .ok (.bastore, 1))
    (kk : ∀ (H1 : Heap) (locs1 : List Loc), GP D dT sh (upV V a (updV (V a) i.toNatClampNeg (.int x.toInt8.toInt32))) H1 → (∀ q, q ≠ a → H1[q]? = H[q]?) → va_S A H0 H1 locs1 → W p l e R s m args below meth c H1 locs1 cells slots Q (F0 m (pc + 1) ls rest)) : W p l e R s m args below meth c H locs cells slots Q (F0 m pc ls (.int x :: .int i :: .ref a :: rest)) := by
  refine W.bast E.1 E.2.1 (hG.2 a 1 n hs) ((hK.2 1 (dT 1, .byte) rfl).1 n (V a)) (fun q => by cases q) (by show ¬ (i < 0 ∨ (arrV _ _ _).slots.size ≤ _); rw [arrV_size]; exact hin) rfl rfl hdg fun H1 e z oq => ?_
  refine kk H1 _ (hG.putA hs ?_ oq) oq (hS.put z oq hA)
  rw [e, narrow_byte, arrV_store]
theorem gp_aald (E : CallFix p m c cc nL s args lw_all own) (hK : va_K D nwCl (nwT dT) s) (hG : GP D dT sh V H) {a n t : Nat} {ty : FieldType} (ht : (nwT dT)[t]? = some (dT t, ty)) (hr : ty.isReference = true) (hs : sh a = some (.inr (t, n))) {i : Int32} (hin : vp_in i n) {v : Value} (hv : V a i.toNatClampNeg = v) (hdg : decode cc pc = .ok (.aaload, 1))
    (kk : W p l e R s m args below meth c H locs cells slots Q (F0 m (pc + 1) ls (v :: rest))) : W p l e R s m args below meth c H locs cells slots Q (F0 m pc ls (.int i :: .ref a :: rest)) := by
  have hlt : i.toNatClampNeg < n := Nat.not_le.mp fun q => hin (Or.inr q)
  exact W.aald (v := v) (ty := ty) E.1 E.2.1 (hG.2 a t n hs) ((hK.2 t (dT t, ty) ht).1 n (V a)) hr (fun q => by cases q) (by show ¬ (i < 0 ∨ (arrV _ _ _).slots.size ≤ _); rw [arrV_size]; exact hin) (by show (arrV _ _ _).slots[_]? = _; rw [arrV_read _ _ hlt, hv]) rfl rfl hdg kk
end NWROWS
