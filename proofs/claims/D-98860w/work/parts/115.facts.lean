/-! 115: things that the Reader makes, kept while it goes on -/
set_option maxRecDepth 100000
/-- not among the new cells, or one that is being filled -/
def fz (sz : Nat) (L : List Nat) : Nat → Prop := fun q => q < sz ∨ q ∈ L
/-- all but the cell x stays as it was -/
def KP (x : Nat) (H H1 : Heap) : Prop := ∀ q, q < H.size → q ≠ x → H1[q]? = H[q]?
theorem kp_put {x : Nat} {H H1 : Heap} (h : ∀ q, q ≠ x → H1[q]? = H[q]?) : KP x H H1 := fun q _ z => h q z
theorem kp_call {a : Nat} {H H1 : Heap} (h : ∀ q, q < H.size → ¬ nA a H.size q → H1[q]? = H[q]?) : KP a H H1 := fun q h1 z => h q h1 (fun y => y.elim z (fun e => absurd h1 (Nat.not_lt.mpr e)))
theorem kp_call0 {a : Nat} {H H1 : Heap} (h : ∀ q, q < H.size → ¬ rA a q → H1[q]? = H[q]?) : KP a H H1 := fun q h1 z => h q h1 z
theorem kp_init {a : Nat} {H H1 : Heap} (h : ∀ q, q < H.size → ¬ eqA a q → H1[q]? = H[q]?) : KP a H H1 := fun q h1 z => h q h1 z
theorem kp_pure {a : Nat} {H H1 : Heap} (h : ∀ q, q < H.size → H1[q]? = H[q]?) : KP a H H1 := fun q h1 _ => h q h1
theorem kp_pureF {a : Nat} {H H1 : Heap} (h : ∀ q, q < H.size → ¬ False → H1[q]? = H[q]?) : KP a H H1 := fun q h1 _ => h q h1 (fun z => z)
section FACTS
variable {D : va_G} {dT : Nat → ClassId} {sz x q a g : Nat} {L : List Nat} {H H1 : Heap} {Nn : Nat → Prop}
theorem RD_kp {r : nwM} (hP : RD D a g r H) (hk : KP x H H1) (h : a ≠ x) : RD D a g r H1 := by
  obtain ⟨cell, h1, h2⟩ := hP
  exact ⟨cell, by rw [hk a (Array.getElem?_eq_some_iff.mp h1).1 h]; exact h1, h2⟩
theorem RD_lt {r : nwM} (hP : RD D a g r H) : a < H.size := by
  obtain ⟨cell, h1, -⟩ := hP
  exact (Array.getElem?_eq_some_iff.mp h1).1
theorem oF_kp {ci N : Nat} {vs : List Value} (h : oF D ci N vs q H) (hk : KP x H H1) (hn : q ≠ x) : oF D ci N vs q H1 := h.same (hk q h.lt hn)
theorem FB_kp (h : FB D q H) (hk : KP x H H1) (hn : q ≠ x) : FB D q H1 := by
  obtain ⟨cell, h1, h2⟩ := h
  exact ⟨cell, by rw [hk q (Array.getElem?_eq_some_iff.mp h1).1 hn]; exact h1, h2⟩
theorem FB_lt (h : FB D q H) : q < H.size := by
  obtain ⟨cell, h1, -⟩ := h
  exact (Array.getElem?_eq_some_iff.mp h1).1
theorem oO_kp {ci N : Nat} {vs : List Value} (hk : ∀ q, q < H.size → ¬ Nn q → H1[q]? = H[q]?) (h : oO D ci N vs Nn q H) : oO D ci N vs Nn q H1 := by
  obtain ⟨h1, cell, h2, h3⟩ := h
  exact ⟨h1, cell, by rw [hk q (Array.getElem?_eq_some_iff.mp h2).1 h1]; exact h2, h3⟩
theorem oO_fr {ci N : Nat} {vs : List Value} (hx : H.size ≤ x) (h : oO D ci N vs Nn q H) : oO D ci N vs (fun z => Nn z ∨ z = x) q H := by
  obtain ⟨h1, cell, h2, h3⟩ := h
  refine ⟨fun z => z.elim h1 (fun e => ?_), cell, h2, h3⟩
  have := (Array.getElem?_eq_some_iff.mp h2).1
  omega
theorem TR_kp (hk : ∀ q, q < H.size → ¬ Nn q → H1[q]? = H[q]?) : ∀ (d : Nat) (T : nwTm) (b : Nat), TR D d T Nn b H → TR D d T Nn b H1 := by
  intro d
  induction d with
  | zero => intro T b h; exact h
  | succ d ih =>
    intro T b h
    rcases h with ⟨c, h1, h2⟩ | ⟨w, h1, h2⟩ | ⟨t, T1, h1, h2, h3⟩ | ⟨u, y, how, T1, T2, h1, h2, h3, h4⟩
    · exact Or.inl ⟨c, oO_kp hk h1, h2⟩
    · exact Or.inr (Or.inl ⟨w, oO_kp hk h1, h2⟩)
    · exact Or.inr (Or.inr (Or.inl ⟨t, T1, oO_kp hk h1, ih _ _ h2, h3⟩))
    · exact Or.inr (Or.inr (Or.inr ⟨u, y, how, T1, T2, oO_kp hk h1, ih _ _ h2, ih _ _ h3, h4⟩))
theorem TR_fr (hx : H.size ≤ x) : ∀ (d : Nat) (T : nwTm) (b : Nat), TR D d T Nn b H → TR D d T (fun z => Nn z ∨ z = x) b H := by
  intro d
  induction d with
  | zero => intro T b h; exact h
  | succ d ih =>
    intro T b h
    rcases h with ⟨c, h1, h2⟩ | ⟨w, h1, h2⟩ | ⟨t, T1, h1, h2, h3⟩ | ⟨u, y, how, T1, T2, h1, h2, h3, h4⟩
    · exact Or.inl ⟨c, oO_fr hx h1, h2⟩
    · exact Or.inr (Or.inl ⟨w, oO_fr hx h1, h2⟩)
    · exact Or.inr (Or.inr (Or.inl ⟨t, T1, oO_fr hx h1, ih _ _ h2, h3⟩))
    · exact Or.inr (Or.inr (Or.inr ⟨u, y, how, T1, T2, oO_fr hx h1, ih _ _ h2, ih _ _ h3, h4⟩))
theorem TR_up1 : ∀ (d : Nat) (T : nwTm) (b : Nat), TR D d T Nn b H → TR D (d + 1) T Nn b H := by
  intro d
  induction d with
  | zero => intro T b h; exact h.elim
  | succ d ih =>
    intro T b h
    rcases h with ⟨c, h1, h2⟩ | ⟨w, h1, h2⟩ | ⟨t, T1, h1, h2, h3⟩ | ⟨u, y, how, T1, T2, h1, h2, h3, h4⟩
    · exact Or.inl ⟨c, h1, h2⟩
    · exact Or.inr (Or.inl ⟨w, h1, h2⟩)
    · exact Or.inr (Or.inr (Or.inl ⟨t, T1, h1, ih _ _ h2, h3⟩))
    · exact Or.inr (Or.inr (Or.inr ⟨u, y, how, T1, T2, h1, ih _ _ h2, ih _ _ h3, h4⟩))
theorem TR_up {d d' : Nat} (hd : d ≤ d') {T : nwTm} {b : Nat} (h : TR D d T Nn b H) : TR D d' T Nn b H := by
  induction hd with
  | refl => exact h
  | step _ ih => exact TR_up1 _ _ _ ih
end FACTS
/-- a term and how deep it is -/
abbrev nwT2 : Type := nwTm × Nat
def mkF (c : Int32) : nwT2 := ((fun _ => some c), 1)
noncomputable def mkK (w : Int32) : nwT2 := ((fun μ => fs_fact w μ), 1)
def mkN (t : nwT2) : nwT2 := ((fun μ => (t.1 μ).bind fun v => some (nI 1 - v)), t.2 + 1)
def mkJ (x : nwT2) (how : Int32) (y : nwT2) : nwT2 := ((fun μ => (x.1 μ).bind fun v => (y.1 μ).bind fun w => jn_ how v w), max x.2 y.2 + 1)
/-- what the Reader may hold: a thing P v, all of whose cells are new and not being filled -/
def nwK (α : Type) : Type := α → (Nat → Prop) → Nat → Heap → Prop
def PT (D : va_G) : nwT2 → (Nat → Prop) → Nat → Heap → Prop := fun v Nn b H => TR D v.2 v.1 Nn b H
/-- a line: its word, its terms -/
abbrev nwL2 : Type := Int32 × nwT2 × Option nwT2
def PL (D : va_G) : nwL2 → (Nat → Prop) → Nat → Heap → Prop := fun v Nn b H => ∃ ct, TR D v.2.1.2 v.2.1.1 Nn ct H ∧ ((v.2.2 = none ∧ oO D 9 3 [.int v.1, .ref ct, .null] Nn b H) ∨ ∃ t w, v.2.2 = some t ∧ TR D t.2 t.1 Nn w H ∧ oO D 9 3 [.int v.1, .ref ct, .ref w] Nn b H)
/-- P stays where no cell of it is written, goes to a weaker Nn, can be kept off a new cell -/
def gK {α : Type} (P : α → (Nat → Prop) → Nat → Heap → Prop) : Prop := (∀ v (Nn : Nat → Prop) b (H H1 : Heap), (∀ q, q < H.size → ¬ Nn q → H1[q]? = H[q]?) → P v Nn b H → P v Nn b H1) ∧ (∀ v (Nn N2 : Nat → Prop) b H, (∀ q, N2 q → Nn q) → P v Nn b H → P v N2 b H) ∧ ∀ v Nn b H x, H.size ≤ x → P v Nn b H → P v (fun z => Nn z ∨ z = x) b H
theorem gK_T (D : va_G) : gK (PT D) := ⟨fun v Nn b H H1 hk h => TR_kp hk _ _ _ h, fun v Nn N2 b H hA h => TR.weak hA _ _ _ h, fun v Nn b H x hx h => TR_fr hx _ _ _ h⟩
theorem gK_Q (D : va_G) : gK (oQu D) := ⟨fun v Nn b H H1 hk h => oO_kp hk h, fun v Nn N2 b H hA h => oO.weak h hA, fun v Nn b H x hx h => oO_fr hx h⟩
theorem gK_W (D : va_G) : gK (oWa D) := by
  refine ⟨fun v Nn b H H1 hk h => ?_, fun v Nn N2 b H hA h => oWa.weak h hA, fun v Nn b H x hx h => ?_⟩
  · rcases h with ⟨h1, h2, h3⟩ | ⟨h1, h2⟩
    · exact Or.inl ⟨h1, h2, oO_kp hk h3⟩
    · exact Or.inr ⟨h1, oO_kp hk h2⟩
  · rcases h with ⟨h1, h2, h3⟩ | ⟨h1, h2⟩
    · exact Or.inl ⟨h1, h2, oO_fr hx h3⟩
    · exact Or.inr ⟨h1, oO_fr hx h2⟩
theorem gK_D (D : va_G) : gK (oDe D) := by
  refine ⟨fun v Nn b H H1 hk h => ?_, fun v Nn N2 b H hA h => oDe.weak h hA, fun v Nn b H x hx h => ?_⟩
  · rcases h with ⟨h1, h2⟩ | ⟨h1, h2⟩ | ⟨h1, h2⟩
    · exact Or.inl ⟨h1, oO_kp hk h2⟩
    · exact Or.inr (Or.inl ⟨h1, oO_kp hk h2⟩)
    · exact Or.inr (Or.inr ⟨h1, oO_kp hk h2⟩)
  · rcases h with ⟨h1, h2⟩ | ⟨h1, h2⟩ | ⟨h1, h2⟩
    · exact Or.inl ⟨h1, oO_fr hx h2⟩
    · exact Or.inr (Or.inl ⟨h1, oO_fr hx h2⟩)
    · exact Or.inr (Or.inr ⟨h1, oO_fr hx h2⟩)
theorem gK_L (D : va_G) : gK (PL D) := by
  refine ⟨fun v Nn b H H1 hk h => ?_, fun v Nn N2 b H hA h => ?_, fun v Nn b H x hx h => ?_⟩
  · obtain ⟨ct, h1, h2⟩ := h
    refine ⟨ct, TR_kp hk _ _ _ h1, ?_⟩
    rcases h2 with ⟨h2, h3⟩ | ⟨t, w, h2, h3, h4⟩
    · exact Or.inl ⟨h2, oO_kp hk h3⟩
    · exact Or.inr ⟨t, w, h2, TR_kp hk _ _ _ h3, oO_kp hk h4⟩
  · obtain ⟨ct, h1, h2⟩ := h
    refine ⟨ct, TR.weak hA _ _ _ h1, ?_⟩
    rcases h2 with ⟨h2, h3⟩ | ⟨t, w, h2, h3, h4⟩
    · exact Or.inl ⟨h2, oO.weak h3 hA⟩
    · exact Or.inr ⟨t, w, h2, TR.weak hA _ _ _ h3, oO.weak h4 hA⟩
  · obtain ⟨ct, h1, h2⟩ := h
    refine ⟨ct, TR_fr hx _ _ _ h1, ?_⟩
    rcases h2 with ⟨h2, h3⟩ | ⟨t, w, h2, h3, h4⟩
    · exact Or.inl ⟨h2, oO_fr hx h3⟩
    · exact Or.inr ⟨t, w, h2, TR_fr hx _ _ _ h3, oO_fr hx h4⟩
section GK
variable {α : Type} {P : α → (Nat → Prop) → Nat → Heap → Prop} {v : α} {sz sz' x q b : Nat} {L : List Nat} {H H1 : Heap}
/-- the heap changes at x alone -/
theorem kpG (hg : gK P) (hx : fz sz L x) (hk : KP x H H1) (h : P v (fz sz L) b H) : P v (fz sz L) b H1 := hg.1 _ _ _ _ _ (fun q h1 h2 => hk q h1 (fun e => h2 (e ▸ hx))) h
/-- a new cell q is being filled from now on -/
theorem frG (hg : gK P) (hq : q = H.size) (h : P v (fz sz L) b H) : P v (fz sz (q :: L)) b H := hg.2.1 _ _ _ _ _ (fun z hz => by
  rcases hz with hz | hz
  · exact Or.inl (Or.inl hz)
  · rcases List.mem_cons.mp hz with e | e
    · exact Or.inr e
    · exact Or.inl (Or.inr e)) (hg.2.2 _ _ _ _ q (by omega) h)
/-- q is filled -/
theorem dropG (hg : gK P) (h : P v (fz sz (q :: L)) b H) : P v (fz sz L) b H := hg.2.1 _ _ _ _ _ (fun z hz => hz.imp id (List.mem_cons_of_mem _)) h
/-- what a call made is new for the caller too -/
theorem wkG (hg : gK P) (h1 : sz ≤ sz') (h2 : ∀ q ∈ L, q < sz') (h : P v (fz sz' []) b H) : P v (fz sz L) b H := hg.2.1 _ _ _ _ _ (fun z hz => Or.inl (hz.elim (fun e => by omega) (fun e => h2 z e))) h
end GK
theorem mkF_ok {D : va_G} {sz q : Nat} {L : List Nat} {H : Heap} {c : Int32} (h : oF D 5 1 [.int c] q H) (hq : ¬ fz sz L q) : PT D (mkF c) (fz sz L) q H := Or.inl ⟨c, ⟨hq, h⟩, rfl⟩
theorem mkK_ok {D : va_G} {sz q : Nat} {L : List Nat} {H : Heap} {c : Int32} (h : oF D 6 1 [.int c] q H) (hq : ¬ fz sz L q) : PT D (mkK c) (fz sz L) q H := Or.inr (Or.inl ⟨c, ⟨hq, h⟩, rfl⟩)
theorem mkN_ok {D : va_G} {sz q b : Nat} {L : List Nat} {H : Heap} {t : nwT2} (h : oF D 8 1 [.ref b] q H) (hq : ¬ fz sz L q) (ht : PT D t (fz sz L) b H) : PT D (mkN t) (fz sz L) q H := Or.inr (Or.inr (Or.inl ⟨b, t.1, ⟨hq, h⟩, ht, rfl⟩))
theorem mkJ_ok {D : va_G} {sz q b1 b2 : Nat} {L : List Nat} {H : Heap} {x y : nwT2} {how : Int32} (h : oF D 7 3 [.ref b1, .ref b2, .int how] q H) (hq : ¬ fz sz L q) (hx : PT D x (fz sz L) b1 H) (hy : PT D y (fz sz L) b2 H) : PT D (mkJ x how y) (fz sz L) q H := Or.inr (Or.inr (Or.inr ⟨b1, b2, how, x.1, y.1, ⟨hq, h⟩, TR_up (Nat.le_max_left _ _) hx, TR_up (Nat.le_max_right _ _) hy, rfl⟩))
theorem not_fz {sz q : Nat} {L : List Nat} (h1 : sz ≤ q) (h2 : q ∉ L) : ¬ fz sz L q := fun h => h.elim (fun e => by omega) h2
def RQ (D : va_G) (dT : Nat → ClassId) (a g : Nat) (ξ : nwM) (β : Nat → Nat) (σ : nwM) (ρ : Nat → Nat) (Z : nwZ) (sz : Nat) (r : nwM) (U : State) : Prop := RP D dT a g ξ β σ ρ Z r U ∧ U.heap.size = sz
section RQS
variable {D : va_G} {dT : Nat → ClassId} {a g : Nat} {ξ : nwM} {β : Nat → Nat} {σ : nwM} {ρ : Nat → Nat} {Z : nwZ} {r : nwM} {s : State} {H : Heap} {locs : List Loc} {A : Nat → Prop} {sz : Nat}
theorem RQ_bl : ∀ (U : State) (f : JFrame) (mk : MethodId) (x : Array Value), RQ D dT a g ξ β σ ρ Z sz r U → RQ D dT a g ξ β σ ρ Z sz r (U.calling f mk x) := fun U f mk x h => ⟨RP_bl U f mk x h.1, h.2⟩
theorem RQ_pre (hB : RB D dT a g ξ β σ ρ Z s) (hP : RD D a g r H) (hS : va_S A s.heap H locs) (hA : ∀ q, A q → q = a ∨ s.heap.size ≤ q) : ∀ U : State, U.heap = H → s.WarmedH U.vm → RQ D dT a g ξ β σ ρ Z H.size r U := fun U hU hW => ⟨RP_pre hB hP hS hA U hU hW, by rw [hU]⟩
theorem nA_le {q : Nat} (hz : s.heap.size = sz) (hS : s.heap.size ≤ H.size) (h : nA a H.size q) : nA a sz q := h.imp id (fun e => by omega)
end RQS
