/-! BASE 8: the picture of a NamesWeather at g: its own cells, nine Skies, their lists -/
set_option maxRecDepth 100000
/-- own fields; the nine Skies; which of them lie in back; their lists' addresses; their lists -/
abbrev nwX : Type := nwM × (Nat → nwM) × (Nat → Nat) × (Nat → Nat → Nat) × (Nat → nwL)
def skA (g j : Nat) : Nat := if j < 3 then g + 2 + 180 * j else g + 3 + 180 * j
def oA (g : Nat) : Nat → Prop := fun q => q = g ∨ q = g + 1 ∨ q = g + 542 ∨ (g + 1623 ≤ q ∧ q ≤ g + 1625)
def xA (g : Nat) : Nat → Prop := fun q => oA g q ∨ ∃ j, j < 9 ∧ sA (skA g j) q
def shO (g : Nat) : nwS := fun a => if a = g then some (.inl (0, 13)) else if a = g + 1 then some (.inr (1, 400)) else if a = g + 542 then some (.inr (3, 6)) else if g + 1623 ≤ a ∧ a ≤ g + 1625 then some (.inr (0, 12)) else none
def vO (g : Nat) (ξ : nwM) (β : Nat → Nat) : Nat → Nat → Value := fun a =>
  if a = g then (fun k => if k = 0 then .ref (g + 1) else if k = 4 then .ref (skA g 0) else if k = 5 then .ref (skA g 1) else if k = 6 then .ref (skA g 2) else if k = 7 then .ref (g + 542) else if 10 ≤ k then .ref (g + 1613 + k) else .int (ξ k 0))
  else if a = g + 1 then (fun j => .int (ξ 0 j)) else if a = g + 542 then (fun j => .ref (skA g (β j))) else fun j => .int (ξ (a - g - 1613) j)
def PX (D : va_G) (dT : Nat → ClassId) (g : Nat) (χ : nwX) (H : Heap) : Prop := GP D dT (shO g) (vO g χ.1 χ.2.2.1) H ∧ (∀ j, j < 9 → PS D dT (skA g j) (χ.2.1 j) (χ.2.2.2.1 j) H ∧ LR D dT (xA g) (χ.2.2.2.1 j) (χ.2.2.2.2 j) H) ∧ ∀ i, i < 6 → 3 ≤ χ.2.2.1 i ∧ χ.2.2.1 i < 9
theorem skA_ap {g i j q : Nat} (hi : i < 9) (hj : j < 9) (h1 : sA (skA g i) q) (h2 : sA (skA g j) q) : i = j := by
  unfold sA skA at h1 h2
  split at h1 <;> split at h2 <;> omega
theorem skA_oA {g j q : Nat} (hj : j < 9) (h1 : sA (skA g j) q) : ¬ oA g q := by
  unfold sA skA at h1
  unfold oA
  split at h1 <;> omega
theorem shO_in {g a : Nat} (h : shO g a ≠ none) : oA g a := by
  unfold shO at h
  unfold oA
  split at h
  · omega
  split at h
  · omega
  split at h
  · omega
  split at h
  · omega
  · exact absurd rfl h
theorem xA_o {g q : Nat} (h : oA g q) : xA g q := Or.inl h
theorem xA_s {g j q : Nat} (hj : j < 9) (h : sA (skA g j) q) : xA g q := Or.inr ⟨j, hj, h⟩
theorem shO_g (g : Nat) : shO g g = some (.inl (0, 13)) := if_pos rfl
theorem shO_t (g : Nat) : shO g (g + 1) = some (.inr (1, 400)) := by unfold shO; rw [if_neg (by omega), if_pos rfl]
theorem shO_b (g : Nat) : shO g (g + 542) = some (.inr (3, 6)) := by unfold shO; rw [if_neg (by omega), if_neg (by omega), if_pos rfl]
theorem shO_a {g k : Nat} (h1 : 10 ≤ k) (h2 : k < 13) : shO g (g + 1613 + k) = some (.inr (0, 12)) := by unfold shO; rw [if_neg (by omega), if_neg (by omega), if_neg (by omega), if_pos (by omega)]
theorem vO_i {g k : Nat} {ξ : nwM} {β : Nat → Nat} (h : k = 1 ∨ k = 2 ∨ k = 3 ∨ k = 8 ∨ k = 9) : vO g ξ β g k = .int (ξ k 0) := by
  unfold vO
  rw [if_pos rfl, if_neg (by omega), if_neg (by omega), if_neg (by omega), if_neg (by omega), if_neg (by omega), if_neg (by omega)]
theorem vO_0 {g : Nat} {ξ : nwM} {β : Nat → Nat} : vO g ξ β g 0 = .ref (g + 1) := by unfold vO; rw [if_pos rfl, if_pos rfl]
theorem vO_4 {g : Nat} {ξ : nwM} {β : Nat → Nat} : vO g ξ β g 4 = .ref (skA g 0) := by unfold vO; rw [if_pos rfl, if_neg (by omega), if_pos rfl]
theorem vO_5 {g : Nat} {ξ : nwM} {β : Nat → Nat} : vO g ξ β g 5 = .ref (skA g 1) := by unfold vO; rw [if_pos rfl, if_neg (by omega), if_neg (by omega), if_pos rfl]
theorem vO_6 {g : Nat} {ξ : nwM} {β : Nat → Nat} : vO g ξ β g 6 = .ref (skA g 2) := by unfold vO; rw [if_pos rfl, if_neg (by omega), if_neg (by omega), if_neg (by omega), if_pos rfl]
theorem vO_7 {g : Nat} {ξ : nwM} {β : Nat → Nat} : vO g ξ β g 7 = .ref (g + 542) := by unfold vO; rw [if_pos rfl, if_neg (by omega), if_neg (by omega), if_neg (by omega), if_neg (by omega), if_pos rfl]
theorem vO_a {g k : Nat} {ξ : nwM} {β : Nat → Nat} (h : 10 ≤ k) : vO g ξ β g k = .ref (g + 1613 + k) := by unfold vO; rw [if_pos rfl, if_neg (by omega), if_neg (by omega), if_neg (by omega), if_neg (by omega), if_neg (by omega), if_pos h]
theorem vO_te {g j : Nat} {ξ : nwM} {β : Nat → Nat} : vO g ξ β (g + 1) j = .int (ξ 0 j) := by unfold vO; rw [if_neg (by omega), if_pos rfl]
theorem vO_be {g j : Nat} {ξ : nwM} {β : Nat → Nat} : vO g ξ β (g + 542) j = .ref (skA g (β j)) := by unfold vO; rw [if_neg (by omega), if_neg (by omega), if_pos rfl]
theorem vO_ae {g k j : Nat} {ξ : nwM} {β : Nat → Nat} (h1 : 10 ≤ k) (h2 : k < 13) : vO g ξ β (g + 1613 + k) j = .int (ξ k j) := by unfold vO; rw [if_neg (by omega), if_neg (by omega), if_neg (by omega), show g + 1613 + k - g - 1613 = k by omega]
theorem shO_cases {g a : Nat} (h : shO g a ≠ none) : a = g ∨ a = g + 1 ∨ a = g + 542 ∨ ∃ k, 10 ≤ k ∧ k < 13 ∧ a = g + 1613 + k := by
  rcases shO_in h with h | h | h | h
  · exact Or.inl h
  · exact Or.inr (Or.inl h)
  · exact Or.inr (Or.inr (Or.inl h))
  · exact Or.inr (Or.inr (Or.inr ⟨a - g - 1613, by omega, by omega, by omega⟩))
/-- the own cells, told anew -/
theorem PO_of {D : va_G} {dT : Nat → ClassId} {g : Nat} {ξ : nwM} {β : Nat → Nat} {V : Nat → Nat → Value} {H : Heap} (hG : GP D dT (shO g) V H) (ho : ∀ k, k < 13 → V g k = vO g ξ β g k) (ht : ∀ j, j < 400 → V (g + 1) j = .int (ξ 0 j)) (hb : ∀ j, j < 6 → V (g + 542) j = .ref (skA g (β j))) (ha : ∀ k j, 10 ≤ k → k < 13 → j < 12 → V (g + 1613 + k) j = .int (ξ k j)) : GP D dT (shO g) (vO g ξ β) H := by
  refine hG.to (fun _ _ => rfl) (fun a ci N j e hj => ?_) (fun a t n j e hj => ?_)
  · rcases shO_cases (g := g) (a := a) (by rw [e]; exact fun z => by cases z) with rfl | rfl | rfl | ⟨k, h1, h2, rfl⟩
    · rw [shO_g] at e; cases e; exact ho j hj
    · rw [shO_t] at e; cases e
    · rw [shO_b] at e; cases e
    · rw [shO_a h1 h2] at e; cases e
  · rcases shO_cases (g := g) (a := a) (by rw [e]; exact fun z => by cases z) with rfl | rfl | rfl | ⟨k, h1, h2, rfl⟩
    · rw [shO_g] at e; cases e
    · rw [shO_t] at e; cases e; rw [ht j hj, vO_te]
    · rw [shO_b] at e; cases e; rw [hb j hj, vO_be]
    · rw [shO_a h1 h2] at e; cases e; rw [ha k j h1 h2 hj, vO_ae h1 h2]
/-- what changes only within N leaves lists outside N -/
theorem LR_out {D : va_G} {dT : Nat → ClassId} {Nn : Nat → Prop} {ρ : Nat → Nat} {L : nwL} {H H1 : Heap} (h : LR D dT Nn ρ L H) (hz : H.size ≤ H1.size) (hq : ∀ q, q < H.size → ¬ Nn q → H1[q]? = H[q]?) : LR D dT Nn ρ L H1 := h.keep (A := Nn) (locs := []) ⟨hz, hq, fun _ z => by cases z⟩ (fun _ z => z)
/-- an own cell has changed -/
theorem PX_own {D : va_G} {dT : Nat → ClassId} {g : Nat} {χ : nwX} {ξ : nwM} {β : Nat → Nat} {H H1 : Heap} (hP : PX D dT g χ H) (hG : GP D dT (shO g) (vO g ξ β) H1) (hβ : ∀ i, i < 6 → 3 ≤ β i ∧ β i < 9) (hz : H.size ≤ H1.size) (hq : ∀ q, q < H.size → ¬ oA g q → H1[q]? = H[q]?) : PX D dT g (ξ, χ.2.1, β, χ.2.2.2) H1 := by
  refine ⟨hG, fun j hj => ?_, hβ⟩
  obtain ⟨h1, h2⟩ := hP.2.1 j hj
  exact ⟨GP.kept h1 (fun a ha => hq a (GP.lt h1 ha) (skA_oA hj (shS_in ha))), LR_out h2 hz (fun q a b => hq q a (fun z => b (xA_o z)))⟩
/-- a Skies has changed -/
theorem PX_sk {D : va_G} {dT : Nat → ClassId} {g j : Nat} {χ : nwX} {s1 : nwM} {ρ1 : Nat → Nat} {L1 : nwL} {H H1 : Heap} (hP : PX D dT g χ H) (hj : j < 9) (hS : PS D dT (skA g j) s1 ρ1 H1) (hL : LR D dT (xA g) ρ1 L1 H) (hz : H.size ≤ H1.size) (hq : ∀ q, q < H.size → ¬ sA (skA g j) q → H1[q]? = H[q]?) : PX D dT g (χ.1, va_up χ.2.1 j s1, χ.2.2.1, va_up χ.2.2.2.1 j ρ1, va_up χ.2.2.2.2 j L1) H1 := by
  refine ⟨GP.kept hP.1 (fun a ha => hq a (GP.lt hP.1 ha) (fun z => skA_oA hj z (shO_in ha))), fun i hi => ?_, hP.2.2⟩
  unfold va_up
  by_cases e : i = j
  · subst e
    dsimp only
    rw [if_pos rfl, if_pos rfl, if_pos rfl]
    exact ⟨hS, LR_out hL hz (fun q a b => hq q a (fun z => b (xA_s hj z)))⟩
  · dsimp only
    rw [if_neg e, if_neg e, if_neg e]
    obtain ⟨h1, h2⟩ := hP.2.1 i hi
    exact ⟨GP.kept h1 (fun a ha => hq a (GP.lt h1 ha) (fun z => e (skA_ap hi hj (shS_in ha) z))), LR_out h2 hz (fun q a b => hq q a (fun z => b (xA_s hj z)))⟩
theorem vu_self {α : Type} (f : Nat → α) (j : Nat) : va_up f j (f j) = f := by
  funext i
  unfold va_up
  split
  · rename_i e; rw [e]
  · rfl
/-- the Skies j with the new numbers s -/
def setS (χ : nwX) (j : Nat) (s : nwM) : nwX := (χ.1, va_up χ.2.1 j s, χ.2.2)
theorem PX_set {D : va_G} {dT : Nat → ClassId} {g j : Nat} {χ : nwX} {s1 : nwM} {H H1 : Heap} (hP : PX D dT g χ H) (hj : j < 9) (hS : PS D dT (skA g j) s1 (χ.2.2.2.1 j) H1) (hz : H.size ≤ H1.size) (hq : ∀ q, q < H.size → ¬ sA (skA g j) q → H1[q]? = H[q]?) : PX D dT g (setS χ j s1) H1 := by
  have h := PX_sk hP hj hS (hP.2.1 j hj).2 hz hq
  rw [vu_self, vu_self] at h
  exact h
/-- the Skies j thinks as o does -/
def setT (χ : nwX) (j o : Nat) (s : nwM) : nwX := (χ.1, va_up χ.2.1 j s, χ.2.2.1, va_up χ.2.2.2.1 j (χ.2.2.2.1 o), va_up χ.2.2.2.2 j (χ.2.2.2.2 o))
theorem PX_think {D : va_G} {dT : Nat → ClassId} {g j o : Nat} {χ : nwX} {s1 : nwM} {H H1 : Heap} (hP : PX D dT g χ H) (hj : j < 9) (ho : o < 9) (hS : PS D dT (skA g j) s1 (χ.2.2.2.1 o) H1) (hz : H.size ≤ H1.size) (hq : ∀ q, q < H.size → ¬ sA (skA g j) q → H1[q]? = H[q]?) : PX D dT g (setT χ j o s1) H1 :=
  PX_sk hP hj hS (hP.2.1 o ho).2 hz hq
def xs_ (χ : nwX) (j : Nat) (o : Option nwM) : Option nwX := o.bind fun s => some (setS χ j s)
def xt_ (χ : nwX) (j k : Nat) (o : Option nwM) : Option nwX := o.bind fun s => some (setT χ j k s)
def xc_ {α : Type} (χ : nwX) (j : Nat) (o : Option (α × nwM)) : Option (α × nwX) := o.bind fun q => some (q.1, setS χ j q.2)
def xo_ (χ : nwX) (o : Option nwM) : Option nwX := o.bind fun ξ => some (ξ, χ.2)
theorem xs_in {χ χ1 : nwX} {j : Nat} {o : Option nwM} (h : xs_ χ j o = some χ1) : ∃ s, o = some s ∧ χ1 = setS χ j s := by
  obtain ⟨s, h1, h2⟩ := ob h; cases h2; exact ⟨s, h1, rfl⟩
theorem xt_in {χ χ1 : nwX} {j k : Nat} {o : Option nwM} (h : xt_ χ j k o = some χ1) : ∃ s, o = some s ∧ χ1 = setT χ j k s := by
  obtain ⟨s, h1, h2⟩ := ob h; cases h2; exact ⟨s, h1, rfl⟩
theorem xc_in {α : Type} {χ χ1 : nwX} {j : Nat} {o : Option (α × nwM)} {a : α} (h : xc_ χ j o = some (a, χ1)) : ∃ s, o = some (a, s) ∧ χ1 = setS χ j s := by
  obtain ⟨q, h1, h2⟩ := ob h; cases h2; exact ⟨q.2, h1, rfl⟩
theorem xo_in {χ χ1 : nwX} {o : Option nwM} (h : xo_ χ o = some χ1) : ∃ ξ, o = some ξ ∧ χ1 = (ξ, χ.2) := by
  obtain ⟨s, h1, h2⟩ := ob h; cases h2; exact ⟨s, h1, rfl⟩
/-- which Skies lies at a place of back -/
def rb_ (χ : nwX) (i : Int32) : Option Nat := if inb i 6 = true then some (χ.2.2.1 i.toNatClampNeg) else none
theorem rb_in {χ : nwX} {i : Int32} {j : Nat} (h : rb_ χ i = some j) : vp_in i 6 ∧ χ.2.2.1 i.toNatClampNeg = j := by
  unfold rb_ at h
  split at h
  · rename_i q; cases h; exact ⟨inb_in q, rfl⟩
  · cases h
def wb_ (χ : nwX) (i : Int32) (j : Nat) : Option nwX := if inb i 6 = true then some (χ.1, χ.2.1, va_up χ.2.2.1 i.toNatClampNeg j, χ.2.2.2) else none
theorem wb_in {χ χ1 : nwX} {i : Int32} {j : Nat} (h : wb_ χ i j = some χ1) : vp_in i 6 ∧ χ1 = (χ.1, χ.2.1, va_up χ.2.2.1 i.toNatClampNeg j, χ.2.2.2) := by
  unfold wb_ at h
  split at h
  · rename_i q; cases h; exact ⟨inb_in q, rfl⟩
  · cases h
theorem PX_rb {D : va_G} {dT : Nat → ClassId} {g j : Nat} {χ : nwX} {i : Int32} {H : Heap} (hP : PX D dT g χ H) (h : rb_ χ i = some j) : 3 ≤ j ∧ j < 9 := by
  obtain ⟨h1, h2⟩ := rb_in h
  rw [← h2]
  exact hP.2.2 _ (vp_lt h1)
theorem PX_put {D : va_G} {dT : Nat → ClassId} {g k : Nat} {χ χ1 : nwX} {x : Int32} {H H1 : Heap} (hP : PX D dT g χ H) (hk : k = 1 ∨ k = 2 ∨ k = 3 ∨ k = 8 ∨ k = 9) (hw : χ1 = (up_ χ.1 k 0 x, χ.2)) (hG : GP D dT (shO g) (upV (vO g χ.1 χ.2.2.1) g (updV (vO g χ.1 χ.2.2.1 g) k (.int x))) H1) (oq : ∀ q, q ≠ g → H1[q]? = H[q]?) (hz : H.size ≤ H1.size) : PX D dT g χ1 H1 := by
  subst hw
  refine PX_own hP (PO_of hG (fun j hj => ?_) (fun j hj => ?_) (fun j hj => ?_) (fun a j h1 h2 hj => ?_)) hP.2.2 hz (fun q _ z => oq q (fun e => z (Or.inl e)))
  · rw [upV_self]
    unfold updV
    by_cases e : j = k
    · subst e; rw [if_pos rfl, vO_i hk, up_same]
    · rw [if_neg e]
      unfold vO
      rw [if_pos rfl, if_pos rfl, up_k e]
  · rw [upV_ne (by omega), vO_te, up_k (by omega)]
  · rw [upV_ne (by omega), vO_be]
  · rw [upV_ne (by omega), vO_ae h1 h2, up_k (by omega)]
theorem PX_ast {D : va_G} {dT : Nat → ClassId} {g k n : Nat} {χ : nwX} {ξ : nwM} {x i : Int32} {H H1 : Heap} (hP : PX D dT g χ H) (h1 : 10 ≤ k) (h2 : k < 13) (hw : wr_ χ.1 k n i x = some ξ) (hG : GP D dT (shO g) (upV (vO g χ.1 χ.2.2.1) (g + 1613 + k) (updV (vO g χ.1 χ.2.2.1 (g + 1613 + k)) i.toNatClampNeg (.int x))) H1) (oq : ∀ q, q ≠ g + 1613 + k → H1[q]? = H[q]?) (hz : H.size ≤ H1.size) : PX D dT g (ξ, χ.2) H1 := by
  obtain ⟨-, rfl⟩ := wr_in hw
  refine PX_own hP (PO_of hG (fun j hj => ?_) (fun j hj => ?_) (fun j hj => ?_) (fun a j ha1 ha2 hj => ?_)) hP.2.2 hz (fun q _ z => oq q (fun e => z (by unfold oA; omega)))
  · rw [upV_ne (by omega)]
    unfold vO
    rw [if_pos rfl, if_pos rfl]
    by_cases c : 10 ≤ j
    · rw [if_pos c, if_pos c]
    · rw [up_k (show j ≠ k by omega)]
  · rw [upV_ne (by omega), vO_te, up_k (by omega)]
  · rw [upV_ne (by omega), vO_be]
  · by_cases e : a = k
    · subst e
      rw [upV_self]
      unfold updV
      by_cases ej : j = i.toNatClampNeg
      · subst ej; rw [if_pos rfl, up_same]
      · rw [if_neg ej, vO_ae ha1 ha2, up_i ej]
    · rw [upV_ne (by omega), vO_ae ha1 ha2, up_k e]
theorem PX_bst {D : va_G} {dT : Nat → ClassId} {g n : Nat} {χ : nwX} {ξ : nwM} {x i : Int32} {H H1 : Heap} (hP : PX D dT g χ H) (hw : wr_ χ.1 0 n i x.toInt8.toInt32 = some ξ) (hG : GP D dT (shO g) (upV (vO g χ.1 χ.2.2.1) (g + 1) (updV (vO g χ.1 χ.2.2.1 (g + 1)) i.toNatClampNeg (.int x.toInt8.toInt32))) H1) (oq : ∀ q, q ≠ g + 1 → H1[q]? = H[q]?) (hz : H.size ≤ H1.size) : PX D dT g (ξ, χ.2) H1 := by
  obtain ⟨-, rfl⟩ := wr_in hw
  refine PX_own hP (PO_of hG (fun j hj => ?_) (fun j hj => ?_) (fun j hj => ?_) (fun a j ha1 ha2 hj => ?_)) hP.2.2 hz (fun q _ z => oq q (fun e => z (by unfold oA; omega)))
  · rw [upV_ne (by omega)]
    unfold vO
    rw [if_pos rfl, if_pos rfl]
    by_cases c : j = 0
    · rw [if_pos c, if_pos c]
    · rw [up_k c]
  · rw [upV_self]
    unfold updV
    by_cases ej : j = i.toNatClampNeg
    · subst ej; rw [if_pos rfl, up_same]
    · rw [if_neg ej, vO_te, up_i ej]
  · rw [upV_ne (by omega), vO_be]
  · rw [upV_ne (by omega), vO_ae ha1 ha2, up_k (by omega)]
theorem PX_wb {D : va_G} {dT : Nat → ClassId} {g j : Nat} {χ χ1 : nwX} {i : Int32} {H H1 : Heap} (hP : PX D dT g χ H) (hj : 3 ≤ j ∧ j < 9) (hw : wb_ χ i j = some χ1) (hG : GP D dT (shO g) (upV (vO g χ.1 χ.2.2.1) (g + 542) (updV (vO g χ.1 χ.2.2.1 (g + 542)) i.toNatClampNeg (.ref (skA g j)))) H1) (oq : ∀ q, q ≠ g + 542 → H1[q]? = H[q]?) (hz : H.size ≤ H1.size) : PX D dT g χ1 H1 := by
  obtain ⟨-, rfl⟩ := wb_in hw
  refine PX_own hP (PO_of hG (fun a ha => ?_) (fun a ha => ?_) (fun a ha => ?_) (fun a b ha1 ha2 hb => ?_)) (fun a ha => ?_) hz (fun q _ z => oq q (fun e => z (by unfold oA; omega)))
  · rw [upV_ne (by omega)]
    unfold vO
    rw [if_pos rfl, if_pos rfl]
  · rw [upV_ne (by omega), vO_te]
  · rw [upV_self]
    unfold updV va_up
    by_cases e : a = i.toNatClampNeg
    · rw [if_pos e, if_pos e]
    · rw [if_neg e, if_neg e, vO_be]
  · rw [upV_ne (by omega), vO_ae ha1 ha2]
  · unfold va_up
    split
    · exact hj
    · exact hP.2.2 a ha
theorem PX_same {D : va_G} {dT : Nat → ClassId} {g : Nat} {χ : nwX} {H H1 : Heap} (hP : PX D dT g χ H) (hz : H.size ≤ H1.size) (hq : ∀ q, q < H.size → H1[q]? = H[q]?) : PX D dT g χ H1 :=
  ⟨GP.same hP.1 hq, fun j hj => ⟨GP.same (hP.2.1 j hj).1 hq, LR_out (hP.2.1 j hj).2 hz (fun q a _ => hq q a)⟩, hP.2.2⟩
theorem hz_all {H H1 : Heap} (hq : ∀ q, q < H.size → H1[q]? = H[q]?) : H.size ≤ H1.size := by
  rcases Nat.lt_or_ge H1.size H.size with h | h
  · have h1 := hq H1.size h
    rw [Array.getElem?_eq_none (Nat.le_refl _)] at h1
    rw [Array.getElem?_eq_getElem h] at h1
    cases h1
  · exact h
theorem hz_put {D : va_G} {dT : Nat → ClassId} {sh : nwS} {V : Nat → Nat → Value} {H H1 : Heap} {a : Nat} (hG : GP D dT sh V H1) (ha : sh a ≠ none) (oq : ∀ q, q ≠ a → H1[q]? = H[q]?) : H.size ≤ H1.size := by
  rcases Nat.lt_or_ge H1.size H.size with h | h
  · have hl := hG.lt ha
    have h1 := oq H1.size (by omega)
    rw [Array.getElem?_eq_none (Nat.le_refl _)] at h1
    rw [Array.getElem?_eq_getElem h] at h1
    cases h1
  · exact h
theorem xo_wf {χ χ1 : nwX} {k : Nat} {v : Int32} (h : xo_ χ (wf_ χ.1 k v) = some χ1) : χ1 = (up_ χ.1 k 0 v, χ.2) := by
  obtain ⟨ξ, h1, rfl⟩ := xo_in h
  cases h1
  rfl
theorem xo_wz {χ χ1 : nwX} {k : Nat} {v : Int32} (h : xo_ χ (wz_ χ.1 k v) = some χ1) : (v = 0 ∨ v = 1) ∧ χ1 = (up_ χ.1 k 0 v, χ.2) := by
  obtain ⟨ξ, h1, rfl⟩ := xo_in h
  obtain ⟨h2, rfl⟩ := wz_in h1
  exact ⟨h2, rfl⟩
section NW8
variable {p : Program} {l : Launch} {e : Env} {R : Room} {s : State} {m : MethodId} {args : Array Value} {below : List Frame} {meth : Method} {c : Code} {H : Heap} {locs : List Loc} {cells slots : Nat} {Q : State → Prop}
variable {cc : ByteArray} {pc nL : Nat} {ls : Array Slot} {rest : List Value} {D : va_G} {dT : Nat → ClassId} {H0 : Heap} {own : String} {A : Nat → Prop} {sh : nwS} {V : Nat → Nat → Value}
theorem gx_calli {Pic Pic1 : Heap → Prop} {A1 : Nat → Prop} (E : CallFix p m c cc nL s args lw_all own) (hE : EV D dT s) (hP : Pic H) (hS : va_S A s.heap H locs) (hAA : ∀ q, A1 q → A q) {d d' maxL index n b : Nat} {C : String} {y : MethodName} {bytes : ByteArray} {ret : Option FieldType} {As : List Value} {r : Int32} (hM : Met l y (ws_ y bytes maxL ret) (rmd d') (va_Pc (.ref b :: As) (fun U => Pic U.heap ∧ EV D dT U)) (va_Qi (fun r' (_ : Unit) => r' = r) (fun _ t => Pic1 t.heap) A1) 0 0 A1) (hrc : ∃ cell : Cell, H[b]? = some cell ∧ cell.vm.isStatics = false ∧ s.vm.findClass C = some cell.cls) (hw : GoodIn lw_all (wsV own index C y (ws_ y bytes maxL ret))) (hd : y.cls = C ∧ y.cls ≠ "java/lang/invoke/MethodHandle" ∧ y.cls ≠ "java/lang/invoke/VarHandle" ∧ (parseMethodDescriptor y.desc).map (fun d => d.parameters.length) = some n) (hlen : As.length = n) (hdd : d' < d) (hL : maxL ≤ 45) {lv : List (Nat × Value)} (hl : lv_has ls nL lv) {st : List Value} (hst : st = As.reverse ++ .ref b :: rest) (hrm : (rest.map fun v => v.category).sum ≤ 8) (hdg : decode cc pc = .ok (.invokevirtual index, 3))
    (kk : ∀ (H1 : Heap) (locs1 : List Loc), Pic1 H1 → H.size ≤ H1.size → (∀ q, q < H.size → ¬ A1 q → H1[q]? = H[q]?) → va_S A s.heap H1 locs1 → W p l e (rmd d) s m args below meth c H1 locs1 0 0 Q (F0 m (pc + 3) ls (.int r :: rest))) : W p l e (rmd d) s m args below meth c H locs 0 0 Q (F0 m pc ls st) := by
  subst hst
  refine va_calli (va_runV (As := As) (rest := rest) E hM (cwV n E.2.2.2.2 hw rfl rfl rfl hd (rmd_ok hdd hL)) ⟨g_blind, hrc, fun U hU hW => ⟨rfl, by rw [hU]; exact hP, hE.warm hW⟩⟩ rfl hlen hl.1 rfl (lv_room hrm) hdg ⟨Nat.le_refl 0, Nat.le_refl 0⟩) hS (fun q _ z => hAA q z) (fun q z => hAA q z) (fun r' u t H1 locs1 ht hvm hr hB hz hk hS1 => ?_)
  subst hr
  exact kk H1 locs1 (by rw [← ht]; exact hB) hz hk hS1
theorem gx_callv {Pic Pic1 : Heap → Prop} {A1 : Nat → Prop} (E : CallFix p m c cc nL s args lw_all own) (hE : EV D dT s) (hP : Pic H) (hS : va_S A s.heap H locs) (hAA : ∀ q, A1 q → A q) {d d' maxL index n b : Nat} {C : String} {y : MethodName} {bytes : ByteArray} {ret : Option FieldType} {As : List Value} (hM : Met l y (ws_ y bytes maxL ret) (rmd d') (va_Pc (.ref b :: As) (fun U => Pic U.heap ∧ EV D dT U)) (va_Qv (fun (_ : Unit) => True) (fun _ t => Pic1 t.heap) A1) 0 0 A1) (hrc : ∃ cell : Cell, H[b]? = some cell ∧ cell.vm.isStatics = false ∧ s.vm.findClass C = some cell.cls) (hw : GoodIn lw_all (wsV own index C y (ws_ y bytes maxL ret))) (hd : y.cls = C ∧ y.cls ≠ "java/lang/invoke/MethodHandle" ∧ y.cls ≠ "java/lang/invoke/VarHandle" ∧ (parseMethodDescriptor y.desc).map (fun d => d.parameters.length) = some n) (hlen : As.length = n) (hdd : d' < d) (hL : maxL ≤ 45) {lv : List (Nat × Value)} (hl : lv_has ls nL lv) {st : List Value} (hst : st = As.reverse ++ .ref b :: rest) (hrm : (rest.map fun v => v.category).sum ≤ 8) (hdg : decode cc pc = .ok (.invokevirtual index, 3))
    (kk : ∀ (H1 : Heap) (locs1 : List Loc), Pic1 H1 → H.size ≤ H1.size → (∀ q, q < H.size → ¬ A1 q → H1[q]? = H[q]?) → va_S A s.heap H1 locs1 → W p l e (rmd d) s m args below meth c H1 locs1 0 0 Q (F0 m (pc + 3) ls rest)) : W p l e (rmd d) s m args below meth c H locs 0 0 Q (F0 m pc ls st) := by
  subst hst
  refine va_callv (va_runV (As := As) (rest := rest) E hM (cwV n E.2.2.2.2 hw rfl rfl rfl hd (rmd_ok hdd hL)) ⟨g_blind, hrc, fun U hU hW => ⟨rfl, by rw [hU]; exact hP, hE.warm hW⟩⟩ rfl hlen hl.1 rfl (lv_room hrm) hdg ⟨Nat.le_refl 0, Nat.le_refl 0⟩) hS (fun q _ z => hAA q z) (fun q z => hAA q z) (fun u t H1 locs1 ht hvm hr hB hz hk hS1 => ?_)
  exact kk H1 locs1 (by rw [← ht]; exact hB) hz hk hS1
/-- a reference to an object of class r is stored in an array of such -/
theorem gp_aast (E : CallFix p m c cc nL s args lw_all own) (hK : va_K D nwCl (nwT dT) s) (hG : GP D dT sh V H) (hS : va_S A H0 H locs) {a n t v ci N : Nat} {C : String} {T : u_T} (hA : A a) (ht : (nwT dT)[t]? = some (dT t, .object C)) (hs : sh a = some (.inr (t, n))) {shv : nwS} {Vv : Nat → Nat → Value} (hGv : GP D dT shv Vv H) (hv : shv v = some (.inl (ci, N))) (hc : nwCl[ci]? = some (C, T, N)) {i : Int32} (hin : vp_in i n) (hdg : decode cc pc = .ok (.aastore, 1))
    (kk : ∀ (H1 : Heap) (locs1 : List Loc), GP D dT sh (upV V a (updV (V a) i.toNatClampNeg (.ref v))) H1 → (∀ q, q ≠ a → H1[q]? = H[q]?) → va_S A H0 H1 locs1 → W p l e R s m args below meth c H1 locs1 cells slots Q (F0 m (pc + 1) ls rest)) : W p l e R s m args below meth c H locs cells slots Q (F0 m pc ls (.ref v :: .int i :: .ref a :: rest)) := by
  have hlt : i.toNatClampNeg < n := vp_lt hin
  have h0 : ¬ i < 0 := fun q => hin (Or.inl q)
  obtain ⟨cellV, g1, g2, g3, -⟩ := hGv.1 v ci N hv
  have hcls := (hK.1 ci _ hc).2
  obtain ⟨kA, comp, k1, k2, k3, -⟩ := (hK.2 t _ ht).2
  have hcomp : comp = D.1 ci := Option.some.inj (k3.symm.trans hcls.1)
  subst hcomp
  obtain ⟨kC, hkC, -⟩ := hcls.2
  refine W.aast E.1 E.2.1 (hG.2 a t n hs) (fun q h => by cases h) (fun h => by cases h) k1 k2 rfl hkC ⟨h0, by show _ < (arrV _ _ _).slots.size; rw [arrV_size]; exact hlt⟩ g1 (fun q h => by rw [g3] at h; cases h) (by rw [g2]; exact hkC) (by rw [g2]; exact va_assign hcls) rfl rfl hdg fun H1 e z oq => ?_
  refine kk H1 _ (hG.putA hs ?_ oq) oq (hS.put z oq hA)
  rw [e, arrV_store]
end NW8
