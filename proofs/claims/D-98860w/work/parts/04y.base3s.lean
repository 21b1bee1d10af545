/-! BASE 3: the picture of a Skies at h: s k i: int field k (i = 0), array field k (place i), grid k (row r, place j: i = 5 * r + j); ρ: its four lists -/
set_option maxRecDepth 100000
def b2 (k : Nat) : Nat := 1 + 9 * k
def n2 (k : Nat) : Nat := if k = 2 then 150 else 8
def sLen (k : Nat) : Nat := if k = 8 then 8 else 12
def sA (h : Nat) : Nat → Prop := fun q => h ≤ q ∧ q < h + 176
def shS (h : Nat) : nwS := fun a =>
  if a = h then some (.inl (1, 23))
  else if a = h + 1 then some (.inr (2, 8)) else if a = h + 10 then some (.inr (2, 8)) else if a = h + 19 then some (.inr (2, 150))
  else if h < a ∧ a < h + 170 then some (.inr (0, 5))
  else if h + 170 ≤ a ∧ a < h + 175 then some (.inr (0, 12)) else if a = h + 175 then some (.inr (0, 8)) else none
def vS (h : Nat) (s : nwM) (ρ : Nat → Nat) : Nat → Nat → Value := fun a =>
  if a = h then (fun k => if k < 3 then .ref (h + b2 k) else if k < 9 then .ref (h + 167 + k) else if k < 13 then .ref (ρ (k - 9)) else .int (s k 0))
  else if a = h + 1 then (fun i => .ref (h + 2 + i)) else if a = h + 10 then (fun i => .ref (h + 11 + i)) else if a = h + 19 then (fun i => .ref (h + 20 + i))
  else if a < h + 10 then (fun j => .int (s 0 (5 * (a - h - 2) + j))) else if a < h + 19 then (fun j => .int (s 1 (5 * (a - h - 11) + j))) else if a < h + 170 then (fun j => .int (s 2 (5 * (a - h - 20) + j)))
  else fun j => .int (s (a - h - 167) j)
def PS (D : va_G) (dT : Nat → ClassId) (h : Nat) (s : nwM) (ρ : Nat → Nat) (H : Heap) : Prop := GP D dT (shS h) (vS h s ρ) H
theorem shS_h (h : Nat) : shS h h = some (.inl (1, 23)) := if_pos rfl
theorem shS_2 {h k : Nat} (hk : k < 3) : shS h (h + b2 k) = some (.inr (2, n2 k)) := by
  rcases (show k = 0 ∨ k = 1 ∨ k = 2 by omega) with rfl | rfl | rfl
  · show shS h (h + 1) = _
    unfold shS
    rw [if_neg (by omega), if_pos rfl]; rfl
  · show shS h (h + 10) = _
    unfold shS
    rw [if_neg (by omega), if_neg (by omega), if_pos rfl]; rfl
  · show shS h (h + 19) = _
    unfold shS
    rw [if_neg (by omega), if_neg (by omega), if_neg (by omega), if_pos rfl]; rfl
theorem n2_le {k : Nat} : n2 k ≤ 150 := by unfold n2; split <;> omega
theorem shS_r {h k r : Nat} (hk : k < 3) (hr : r < n2 k) : shS h (h + b2 k + 1 + r) = some (.inr (0, 5)) := by
  unfold n2 at hr
  unfold b2
  have hlt : h < h + (1 + 9 * k) + 1 + r ∧ h + (1 + 9 * k) + 1 + r < h + 170 := by split at hr <;> omega
  unfold shS
  rw [if_neg (by omega), if_neg (by split at hr <;> omega), if_neg (by split at hr <;> omega), if_neg (by split at hr <;> omega), if_pos hlt]
theorem shS_a {h k : Nat} (h1 : 3 ≤ k) (h2 : k < 9) : shS h (h + 167 + k) = some (.inr (0, sLen k)) := by
  unfold shS sLen
  by_cases h8 : k = 8
  · subst h8
    rw [if_neg (by omega), if_neg (by omega), if_neg (by omega), if_neg (by omega), if_neg (by omega), if_neg (by omega), if_pos (by omega)]; rfl
  · rw [if_neg (by omega), if_neg (by omega), if_neg (by omega), if_neg (by omega), if_neg (by omega), if_pos (by omega), if_neg h8]
theorem vS_i {h k : Nat} {s : nwM} {ρ : Nat → Nat} (h1 : 13 ≤ k) : vS h s ρ h k = .int (s k 0) := by
  unfold vS
  rw [if_pos rfl, if_neg (by omega), if_neg (by omega), if_neg (by omega)]
theorem vS_l {h k : Nat} {s : nwM} {ρ : Nat → Nat} (h1 : 9 ≤ k) (h2 : k < 13) : vS h s ρ h k = .ref (ρ (k - 9)) := by
  unfold vS
  rw [if_pos rfl, if_neg (by omega), if_neg (by omega), if_pos h2]
theorem vS_a {h k : Nat} {s : nwM} {ρ : Nat → Nat} (h1 : 3 ≤ k) (h2 : k < 9) : vS h s ρ h k = .ref (h + 167 + k) := by
  unfold vS
  rw [if_pos rfl, if_neg (by omega), if_pos h2]
theorem vS_2 {h k : Nat} {s : nwM} {ρ : Nat → Nat} (h1 : k < 3) : vS h s ρ h k = .ref (h + b2 k) := by
  unfold vS
  rw [if_pos rfl, if_pos h1]
theorem vS_o {h k i : Nat} {s : nwM} {ρ : Nat → Nat} (hk : k < 3) : vS h s ρ (h + b2 k) i = .ref (h + b2 k + 1 + i) := by
  rcases (show k = 0 ∨ k = 1 ∨ k = 2 by omega) with rfl | rfl | rfl
  · show vS h s ρ (h + 1) i = .ref (h + 1 + 1 + i)
    unfold vS
    rw [if_neg (by omega), if_pos rfl]
  · show vS h s ρ (h + 10) i = .ref (h + 10 + 1 + i)
    unfold vS
    rw [if_neg (by omega), if_neg (by omega), if_pos rfl]
  · show vS h s ρ (h + 19) i = .ref (h + 19 + 1 + i)
    unfold vS
    rw [if_neg (by omega), if_neg (by omega), if_neg (by omega), if_pos rfl]
theorem vS_r {h k r j : Nat} {s : nwM} {ρ : Nat → Nat} (hk : k < 3) (hr : r < n2 k) : vS h s ρ (h + b2 k + 1 + r) j = .int (s k (5 * r + j)) := by
  unfold n2 at hr
  rcases (show k = 0 ∨ k = 1 ∨ k = 2 by omega) with rfl | rfl | rfl
  · rw [if_neg (by decide)] at hr
    show vS h s ρ (h + 1 + 1 + r) j = _
    unfold vS
    rw [if_neg (by omega), if_neg (by omega), if_neg (by omega), if_neg (by omega), if_pos (by omega), show h + 1 + 1 + r - h - 2 = r by omega]
  · rw [if_neg (by decide)] at hr
    show vS h s ρ (h + 10 + 1 + r) j = _
    unfold vS
    rw [if_neg (by omega), if_neg (by omega), if_neg (by omega), if_neg (by omega), if_neg (by omega), if_pos (by omega), show h + 10 + 1 + r - h - 11 = r by omega]
  · rw [if_pos rfl] at hr
    show vS h s ρ (h + 19 + 1 + r) j = _
    unfold vS
    rw [if_neg (by omega), if_neg (by omega), if_neg (by omega), if_neg (by omega), if_neg (by omega), if_neg (by omega), if_pos (by omega), show h + 19 + 1 + r - h - 20 = r by omega]
theorem vS_e {h k j : Nat} {s : nwM} {ρ : Nat → Nat} (h1 : 3 ≤ k) (h2 : k < 9) : vS h s ρ (h + 167 + k) j = .int (s k j) := by
  unfold vS
  rw [if_neg (by omega), if_neg (by omega), if_neg (by omega), if_neg (by omega), if_neg (by omega), if_neg (by omega), if_neg (by omega), show h + 167 + k - h - 167 = k by omega]
/-- the cells of a Skies, one by one -/
theorem shS_cases {h a : Nat} (ha : shS h a ≠ none) : a = h ∨ (∃ k, k < 3 ∧ a = h + b2 k) ∨ (∃ k r, k < 3 ∧ r < n2 k ∧ a = h + b2 k + 1 + r) ∨ ∃ k, 3 ≤ k ∧ k < 9 ∧ a = h + 167 + k := by
  unfold shS at ha
  split at ha
  · exact Or.inl ‹_›
  split at ha
  · exact Or.inr (Or.inl ⟨0, by omega, by unfold b2; omega⟩)
  split at ha
  · exact Or.inr (Or.inl ⟨1, by omega, by unfold b2; omega⟩)
  split at ha
  · exact Or.inr (Or.inl ⟨2, by omega, by unfold b2; omega⟩)
  split at ha
  · refine Or.inr (Or.inr (Or.inl ?_))
    rcases (show a < h + 10 ∨ (h + 10 ≤ a ∧ a < h + 19) ∨ h + 19 ≤ a by omega) with q | q | q
    · exact ⟨0, a - h - 2, by omega, by unfold n2; rw [if_neg (by decide)]; omega, by unfold b2; omega⟩
    · exact ⟨1, a - h - 11, by omega, by unfold n2; rw [if_neg (by decide)]; omega, by unfold b2; omega⟩
    · exact ⟨2, a - h - 20, by omega, by unfold n2; rw [if_pos rfl]; omega, by unfold b2; omega⟩
  split at ha
  · exact Or.inr (Or.inr (Or.inr ⟨a - h - 167, by omega, by omega, by omega⟩))
  split at ha
  · exact Or.inr (Or.inr (Or.inr ⟨8, by omega, by omega, by omega⟩))
  exact absurd rfl ha
theorem shS_in {h a : Nat} (ha : shS h a ≠ none) : sA h a := by
  unfold sA
  rcases shS_cases ha with rfl | ⟨k, hk, rfl⟩ | ⟨k, r, hk, hr, rfl⟩ | ⟨k, h1, h2, rfl⟩
  · omega
  · unfold b2; omega
  · unfold n2 at hr; unfold b2
    split at hr <;> omega
  · omega
theorem sA_h (h : Nat) : sA h h := by unfold sA; omega
theorem sA_r {h k r : Nat} (hk : k < 3) (hr : r < n2 k) : sA h (h + b2 k + 1 + r) := shS_in (by rw [shS_r hk hr]; exact fun z => by cases z)
theorem sA_a {h k : Nat} (h1 : 3 ≤ k) (h2 : k < 9) : sA h (h + 167 + k) := by unfold sA; omega
/-- a new content of a Skies, told cell by cell -/
theorem PS_of {D : va_G} {dT : Nat → ClassId} {h : Nat} {s : nwM} {ρ : Nat → Nat} {V : Nat → Nat → Value} {H : Heap} (hG : GP D dT (shS h) V H) (ho : ∀ k, k < 23 → V h k = vS h s ρ h k) (h2 : ∀ k i, k < 3 → V (h + b2 k) i = .ref (h + b2 k + 1 + i)) (hr : ∀ k r j, k < 3 → r < n2 k → j < 5 → V (h + b2 k + 1 + r) j = .int (s k (5 * r + j))) (ha : ∀ k j, 3 ≤ k → k < 9 → j < sLen k → V (h + 167 + k) j = .int (s k j)) : PS D dT h s ρ H := by
  refine hG.to (fun _ _ => rfl) (fun a ci N j e hj => ?_) (fun a t n j e hj => ?_)
  · rcases shS_cases (h := h) (a := a) (by rw [e]; exact fun z => by cases z) with rfl | ⟨k, hk, rfl⟩ | ⟨k, r, hk, hr', rfl⟩ | ⟨k, h1, h2', rfl⟩
    · rw [shS_h] at e; cases e; exact ho j hj
    · rw [shS_2 hk] at e; cases e
    · rw [shS_r hk hr'] at e; cases e
    · rw [shS_a h1 h2'] at e; cases e
  · rcases shS_cases (h := h) (a := a) (by rw [e]; exact fun z => by cases z) with rfl | ⟨k, hk, rfl⟩ | ⟨k, r, hk, hr', rfl⟩ | ⟨k, h1, h2', rfl⟩
    · rw [shS_h] at e; cases e
    · rw [h2 k j hk, vS_o hk]
    · rw [shS_r hk hr'] at e; cases e; rw [hr k r j hk hr' hj, vS_r hk hr']
    · rw [shS_a h1 h2'] at e; cases e; rw [ha k j h1 h2' hj, vS_e h1 h2']
theorem PS_put {D : va_G} {dT : Nat → ClassId} {h k : Nat} {s s1 : nwM} {ρ : Nat → Nat} {x : Int32} {H : Heap} (hk : 13 ≤ k) (hw : wf_ s k x = some s1) (hG : GP D dT (shS h) (upV (vS h s ρ) h (updV (vS h s ρ h) k (.int x))) H) : PS D dT h s1 ρ H := by
  cases hw
  refine PS_of hG (fun j hj => ?_) (fun a i ha => ?_) (fun a r j ha hr hj => ?_) (fun a j h1 h2 hj => ?_)
  · rw [upV_self]
    unfold updV
    by_cases e : j = k
    · subst e; rw [if_pos rfl, vS_i hk, up_same]
    · rw [if_neg e]
      unfold vS
      rw [if_pos rfl, if_pos rfl, up_k e]
  · rw [upV_ne (by unfold b2; omega), vS_o ha]
  · rw [upV_ne (by unfold b2; omega), vS_r ha hr, up_k (by omega)]
  · rw [upV_ne (by omega), vS_e h1 h2, up_k (by omega)]
theorem PS_putl {D : va_G} {dT : Nat → ClassId} {h k x : Nat} {s : nwM} {ρ : Nat → Nat} {H : Heap} (h1 : 9 ≤ k) (h2 : k < 13) (hG : GP D dT (shS h) (upV (vS h s ρ) h (updV (vS h s ρ h) k (.ref x))) H) : PS D dT h s (va_up ρ (k - 9) x) H := by
  refine PS_of hG (fun j hj => ?_) (fun a i ha => ?_) (fun a r j ha hr hj => ?_) (fun a j h1 h2 hj => ?_)
  · rw [upV_self]
    unfold updV
    by_cases e : j = k
    · subst e; rw [if_pos rfl, vS_l h1 h2]; unfold va_up; rw [if_pos rfl]
    · rw [if_neg e]
      unfold vS va_up
      rw [if_pos rfl, if_pos rfl]
      by_cases c1 : j < 3
      · rw [if_pos c1, if_pos c1]
      by_cases c2 : j < 9
      · rw [if_neg c1, if_pos c2, if_neg c1, if_pos c2]
      by_cases c3 : j < 13
      · rw [if_neg c1, if_neg c2, if_pos c3, if_neg c1, if_neg c2, if_pos c3, if_neg (by omega)]
      · rw [if_neg c1, if_neg c2, if_neg c3, if_neg c1, if_neg c2, if_neg c3]
  · rw [upV_ne (by unfold b2; omega), vS_o ha]
  · rw [upV_ne (by unfold b2; omega), vS_r ha hr]
  · rw [upV_ne (by omega), vS_e h1 h2]
theorem PS_ast {D : va_G} {dT : Nat → ClassId} {h k n : Nat} {s s1 : nwM} {ρ : Nat → Nat} {x i : Int32} {H : Heap} (h1 : 3 ≤ k) (h2 : k < 9) (hw : wr_ s k n i x = some s1) (hG : GP D dT (shS h) (upV (vS h s ρ) (h + 167 + k) (updV (vS h s ρ (h + 167 + k)) i.toNatClampNeg (.int x))) H) : PS D dT h s1 ρ H := by
  obtain ⟨-, rfl⟩ := wr_in hw
  refine PS_of hG (fun j hj => ?_) (fun a i ha => ?_) (fun a r j ha hr hj => ?_) (fun a j ha1 ha2 hj => ?_)
  · rw [upV_ne (by omega)]
    unfold vS
    rw [if_pos rfl, if_pos rfl]
    by_cases c : j < 13
    · by_cases c1 : j < 3
      · rw [if_pos c1, if_pos c1]
      by_cases c2 : j < 9
      · rw [if_neg c1, if_pos c2, if_neg c1, if_pos c2]
      · rw [if_neg c1, if_neg c2, if_pos c, if_neg c1, if_neg c2, if_pos c]
    · rw [up_k (show j ≠ k by omega)]
  · rw [upV_ne (by unfold b2; omega), vS_o ha]
  · rw [upV_ne (by unfold n2 at hr; unfold b2; split at hr <;> omega), vS_r ha hr, up_k (by omega)]
  · by_cases e : a = k
    · subst e
      rw [upV_self]
      unfold updV
      by_cases ej : j = i.toNatClampNeg
      · subst ej; rw [if_pos rfl, up_same]
      · rw [if_neg ej, vS_e ha1 ha2, up_i ej]
    · rw [upV_ne (by omega), vS_e ha1 ha2, up_k e]
/-- a row of a grid -/
def rw_ (n : Nat) (i : Int32) : Option Nat := if inb i n = true then some i.toNatClampNeg else none
def rr_ (s : nwM) (k r : Nat) (j : Int32) : Option Int32 := if inb j 5 = true then some (s k (5 * r + j.toNatClampNeg)) else none
def ww_ (s : nwM) (k r : Nat) (j v : Int32) : Option nwM := if inb j 5 = true then some (up_ s k (5 * r + j.toNatClampNeg) v) else none
theorem vp_lt {i : Int32} {n : Nat} (h : vp_in i n) : i.toNatClampNeg < n := Nat.not_le.mp fun q => h (Or.inr q)
theorem rw_in {n r : Nat} {i : Int32} (h : rw_ n i = some r) : vp_in i n ∧ i.toNatClampNeg = r ∧ r < n := by
  unfold rw_ at h
  split at h
  · rename_i q; cases h; exact ⟨inb_in q, rfl, vp_lt (inb_in q)⟩
  · cases h
theorem rr_in {s : nwM} {k r : Nat} {j v : Int32} (h : rr_ s k r j = some v) : vp_in j 5 ∧ v = s k (5 * r + j.toNatClampNeg) := by
  unfold rr_ at h
  split at h
  · rename_i q; cases h; exact ⟨inb_in q, rfl⟩
  · cases h
theorem ww_in {s s1 : nwM} {k r : Nat} {j v : Int32} (h : ww_ s k r j v = some s1) : vp_in j 5 ∧ s1 = up_ s k (5 * r + j.toNatClampNeg) v := by
  unfold ww_ at h
  split at h
  · rename_i q; cases h; exact ⟨inb_in q, rfl⟩
  · cases h
theorem PS_rast {D : va_G} {dT : Nat → ClassId} {h k r : Nat} {s s1 : nwM} {ρ : Nat → Nat} {x i : Int32} {H : Heap} (hk : k < 3) (hr : r < n2 k) (hw : ww_ s k r i x = some s1) (hG : GP D dT (shS h) (upV (vS h s ρ) (h + b2 k + 1 + r) (updV (vS h s ρ (h + b2 k + 1 + r)) i.toNatClampNeg (.int x))) H) : PS D dT h s1 ρ H := by
  obtain ⟨hi, rfl⟩ := ww_in hw
  have hi5 := vp_lt hi
  have hrn : r < 150 := Nat.lt_of_lt_of_le hr n2_le
  refine PS_of hG (fun j hj => ?_) (fun a i ha => ?_) (fun a q j ha hq hj => ?_) (fun a j ha1 ha2 hj => ?_)
  · rw [upV_ne (by unfold b2; omega)]
    unfold vS
    rw [if_pos rfl, if_pos rfl]
    by_cases c : j < 13
    · by_cases c1 : j < 3
      · rw [if_pos c1, if_pos c1]
      by_cases c2 : j < 9
      · rw [if_neg c1, if_pos c2, if_neg c1, if_pos c2]
      · rw [if_neg c1, if_neg c2, if_pos c, if_neg c1, if_neg c2, if_pos c]
    · rw [up_k (show j ≠ k by omega)]
  · rw [upV_ne (by unfold n2 at hr; unfold b2; split at hr <;> omega), vS_o ha]
  · by_cases e : a = k ∧ q = r
    · obtain ⟨rfl, rfl⟩ := e
      rw [upV_self]
      unfold updV
      by_cases ej : j = i.toNatClampNeg
      · subst ej; rw [if_pos rfl, up_same]
      · rw [if_neg ej, vS_r ha hq, up_i (by omega)]
    · have hne : h + b2 a + 1 + q ≠ h + b2 k + 1 + r := by
        unfold n2 at hr hq; unfold b2
        intro z
        exact e (by split at hr <;> split at hq <;> omega)
      rw [upV_ne hne, vS_r ha hq]
      by_cases ea : a = k
      · rw [up_i (by omega)]
      · rw [up_k ea]
  · rw [upV_ne (by unfold n2 at hr; unfold b2; split at hr <;> omega), vS_e ha1 ha2, up_k (by omega)]
