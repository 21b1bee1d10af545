/-! Skies made: written by genk.py -/
set_option maxRecDepth 100000
/-- the cells of a Skies behind its object -/
def cS (dT : Nat → ClassId) (h : Nat) (i : Nat) : Cell :=
  if i = 0 then arrV (dT 2) 8 (fun j => .ref (h + 1 + 0 + 1 + j)) else if i < 9 then arrV (dT 0) 5 (fun _ => .int 0)
  else if i = 9 then arrV (dT 2) 8 (fun j => .ref (h + 1 + 9 + 1 + j)) else if i < 18 then arrV (dT 0) 5 (fun _ => .int 0)
  else if i = 18 then arrV (dT 2) 150 (fun j => .ref (h + 1 + 18 + 1 + j)) else if i < 169 then arrV (dT 0) 5 (fun _ => .int 0)
  else if i < 174 then arrV (dT 0) 12 (fun _ => .int 0) else arrV (dT 0) 8 (fun _ => .int 0)
def z0_ : nwM := fun _ _ => 0
def ρ0_ (h : Nat) : Nat → Nat := fun i => h + 176 + i
theorem cS_row {dT : Nat → ClassId} {h i : Nat} (h1 : i ≠ 0) (h2 : i ≠ 9) (h3 : i ≠ 18) (h4 : i < 169) : cS dT h i = arrV (dT 0) 5 (fun _ => .int 0) := by
  unfold cS
  simp only [h1, h2, h3, h4, if_false, if_true, ite_self]
theorem cS_0 {dT : Nat → ClassId} {h : Nat} : cS dT h 0 = arrV (dT 2) 8 (fun j => .ref (h + 1 + 0 + 1 + j)) := if_pos rfl
theorem cS_9 {dT : Nat → ClassId} {h : Nat} : cS dT h 9 = arrV (dT 2) 8 (fun j => .ref (h + 1 + 9 + 1 + j)) := by
  unfold cS
  rw [if_neg (by decide), if_neg (by decide), if_pos rfl]
theorem cS_18 {dT : Nat → ClassId} {h : Nat} : cS dT h 18 = arrV (dT 2) 150 (fun j => .ref (h + 1 + 18 + 1 + j)) := by
  unfold cS
  rw [if_neg (by decide), if_neg (by decide), if_neg (by decide), if_neg (by decide), if_pos rfl]
theorem cS_12 {dT : Nat → ClassId} {h i : Nat} (h1 : 169 ≤ i) (h2 : i < 174) : cS dT h i = arrV (dT 0) 12 (fun _ => .int 0) := by
  unfold cS
  rw [if_neg (by omega), if_neg (by omega), if_neg (by omega), if_neg (by omega), if_neg (by omega), if_neg (by omega), if_pos h2]
theorem cS_174 {dT : Nat → ClassId} {h : Nat} : cS dT h 174 = arrV (dT 0) 8 (fun _ => .int 0) := by
  unfold cS
  rw [if_neg (by decide), if_neg (by decide), if_neg (by decide), if_neg (by decide), if_neg (by decide), if_neg (by decide), if_neg (by decide)]
theorem PS_made {D : va_G} {dT : Nat → ClassId} {h : Nat} {H : Heap} (hO : oF D 1 23 [.ref (h + 1 + 0), .ref (h + 1 + 9), .ref (h + 1 + 18), .ref (h + 1 + 169), .ref (h + 1 + 170), .ref (h + 1 + 171), .ref (h + 1 + 172), .ref (h + 1 + 173), .ref (h + 1 + 174), .ref (h + 1 + 175), .ref (h + 1 + 176), .ref (h + 1 + 177), .ref (h + 1 + 178), .int 0, .int 0, .int 0, .int 0, .int 0, .int 0, .int 0, .int 0, .int 0, .int 0] h H) (hB : Bl h 175 (cS dT h) H) : PS D dT h z0_ (ρ0_ h) H := by
  refine ⟨fun a ci N e => ?_, fun a t n e => ?_⟩
  · unfold shS at e
    split at e
    · rename_i e1; subst e1; cases e
      refine t_OB.to hO (fun k hk => ?_)
      rcases (show k = 0 ∨ k = 1 ∨ k = 2 ∨ k = 3 ∨ k = 4 ∨ k = 5 ∨ k = 6 ∨ k = 7 ∨ k = 8 ∨ k = 9 ∨ k = 10 ∨ k = 11 ∨ k = 12 ∨ k = 13 ∨ k = 14 ∨ k = 15 ∨ k = 16 ∨ k = 17 ∨ k = 18 ∨ k = 19 ∨ k = 20 ∨ k = 21 ∨ k = 22 by omega) with rfl | rfl | rfl | rfl | rfl | rfl | rfl | rfl | rfl | rfl | rfl | rfl | rfl | rfl | rfl | rfl | rfl | rfl | rfl | rfl | rfl | rfl | rfl
      · rw [vS_2 (by decide)]; rfl
      · rw [vS_2 (by decide)]; rfl
      · rw [vS_2 (by decide)]; rfl
      · rw [vS_a (by decide) (by decide)]; rfl
      · rw [vS_a (by decide) (by decide)]; rfl
      · rw [vS_a (by decide) (by decide)]; rfl
      · rw [vS_a (by decide) (by decide)]; rfl
      · rw [vS_a (by decide) (by decide)]; rfl
      · rw [vS_a (by decide) (by decide)]; rfl
      · rw [vS_l (by decide) (by decide)]; rfl
      · rw [vS_l (by decide) (by decide)]; rfl
      · rw [vS_l (by decide) (by decide)]; rfl
      · rw [vS_l (by decide) (by decide)]; rfl
      all_goals (rw [vS_i (by decide)]; rfl)
    · split at e <;> try cases e
      split at e <;> try cases e
      split at e <;> try cases e
      split at e <;> try cases e
      split at e <;> try cases e
      split at e <;> cases e
  · have hc : h < a ∧ a < h + 176 := by
      have := shS_in (h := h) (a := a) (by rw [e]; exact fun z => by cases z)
      unfold sA at this
      have h0 : a ≠ h := fun e0 => by subst e0; rw [shS_h] at e; cases e
      omega
    have hb := hB (a - h - 1) (by omega)
    rw [show h + 1 + (a - h - 1) = a by omega] at hb
    rw [hb]
    congr 1
    rcases shS_cases (h := h) (a := a) (by rw [e]; exact fun z => by cases z) with rfl | ⟨k, hk, rfl⟩ | ⟨k, r, hk, hr', rfl⟩ | ⟨k, h1, h2', rfl⟩
    · omega
    · rw [shS_2 hk] at e
      cases e
      rcases (show k = 0 ∨ k = 1 ∨ k = 2 by omega) with rfl | rfl | rfl
      · rw [show h + b2 0 - h - 1 = 0 by show h + 1 - h - 1 = 0; omega]
        rw [cS_0]
        exact arrV_to (fun j hj => by rw [vS_o (by decide)]; exact congrArg Value.ref (by show h + 1 + 0 + 1 + j = h + 1 + 1 + j; omega))
      · rw [show h + b2 1 - h - 1 = 9 by show h + 10 - h - 1 = 9; omega]
        rw [cS_9]
        exact arrV_to (fun j hj => by rw [vS_o (by decide)]; exact congrArg Value.ref (by show h + 1 + 9 + 1 + j = h + 10 + 1 + j; omega))
      · rw [show h + b2 2 - h - 1 = 18 by show h + 19 - h - 1 = 18; omega]
        rw [cS_18]
        exact arrV_to (fun j hj => by rw [vS_o (by decide)]; exact congrArg Value.ref (by show h + 1 + 18 + 1 + j = h + 19 + 1 + j; omega))
    · rw [shS_r hk hr'] at e
      cases e
      have hb2 : b2 k = 1 ∧ n2 k = 8 ∨ b2 k = 10 ∧ n2 k = 8 ∨ b2 k = 19 ∧ n2 k = 150 := by
        rcases (show k = 0 ∨ k = 1 ∨ k = 2 by omega) with rfl | rfl | rfl
        · exact Or.inl ⟨rfl, rfl⟩
        · exact Or.inr (Or.inl ⟨rfl, rfl⟩)
        · exact Or.inr (Or.inr ⟨rfl, rfl⟩)
      rw [cS_row (by omega) (by omega) (by omega) (by omega)]
      exact arrV_to (fun j hj => by rw [vS_r hk hr']; rfl)
    · rw [shS_a h1 h2'] at e
      cases e
      rcases (show k = 3 ∨ k = 4 ∨ k = 5 ∨ k = 6 ∨ k = 7 ∨ k = 8 by omega) with rfl | rfl | rfl | rfl | rfl | rfl
      · rw [show h + 167 + 3 - h - 1 = 169 by omega, cS_12 (by decide) (by decide)]; exact arrV_to (fun j hj => by rw [vS_e (by decide) (by decide)]; rfl)
      · rw [show h + 167 + 4 - h - 1 = 170 by omega, cS_12 (by decide) (by decide)]; exact arrV_to (fun j hj => by rw [vS_e (by decide) (by decide)]; rfl)
      · rw [show h + 167 + 5 - h - 1 = 171 by omega, cS_12 (by decide) (by decide)]; exact arrV_to (fun j hj => by rw [vS_e (by decide) (by decide)]; rfl)
      · rw [show h + 167 + 6 - h - 1 = 172 by omega, cS_12 (by decide) (by decide)]; exact arrV_to (fun j hj => by rw [vS_e (by decide) (by decide)]; rfl)
      · rw [show h + 167 + 7 - h - 1 = 173 by omega, cS_12 (by decide) (by decide)]; exact arrV_to (fun j hj => by rw [vS_e (by decide) (by decide)]; rfl)
      · rw [show h + 167 + 8 - h - 1 = 174 by omega, cS_174]; exact arrV_to (fun j hj => by rw [vS_e (by decide) (by decide)]; rfl)
def sk0_ : nwM := up_ (up_ (up_ (up_ (up_ (up_ (up_ (up_ (z0_) 8 0 (-1)) 8 1 (-1)) 8 2 (-1)) 8 3 (-1)) 8 4 (-1)) 8 5 (-1)) 8 6 (-1)) 8 7 (-1)
def SkF (D : va_G) (dT : Nat → ClassId) (Z : nwZ) (h : Nat) (H : Heap) : Prop := PS D dT h sk0_ (ρ0_ h) H ∧ ∀ i, i < 4 → LB D dT Z.2.2.1 (h + 176 + i) Z.2.2.1 [] H
def KSp (D : va_G) (dT : Nat → ClassId) (Z : nwZ) (h : Nat) (U : State) : Prop := oF D 1 23 [.null, .null, .null, .null, .null, .null, .null, .null, .null, .null, .null, .null, .null, .int 0, .int 0, .int 0, .int 0, .int 0, .int 0, .int 0, .int 0, .int 0, .int 0] h U.heap ∧ EV D dT U ∧ SV Z U U.heap ∧ vA2 U ∧ Z.1 ≤ h ∧ U.heap.size = h + 1
