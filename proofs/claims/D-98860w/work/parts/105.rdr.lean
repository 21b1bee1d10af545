/-! 105: what a run rests on beside the tables (strings, statics), the Reader's picture -/
set_option maxRecDepth 100000
def bw_when : List Int32 := [119, 104, 101, 110]
def bw_or : List Int32 := [111, 114]
def bw_and : List Int32 := [97, 110, 100]
def bw_not : List Int32 := [110, 111, 116]
def bw_add : List Int32 := [97, 100, 100]
def bw_fade : List Int32 := [102, 97, 100, 101]
def bw_cost : List Int32 := [99, 111, 115, 116]
def bw_kind : List Int32 := [107, 105, 110, 100]
def bw_strength : List Int32 := [115, 116, 114, 101, 110, 103, 116, 104]
def bw_sky : List Int32 := [115, 107, 121]
def bw_all : List Int32 := [97, 108, 108]
def bw_day : List Int32 := [100, 97, 121]
def bw_dead : List Int32 := [100, 101, 97, 100]
def bw_calls : List Int32 := [99, 97, 108, 108, 115]
def bw_today : List Int32 := [116, 111, 100, 97, 121]
def bw_folk : List Int32 := [102, 111, 108, 107]
def bw_quenches : List Int32 := [113, 117, 101, 110, 99, 104, 101, 115]
def bw_by : List Int32 := [98, 121]
def bw_sun : List Int32 := [115, 117, 110]
def bw_rain : List Int32 := [114, 97, 105, 110]
def bw_wind : List Int32 := [119, 105, 110, 100]
def bw_fog : List Int32 := [102, 111, 103]
def bw_hail : List Int32 := [104, 97, 105, 108]
def bw_want : List Int32 := [119, 97, 110, 116]
def bw_clear : List Int32 := [99, 108, 101, 97, 114]
def bw_at : List Int32 := [97, 116]
def bw_on : List Int32 := [111, 110]
def bw_worth : List Int32 := [119, 111, 114, 116, 104]
def bw_call : List Int32 := [99, 97, 108, 108]
def bw_move : List Int32 := [109, 111, 118, 101]
def bw_to : List Int32 := [116, 111]
def bw_bury : List Int32 := [98, 117, 114, 121]
def nwStr : List (Nat × String × List Int32) := [(71, "when", bw_when), (73, "or", bw_or), (75, "and", bw_and), (77, "not", bw_not), (79, "add", bw_add), (81, "fade", bw_fade), (83, "cost", bw_cost), (49, "kind", bw_kind), (55, "strength", bw_strength), (57, "sky", bw_sky), (59, "all", bw_all), (61, "day", bw_day), (63, "dead", bw_dead), (65, "calls", bw_calls), (67, "today", bw_today), (69, "folk", bw_folk), (98, "quenches", bw_quenches), (100, "by", bw_by), (88, "sun", bw_sun), (90, "rain", bw_rain), (92, "wind", bw_wind), (94, "fog", bw_fog), (96, "hail", bw_hail), (105, "want", bw_want), (107, "clear", bw_clear), (109, "at", bw_at), (110, "on", bw_on), (112, "worth", bw_worth), (114, "call", bw_call), (116, "move", bw_move), (118, "to", bw_to), (120, "bury", bw_bury)]
abbrev ge_ (N0 : Nat) : Nat → Prop := fun q => N0 ≤ q
/-- where the new cells begin; the strings' addresses; the empty list's array; its class object -/
abbrev nwZ : Type := Nat × (Nat → Nat) × Nat × Nat
abbrev zDC (e0 : Nat) (A : Nat → Prop) (U : State) (H : Heap) : Prop := va_Z "java/util/ArrayList" "DEFAULTCAPACITY_EMPTY_ELEMENTDATA" "[Ljava/lang/Object;" (.ref e0) A U H ∧ va_T (.object "java/lang/Object") e0 0 (fun _ => .null) A U H
def SV (Z : nwZ) (U : State) (H : Heap) : Prop :=
  (∀ t ∈ nwStr, vk_R "NamesWeather$Reader" t.1 t.2.1 (Z.2.1 t.1) U ∧ sC t.2.2 (Z.2.1 t.1) (ge_ Z.1) U H) ∧ (zCS (ge_ Z.1) U H ∧ zSI (ge_ Z.1) U H) ∧ (vx_Zq Bundle.tN "UNASSIGNED_STACK" Bundle.steD (ge_ Z.1) U H ∧ vx_Zq Bundle.tN "SUPPRESSED_SENTINEL" Bundle.listD (ge_ Z.1) U H) ∧ zDC Z.2.2.1 (ge_ Z.1) U H ∧ va_Mi "[Ljava/lang/Object;" Z.2.2.2 U ∧ va_AO "java/lang/Object" U
theorem SV.warm {Z : nwZ} {s U : State} {H : Heap} (hW : s.WarmedH U.vm) (h : SV Z s H) : SV Z U H :=
  ⟨fun t ht => ⟨(h.1 t ht).1.warm hW, sC.moved hW.alike (h.1 t ht).2⟩, ⟨va_Z.moved hW.alike h.2.1.1, va_Zq.moved hW.alike h.2.1.2⟩, ⟨vx_Zq.moved hW.alike h.2.2.1.1, vx_Zq.moved hW.alike h.2.2.1.2⟩, ⟨va_Z.moved hW.alike h.2.2.2.1.1, va_T.moved hW.alike h.2.2.2.1.2⟩, va_Mi.moved hW.alike h.2.2.2.2.1, va_AO.moved hW.alike h.2.2.2.2.2⟩
theorem SV.same {Z : nwZ} {u U : State} {H : Heap} (e : u.vm = U.vm) (h : SV Z u H) : SV Z U H :=
  have ha : u.vm.Alike U.vm := by rw [e]; exact Vm.Alike.refl _
  ⟨fun t ht => ⟨(h.1 t ht).1.same e.symm, sC.moved ha (h.1 t ht).2⟩, ⟨va_Z.moved ha h.2.1.1, va_Zq.moved ha h.2.1.2⟩, ⟨vx_Zq.moved ha h.2.2.1.1, vx_Zq.moved ha h.2.2.1.2⟩, ⟨va_Z.moved ha h.2.2.2.1.1, va_T.moved ha h.2.2.2.1.2⟩, va_Mi.moved ha h.2.2.2.2.1, va_AO.moved ha h.2.2.2.2.2⟩
theorem SV.kept {Z : nwZ} {U : State} {H H1 : Heap} (h : SV Z U H) (hq : ∀ a : Nat, a < H.size → ¬ Z.1 ≤ a → H1[a]? = H[a]?) : SV Z U H1 :=
  ⟨fun t ht => ⟨(h.1 t ht).1, (h.1 t ht).2.kept hq⟩, ⟨h.2.1.1.kept hq, h.2.1.2.kept hq⟩, ⟨h.2.2.1.1.kept hq, h.2.2.1.2.kept hq⟩, ⟨h.2.2.2.1.1.kept hq, h.2.2.2.1.2.kept hq⟩, h.2.2.2.2⟩
/-- the Reader at a, of the NamesWeather at g; its fields r -/
def rV (g : Nat) (r : nwM) : Nat → Value := fun k => if k = 6 then .ref g else .int (r k 0)
def RD (D : va_G) (a g : Nat) (r : nwM) (H : Heap) : Prop := t_OB a (D.1 3) 7 (D.2 3) H (rV g r)
def rA (a : Nat) : Nat → Prop := fun q => q = a
/-- what the Reader reads and never writes -/
def RB (D : va_G) (dT : Nat → ClassId) (a g : Nat) (ξ : nwM) (β : Nat → Nat) (σ : nwM) (ρ : Nat → Nat) (Z : nwZ) (U : State) : Prop := (GP D dT (shO g) (vO g ξ β) U.heap ∧ PS D dT (skA g 0) σ ρ U.heap) ∧ EV D dT U ∧ SV Z U U.heap ∧ ¬ xA g a ∧ Z.1 ≤ a ∧ Z.1 ≤ g
def RP (D : va_G) (dT : Nat → ClassId) (a g : Nat) (ξ : nwM) (β : Nat → Nat) (σ : nwM) (ρ : Nat → Nat) (Z : nwZ) (r : nwM) (U : State) : Prop := RD D a g r U.heap ∧ RB D dT a g ξ β σ ρ Z U
section RDR
variable {D : va_G} {dT : Nat → ClassId} {a g : Nat} {ξ : nwM} {β : Nat → Nat} {σ : nwM} {ρ : Nat → Nat} {Z : nwZ} {r : nwM} {s : State} {H : Heap} {locs : List Loc} {A : Nat → Prop}
theorem RB_at (hB : RB D dT a g ξ β σ ρ Z s) (hS : va_S A s.heap H locs) (hA : ∀ q, A q → q = a ∨ s.heap.size ≤ q) : GP D dT (shO g) (vO g ξ β) H ∧ PS D dT (skA g 0) σ ρ H := by
  obtain ⟨⟨h1, h2⟩, -, -, h3, -⟩ := hB
  have hq : ∀ q, xA g q → q < s.heap.size → H[q]? = s.heap[q]? := fun q hx hz => hS.2.1 q hz (fun z => by
    rcases hA q z with rfl | h
    · exact h3 hx
    · omega)
  exact ⟨h1.kept (fun q z => hq q (xA_o (shO_in z)) (h1.lt z)), h2.kept (fun q z => hq q (xA_s (by decide) (shS_in z)) (h2.lt z))⟩
theorem RB_sv (hB : RB D dT a g ξ β σ ρ Z s) (hS : va_S A s.heap H locs) (hA : ∀ q, A q → q = a ∨ s.heap.size ≤ q) : SV Z s H := by
  obtain ⟨⟨h1, h2⟩, -, h5, h3, h4, h6⟩ := hB
  refine h5.kept (fun q hz hn => hS.2.1 q hz (fun z => ?_))
  rcases hA q z with rfl | h
  · exact hn h4
  · omega
theorem RB_mv {U : State} (hB : RB D dT a g ξ β σ ρ Z s) (hS : va_S A s.heap H locs) (hA : ∀ q, A q → q = a ∨ s.heap.size ≤ q) (hU : U.heap = H) (hW : s.WarmedH U.vm) : RB D dT a g ξ β σ ρ Z U := by
  subst hU
  exact ⟨RB_at hB hS hA, hB.2.1.warm hW, (RB_sv hB hS hA).warm hW, hB.2.2.2⟩
theorem RP_pre (hB : RB D dT a g ξ β σ ρ Z s) (hP : RD D a g r H) (hS : va_S A s.heap H locs) (hA : ∀ q, A q → q = a ∨ s.heap.size ≤ q) : ∀ U : State, U.heap = H → s.WarmedH U.vm → RP D dT a g ξ β σ ρ Z r U := fun U hU hW => ⟨by rw [hU]; exact hP, RB_mv hB hS hA hU hW⟩
theorem RB_bl (U : State) (f : JFrame) (mk : MethodId) (x : Array Value) (h : RB D dT a g ξ β σ ρ Z U) : RB D dT a g ξ β σ ρ Z (U.calling f mk x) := ⟨h.1, h.2.1.same (u := U) (U := U.calling f mk x) rfl, h.2.2.1.same (u := U) (U := U.calling f mk x) rfl, h.2.2.2⟩
theorem RP_bl : ∀ (U : State) (f : JFrame) (mk : MethodId) (x : Array Value), RP D dT a g ξ β σ ρ Z r U → RP D dT a g ξ β σ ρ Z r (U.calling f mk x) := fun U f mk x h => ⟨h.1, RB_bl U f mk x h.2⟩
theorem RD_recv (hK : va_K D nwCl (nwT dT) s) (hP : RD D a g r H) : ∃ cell : Cell, H[a]? = some cell ∧ cell.vm.isStatics = false ∧ s.vm.findClass RX3 = some cell.cls := g_recv hK (oneO (dT := dT) hP) (if_pos rfl) rfl
theorem RD_put {k : Nat} {x : Int32} {r1 : nwM} (hk : k ≠ 6) (hw : wf_ r k x = some r1) (hG : GP D dT (fun b => if b = a then some (.inl (3, 7)) else none) (upV (fun _ => rV g r) a (updV (rV g r) k (.int x))) H) : RD D a g r1 H := by
  cases hw
  have h := hG.1 a 3 7 (if_pos rfl)
  rw [upV_self] at h
  refine h.to (fun j _ => ?_)
  unfold updV rV
  by_cases e : j = k
  · subst e
    rw [if_pos rfl, if_neg hk, up_same]
  · rw [if_neg e, up_k e]
theorem RD_same {H1 : Heap} (hP : RD D a g r H) (hq : ∀ q, q < H.size → H1[q]? = H[q]?) : RD D a g r H1 := by
  obtain ⟨cell, h1, h2⟩ := hP
  exact ⟨cell, by rw [hq a (Array.getElem?_eq_some_iff.mp h1).1]; exact h1, h2⟩
theorem RB_str (hB : RB D dT a g ξ β σ ρ Z s) {k : Nat} {tx : String} {bs : List Int32} (hm : (k, tx, bs) ∈ nwStr) : vk_R RX3 k tx (Z.2.1 k) s := (hB.2.2.1.1 _ hm).1
theorem RB_sc (hB : RB D dT a g ξ β σ ρ Z s) {k : Nat} {tx : String} {bs : List Int32} (hm : (k, tx, bs) ∈ nwStr) : sC bs (Z.2.1 k) (ge_ Z.1) s s.heap := (hB.2.2.1.1 _ hm).2
end RDR
theorem sx_when : (71, "when", bw_when) ∈ nwStr := List.mem_of_getElem? (i := 0) rfl
theorem sx_or : (73, "or", bw_or) ∈ nwStr := List.mem_of_getElem? (i := 1) rfl
theorem sx_and : (75, "and", bw_and) ∈ nwStr := List.mem_of_getElem? (i := 2) rfl
theorem sx_not : (77, "not", bw_not) ∈ nwStr := List.mem_of_getElem? (i := 3) rfl
theorem sx_add : (79, "add", bw_add) ∈ nwStr := List.mem_of_getElem? (i := 4) rfl
theorem sx_fade : (81, "fade", bw_fade) ∈ nwStr := List.mem_of_getElem? (i := 5) rfl
theorem sx_cost : (83, "cost", bw_cost) ∈ nwStr := List.mem_of_getElem? (i := 6) rfl
theorem sx_kind : (49, "kind", bw_kind) ∈ nwStr := List.mem_of_getElem? (i := 7) rfl
theorem sx_strength : (55, "strength", bw_strength) ∈ nwStr := List.mem_of_getElem? (i := 8) rfl
theorem sx_sky : (57, "sky", bw_sky) ∈ nwStr := List.mem_of_getElem? (i := 9) rfl
theorem sx_all : (59, "all", bw_all) ∈ nwStr := List.mem_of_getElem? (i := 10) rfl
theorem sx_day : (61, "day", bw_day) ∈ nwStr := List.mem_of_getElem? (i := 11) rfl
theorem sx_dead : (63, "dead", bw_dead) ∈ nwStr := List.mem_of_getElem? (i := 12) rfl
theorem sx_calls : (65, "calls", bw_calls) ∈ nwStr := List.mem_of_getElem? (i := 13) rfl
theorem sx_today : (67, "today", bw_today) ∈ nwStr := List.mem_of_getElem? (i := 14) rfl
theorem sx_folk : (69, "folk", bw_folk) ∈ nwStr := List.mem_of_getElem? (i := 15) rfl
theorem sx_quenches : (98, "quenches", bw_quenches) ∈ nwStr := List.mem_of_getElem? (i := 16) rfl
theorem sx_by : (100, "by", bw_by) ∈ nwStr := List.mem_of_getElem? (i := 17) rfl
theorem sx_sun : (88, "sun", bw_sun) ∈ nwStr := List.mem_of_getElem? (i := 18) rfl
theorem sx_rain : (90, "rain", bw_rain) ∈ nwStr := List.mem_of_getElem? (i := 19) rfl
theorem sx_wind : (92, "wind", bw_wind) ∈ nwStr := List.mem_of_getElem? (i := 20) rfl
theorem sx_fog : (94, "fog", bw_fog) ∈ nwStr := List.mem_of_getElem? (i := 21) rfl
theorem sx_hail : (96, "hail", bw_hail) ∈ nwStr := List.mem_of_getElem? (i := 22) rfl
theorem sx_want : (105, "want", bw_want) ∈ nwStr := List.mem_of_getElem? (i := 23) rfl
theorem sx_clear : (107, "clear", bw_clear) ∈ nwStr := List.mem_of_getElem? (i := 24) rfl
theorem sx_at : (109, "at", bw_at) ∈ nwStr := List.mem_of_getElem? (i := 25) rfl
theorem sx_on : (110, "on", bw_on) ∈ nwStr := List.mem_of_getElem? (i := 26) rfl
theorem sx_worth : (112, "worth", bw_worth) ∈ nwStr := List.mem_of_getElem? (i := 27) rfl
theorem sx_call : (114, "call", bw_call) ∈ nwStr := List.mem_of_getElem? (i := 28) rfl
theorem sx_move : (116, "move", bw_move) ∈ nwStr := List.mem_of_getElem? (i := 29) rfl
theorem sx_to : (118, "to", bw_to) ∈ nwStr := List.mem_of_getElem? (i := 30) rfl
theorem sx_bury : (120, "bury", bw_bury) ∈ nwStr := List.mem_of_getElem? (i := 31) rfl
