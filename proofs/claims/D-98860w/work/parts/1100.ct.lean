/-! walks, written by my programs -/
set_option maxRecDepth 100000
set_option maxHeartbeats 4000000 in
theorem dc_Term_5 : dN yX5_init 0 := ⟨by decide +kernel, by decide +kernel, by decide +kernel⟩
set_option maxHeartbeats 4000000 in
theorem tc_Term_5 (l : Launch) (D : va_G) (dT : Nat → ClassId) (q : Nat) : Met l yX5_init (ws_ yX5_init cX5_init 1 none) (rmd 1) (va_Pc [.ref q] (oFP D dT 5 1 [.int 0] q)) (va_Qv (fun (_ : Unit) => True) (fun _ t => oF D 5 1 [.int 0] q t.heap) (eqA q)) 0 0 (eqA q) := by
  refine k_met (own := RX5) (by decide) rfl (Nat.le_of_ble_eq_true rfl) ?_
  intro p e s m below meth c ls E hP hr hlk hl hnm
  obtain ⟨hP, hE⟩ := hP
  obtain ⟨hx, hb, hml, hown, hts⟩ := id E
  have hS : va_S (eqA q) s.heap s.heap [] := va_S.rf
  have hl : lv_has ls 1 [(0, .ref q)] := hl
  refine lv_aload_n hx hb dX5_init_0 rfl (lv_at hl 0 rfl) ?_
  refine W.objInit hx hb hown (hts _ q657) (hts _ q201) (hts _ q202) rfl (by rw [hml]; exact hl.1) rfl dX5_init_1 (Nat.le_of_ble_eq_true rfl) (Nat.le_of_ble_eq_true rfl) ?_
  exact g_vret (Pic := fun H => oF D 5 1 [.int 0] q H) E hr hlk hP hS dX5_init_4
set_option maxHeartbeats 4000000 in
theorem dc_Term_6 : dN yX5_init 0 := ⟨by decide +kernel, by decide +kernel, by decide +kernel⟩
set_option maxHeartbeats 4000000 in
theorem tc_Term_6 (l : Launch) (D : va_G) (dT : Nat → ClassId) (q : Nat) : Met l yX5_init (ws_ yX5_init cX5_init 1 none) (rmd 1) (va_Pc [.ref q] (oFP D dT 6 1 [.int 0] q)) (va_Qv (fun (_ : Unit) => True) (fun _ t => oF D 6 1 [.int 0] q t.heap) (eqA q)) 0 0 (eqA q) := by
  refine k_met (own := RX5) (by decide) rfl (Nat.le_of_ble_eq_true rfl) ?_
  intro p e s m below meth c ls E hP hr hlk hl hnm
  obtain ⟨hP, hE⟩ := hP
  obtain ⟨hx, hb, hml, hown, hts⟩ := id E
  have hS : va_S (eqA q) s.heap s.heap [] := va_S.rf
  have hl : lv_has ls 1 [(0, .ref q)] := hl
  refine lv_aload_n hx hb dX5_init_0 rfl (lv_at hl 0 rfl) ?_
  refine W.objInit hx hb hown (hts _ q657) (hts _ q201) (hts _ q202) rfl (by rw [hml]; exact hl.1) rfl dX5_init_1 (Nat.le_of_ble_eq_true rfl) (Nat.le_of_ble_eq_true rfl) ?_
  exact g_vret (Pic := fun H => oF D 6 1 [.int 0] q H) E hr hlk hP hS dX5_init_4
set_option maxHeartbeats 4000000 in
theorem dc_Term_7 : dN yX5_init 0 := ⟨by decide +kernel, by decide +kernel, by decide +kernel⟩
set_option maxHeartbeats 4000000 in
theorem tc_Term_7 (l : Launch) (D : va_G) (dT : Nat → ClassId) (q : Nat) : Met l yX5_init (ws_ yX5_init cX5_init 1 none) (rmd 1) (va_Pc [.ref q] (oFP D dT 7 3 [.null, .null, .int 0] q)) (va_Qv (fun (_ : Unit) => True) (fun _ t => oF D 7 3 [.null, .null, .int 0] q t.heap) (eqA q)) 0 0 (eqA q) := by
  refine k_met (own := RX5) (by decide) rfl (Nat.le_of_ble_eq_true rfl) ?_
  intro p e s m below meth c ls E hP hr hlk hl hnm
  obtain ⟨hP, hE⟩ := hP
  obtain ⟨hx, hb, hml, hown, hts⟩ := id E
  have hS : va_S (eqA q) s.heap s.heap [] := va_S.rf
  have hl : lv_has ls 1 [(0, .ref q)] := hl
  refine lv_aload_n hx hb dX5_init_0 rfl (lv_at hl 0 rfl) ?_
  refine W.objInit hx hb hown (hts _ q657) (hts _ q201) (hts _ q202) rfl (by rw [hml]; exact hl.1) rfl dX5_init_1 (Nat.le_of_ble_eq_true rfl) (Nat.le_of_ble_eq_true rfl) ?_
  exact g_vret (Pic := fun H => oF D 7 3 [.null, .null, .int 0] q H) E hr hlk hP hS dX5_init_4
set_option maxHeartbeats 4000000 in
theorem dc_Term_8 : dN yX5_init 0 := ⟨by decide +kernel, by decide +kernel, by decide +kernel⟩
set_option maxHeartbeats 4000000 in
theorem tc_Term_8 (l : Launch) (D : va_G) (dT : Nat → ClassId) (q : Nat) : Met l yX5_init (ws_ yX5_init cX5_init 1 none) (rmd 1) (va_Pc [.ref q] (oFP D dT 8 1 [.null] q)) (va_Qv (fun (_ : Unit) => True) (fun _ t => oF D 8 1 [.null] q t.heap) (eqA q)) 0 0 (eqA q) := by
  refine k_met (own := RX5) (by decide) rfl (Nat.le_of_ble_eq_true rfl) ?_
  intro p e s m below meth c ls E hP hr hlk hl hnm
  obtain ⟨hP, hE⟩ := hP
  obtain ⟨hx, hb, hml, hown, hts⟩ := id E
  have hS : va_S (eqA q) s.heap s.heap [] := va_S.rf
  have hl : lv_has ls 1 [(0, .ref q)] := hl
  refine lv_aload_n hx hb dX5_init_0 rfl (lv_at hl 0 rfl) ?_
  refine W.objInit hx hb hown (hts _ q657) (hts _ q201) (hts _ q202) rfl (by rw [hml]; exact hl.1) rfl dX5_init_1 (Nat.le_of_ble_eq_true rfl) (Nat.le_of_ble_eq_true rfl) ?_
  exact g_vret (Pic := fun H => oF D 8 1 [.null] q H) E hr hlk hP hS dX5_init_4
set_option maxHeartbeats 4000000 in
theorem dc_Want_11 : dN yX12_init 3 := ⟨by decide +kernel, by decide +kernel, by decide +kernel⟩
set_option maxHeartbeats 4000000 in
theorem tc_Want_11 (l : Launch) (D : va_G) (dT : Nat → ClassId) (q : Nat) (x1 : Int32) (x2 : Int32) (x3 : Int32) : Met l yX12_init (ws_ yX12_init cX12_init 4 none) (rmd 1) (va_Pc [.ref q, .int x1, .int x2, .int x3] (oFP D dT 11 3 [.int 0, .int 0, .int 0] q)) (va_Qv (fun (_ : Unit) => True) (fun _ t => oF D 11 3 [.int x1, .int x2, .int x3] q t.heap) (eqA q)) 0 0 (eqA q) := by
  refine k_met (own := RX12) (by decide) rfl (Nat.le_of_ble_eq_true rfl) ?_
  intro p e s m below meth c ls E hP hr hlk hl hnm
  obtain ⟨hP, hE⟩ := hP
  obtain ⟨hx, hb, hml, hown, hts⟩ := id E
  have hS : va_S (eqA q) s.heap s.heap [] := va_S.rf
  have hl : lv_has ls 4 [(0, .ref q), (1, .int x1), (2, .int x2), (3, .int x3)] := hl
  refine lv_aload_n hx hb dX12_init_0 rfl (lv_at hl 0 rfl) ?_
  refine W.objInit hx hb hown (hts _ q853) (hts _ q201) (hts _ q202) rfl (by rw [hml]; exact hl.1) rfl dX12_init_1 (Nat.le_of_ble_eq_true rfl) (Nat.le_of_ble_eq_true rfl) ?_
  refine lv_aload_n hx hb dX12_init_4 rfl (lv_at hl 0 rfl) ?_
  refine lv_iload_n hx hb dX12_init_5 rfl (lv_at hl 1 rfl) ?_
  refine gp_putF (C := RX13) (T := TX13) (ty := .int) E hE.1 (oneO (dT := dT) hP) hS rfl (if_pos rfl) rfl in_X13 tyX13 tyX13_ok nmX13 0 (by decide) (hts _ q854) (fun _ z => z) rfl hnm rfl rfl rfl rfl dX12_init_6 (fun H locs hP _ hS => ?_)
  have hP : oF D 11 3 [.int x1, .int 0, .int 0] q H := cf_put (Nat.le_of_ble_eq_true rfl) hP
  refine lv_aload_n hx hb dX12_init_9 rfl (lv_at hl 0 rfl) ?_
  refine lv_iload_n hx hb dX12_init_10 rfl (lv_at hl 2 rfl) ?_
  refine gp_putF (C := RX13) (T := TX13) (ty := .int) E hE.1 (oneO (dT := dT) hP) hS rfl (if_pos rfl) rfl in_X13 tyX13 tyX13_ok nmX13 1 (by decide) (hts _ q855) (fun _ z => z) rfl hnm rfl rfl rfl rfl dX12_init_11 (fun H locs hP _ hS => ?_)
  have hP : oF D 11 3 [.int x1, .int x2, .int 0] q H := cf_put (Nat.le_of_ble_eq_true rfl) hP
  refine lv_aload_n hx hb dX12_init_14 rfl (lv_at hl 0 rfl) ?_
  refine lv_iload_n hx hb dX12_init_15 rfl (lv_at hl 3 rfl) ?_
  refine gp_putF (C := RX13) (T := TX13) (ty := .int) E hE.1 (oneO (dT := dT) hP) hS rfl (if_pos rfl) rfl in_X13 tyX13 tyX13_ok nmX13 2 (by decide) (hts _ q857) (fun _ z => z) rfl hnm rfl rfl rfl rfl dX12_init_16 (fun H locs hP _ hS => ?_)
  have hP : oF D 11 3 [.int x1, .int x2, .int x3] q H := cf_put (Nat.le_of_ble_eq_true rfl) hP
  exact g_vret (Pic := fun H => oF D 11 3 [.int x1, .int x2, .int x3] q H) E hr hlk hP hS dX12_init_19
set_option maxHeartbeats 4000000 in
theorem dc_Want_12 : dN yX12_init 3 := ⟨by decide +kernel, by decide +kernel, by decide +kernel⟩
set_option maxHeartbeats 4000000 in
theorem tc_Want_12 (l : Launch) (D : va_G) (dT : Nat → ClassId) (q : Nat) (x1 : Int32) (x2 : Int32) (x3 : Int32) : Met l yX12_init (ws_ yX12_init cX12_init 4 none) (rmd 1) (va_Pc [.ref q, .int x1, .int x2, .int x3] (oFP D dT 12 5 [.int 0, .int 0, .int 0, .int 0, .int 0] q)) (va_Qv (fun (_ : Unit) => True) (fun _ t => oF D 12 5 [.int x1, .int x2, .int x3, .int 0, .int 0] q t.heap) (eqA q)) 0 0 (eqA q) := by
  refine k_met (own := RX12) (by decide) rfl (Nat.le_of_ble_eq_true rfl) ?_
  intro p e s m below meth c ls E hP hr hlk hl hnm
  obtain ⟨hP, hE⟩ := hP
  obtain ⟨hx, hb, hml, hown, hts⟩ := id E
  have hS : va_S (eqA q) s.heap s.heap [] := va_S.rf
  have hl : lv_has ls 4 [(0, .ref q), (1, .int x1), (2, .int x2), (3, .int x3)] := hl
  refine lv_aload_n hx hb dX12_init_0 rfl (lv_at hl 0 rfl) ?_
  refine W.objInit hx hb hown (hts _ q853) (hts _ q201) (hts _ q202) rfl (by rw [hml]; exact hl.1) rfl dX12_init_1 (Nat.le_of_ble_eq_true rfl) (Nat.le_of_ble_eq_true rfl) ?_
  refine lv_aload_n hx hb dX12_init_4 rfl (lv_at hl 0 rfl) ?_
  refine lv_iload_n hx hb dX12_init_5 rfl (lv_at hl 1 rfl) ?_
  refine gp_putF (C := RX14) (T := TX14) (ty := .int) E hE.1 (oneO (dT := dT) hP) hS rfl (if_pos rfl) rfl in_X14 tyX14 tyX14_ok nmX14 0 (by decide) (hts _ q854) (fun _ z => z) rfl hnm rfl rfl rfl rfl dX12_init_6 (fun H locs hP _ hS => ?_)
  have hP : oF D 12 5 [.int x1, .int 0, .int 0, .int 0, .int 0] q H := cf_put (Nat.le_of_ble_eq_true rfl) hP
  refine lv_aload_n hx hb dX12_init_9 rfl (lv_at hl 0 rfl) ?_
  refine lv_iload_n hx hb dX12_init_10 rfl (lv_at hl 2 rfl) ?_
  refine gp_putF (C := RX14) (T := TX14) (ty := .int) E hE.1 (oneO (dT := dT) hP) hS rfl (if_pos rfl) rfl in_X14 tyX14 tyX14_ok nmX14 1 (by decide) (hts _ q855) (fun _ z => z) rfl hnm rfl rfl rfl rfl dX12_init_11 (fun H locs hP _ hS => ?_)
  have hP : oF D 12 5 [.int x1, .int x2, .int 0, .int 0, .int 0] q H := cf_put (Nat.le_of_ble_eq_true rfl) hP
  refine lv_aload_n hx hb dX12_init_14 rfl (lv_at hl 0 rfl) ?_
  refine lv_iload_n hx hb dX12_init_15 rfl (lv_at hl 3 rfl) ?_
  refine gp_putF (C := RX14) (T := TX14) (ty := .int) E hE.1 (oneO (dT := dT) hP) hS rfl (if_pos rfl) rfl in_X14 tyX14 tyX14_ok nmX14 2 (by decide) (hts _ q857) (fun _ z => z) rfl hnm rfl rfl rfl rfl dX12_init_16 (fun H locs hP _ hS => ?_)
  have hP : oF D 12 5 [.int x1, .int x2, .int x3, .int 0, .int 0] q H := cf_put (Nat.le_of_ble_eq_true rfl) hP
  exact g_vret (Pic := fun H => oF D 12 5 [.int x1, .int x2, .int x3, .int 0, .int 0] q H) E hr hlk hP hS dX12_init_19
set_option maxHeartbeats 4000000 in
theorem dc_Deed_13 : dN yX15_init 2 := ⟨by decide +kernel, by decide +kernel, by decide +kernel⟩
set_option maxHeartbeats 4000000 in
theorem tc_Deed_13 (l : Launch) (D : va_G) (dT : Nat → ClassId) (q : Nat) (x1 : Int32) (x2 : Int32) : Met l yX15_init (ws_ yX15_init cX15_init 3 none) (rmd 1) (va_Pc [.ref q, .int x1, .int x2] (oFP D dT 13 2 [.int 0, .int 0] q)) (va_Qv (fun (_ : Unit) => True) (fun _ t => oF D 13 2 [.int x1, .int x2] q t.heap) (eqA q)) 0 0 (eqA q) := by
  refine k_met (own := RX15) (by decide) rfl (Nat.le_of_ble_eq_true rfl) ?_
  intro p e s m below meth c ls E hP hr hlk hl hnm
  obtain ⟨hP, hE⟩ := hP
  obtain ⟨hx, hb, hml, hown, hts⟩ := id E
  have hS : va_S (eqA q) s.heap s.heap [] := va_S.rf
  have hl : lv_has ls 3 [(0, .ref q), (1, .int x1), (2, .int x2)] := hl
  refine lv_aload_n hx hb dX15_init_0 rfl (lv_at hl 0 rfl) ?_
  refine W.objInit hx hb hown (hts _ q898) (hts _ q201) (hts _ q202) rfl (by rw [hml]; exact hl.1) rfl dX15_init_1 (Nat.le_of_ble_eq_true rfl) (Nat.le_of_ble_eq_true rfl) ?_
  refine lv_aload_n hx hb dX15_init_4 rfl (lv_at hl 0 rfl) ?_
  refine lv_iload_n hx hb dX15_init_5 rfl (lv_at hl 1 rfl) ?_
  refine gp_putF (C := RX16) (T := TX16) (ty := .int) E hE.1 (oneO (dT := dT) hP) hS rfl (if_pos rfl) rfl in_X16 tyX16 tyX16_ok nmX16 0 (by decide) (hts _ q899) (fun _ z => z) rfl hnm rfl rfl rfl rfl dX15_init_6 (fun H locs hP _ hS => ?_)
  have hP : oF D 13 2 [.int x1, .int 0] q H := cf_put (Nat.le_of_ble_eq_true rfl) hP
  refine lv_aload_n hx hb dX15_init_9 rfl (lv_at hl 0 rfl) ?_
  refine lv_iload_n hx hb dX15_init_10 rfl (lv_at hl 2 rfl) ?_
  refine gp_putF (C := RX16) (T := TX16) (ty := .int) E hE.1 (oneO (dT := dT) hP) hS rfl (if_pos rfl) rfl in_X16 tyX16 tyX16_ok nmX16 1 (by decide) (hts _ q900) (fun _ z => z) rfl hnm rfl rfl rfl rfl dX15_init_11 (fun H locs hP _ hS => ?_)
  have hP : oF D 13 2 [.int x1, .int x2] q H := cf_put (Nat.le_of_ble_eq_true rfl) hP
  exact g_vret (Pic := fun H => oF D 13 2 [.int x1, .int x2] q H) E hr hlk hP hS dX15_init_14
set_option maxHeartbeats 4000000 in
theorem dc_Deed_14 : dN yX15_init 2 := ⟨by decide +kernel, by decide +kernel, by decide +kernel⟩
set_option maxHeartbeats 4000000 in
theorem tc_Deed_14 (l : Launch) (D : va_G) (dT : Nat → ClassId) (q : Nat) (x1 : Int32) (x2 : Int32) : Met l yX15_init (ws_ yX15_init cX15_init 3 none) (rmd 1) (va_Pc [.ref q, .int x1, .int x2] (oFP D dT 14 3 [.int 0, .int 0, .int 0] q)) (va_Qv (fun (_ : Unit) => True) (fun _ t => oF D 14 3 [.int x1, .int x2, .int 0] q t.heap) (eqA q)) 0 0 (eqA q) := by
  refine k_met (own := RX15) (by decide) rfl (Nat.le_of_ble_eq_true rfl) ?_
  intro p e s m below meth c ls E hP hr hlk hl hnm
  obtain ⟨hP, hE⟩ := hP
  obtain ⟨hx, hb, hml, hown, hts⟩ := id E
  have hS : va_S (eqA q) s.heap s.heap [] := va_S.rf
  have hl : lv_has ls 3 [(0, .ref q), (1, .int x1), (2, .int x2)] := hl
  refine lv_aload_n hx hb dX15_init_0 rfl (lv_at hl 0 rfl) ?_
  refine W.objInit hx hb hown (hts _ q898) (hts _ q201) (hts _ q202) rfl (by rw [hml]; exact hl.1) rfl dX15_init_1 (Nat.le_of_ble_eq_true rfl) (Nat.le_of_ble_eq_true rfl) ?_
  refine lv_aload_n hx hb dX15_init_4 rfl (lv_at hl 0 rfl) ?_
  refine lv_iload_n hx hb dX15_init_5 rfl (lv_at hl 1 rfl) ?_
  refine gp_putF (C := RX17) (T := TX17) (ty := .int) E hE.1 (oneO (dT := dT) hP) hS rfl (if_pos rfl) rfl in_X17 tyX17 tyX17_ok nmX17 0 (by decide) (hts _ q899) (fun _ z => z) rfl hnm rfl rfl rfl rfl dX15_init_6 (fun H locs hP _ hS => ?_)
  have hP : oF D 14 3 [.int x1, .int 0, .int 0] q H := cf_put (Nat.le_of_ble_eq_true rfl) hP
  refine lv_aload_n hx hb dX15_init_9 rfl (lv_at hl 0 rfl) ?_
  refine lv_iload_n hx hb dX15_init_10 rfl (lv_at hl 2 rfl) ?_
  refine gp_putF (C := RX17) (T := TX17) (ty := .int) E hE.1 (oneO (dT := dT) hP) hS rfl (if_pos rfl) rfl in_X17 tyX17 tyX17_ok nmX17 1 (by decide) (hts _ q900) (fun _ z => z) rfl hnm rfl rfl rfl rfl dX15_init_11 (fun H locs hP _ hS => ?_)
  have hP : oF D 14 3 [.int x1, .int x2, .int 0] q H := cf_put (Nat.le_of_ble_eq_true rfl) hP
  exact g_vret (Pic := fun H => oF D 14 3 [.int x1, .int x2, .int 0] q H) E hr hlk hP hS dX15_init_14
set_option maxHeartbeats 4000000 in
theorem dc_Deed_15 : dN yX15_init 2 := ⟨by decide +kernel, by decide +kernel, by decide +kernel⟩
set_option maxHeartbeats 4000000 in
theorem tc_Deed_15 (l : Launch) (D : va_G) (dT : Nat → ClassId) (q : Nat) (x1 : Int32) (x2 : Int32) : Met l yX15_init (ws_ yX15_init cX15_init 3 none) (rmd 1) (va_Pc [.ref q, .int x1, .int x2] (oFP D dT 15 3 [.int 0, .int 0, .int 0] q)) (va_Qv (fun (_ : Unit) => True) (fun _ t => oF D 15 3 [.int x1, .int x2, .int 0] q t.heap) (eqA q)) 0 0 (eqA q) := by
  refine k_met (own := RX15) (by decide) rfl (Nat.le_of_ble_eq_true rfl) ?_
  intro p e s m below meth c ls E hP hr hlk hl hnm
  obtain ⟨hP, hE⟩ := hP
  obtain ⟨hx, hb, hml, hown, hts⟩ := id E
  have hS : va_S (eqA q) s.heap s.heap [] := va_S.rf
  have hl : lv_has ls 3 [(0, .ref q), (1, .int x1), (2, .int x2)] := hl
  refine lv_aload_n hx hb dX15_init_0 rfl (lv_at hl 0 rfl) ?_
  refine W.objInit hx hb hown (hts _ q898) (hts _ q201) (hts _ q202) rfl (by rw [hml]; exact hl.1) rfl dX15_init_1 (Nat.le_of_ble_eq_true rfl) (Nat.le_of_ble_eq_true rfl) ?_
  refine lv_aload_n hx hb dX15_init_4 rfl (lv_at hl 0 rfl) ?_
  refine lv_iload_n hx hb dX15_init_5 rfl (lv_at hl 1 rfl) ?_
  refine gp_putF (C := RX18) (T := TX18) (ty := .int) E hE.1 (oneO (dT := dT) hP) hS rfl (if_pos rfl) rfl in_X18 tyX18 tyX18_ok nmX18 0 (by decide) (hts _ q899) (fun _ z => z) rfl hnm rfl rfl rfl rfl dX15_init_6 (fun H locs hP _ hS => ?_)
  have hP : oF D 15 3 [.int x1, .int 0, .int 0] q H := cf_put (Nat.le_of_ble_eq_true rfl) hP
  refine lv_aload_n hx hb dX15_init_9 rfl (lv_at hl 0 rfl) ?_
  refine lv_iload_n hx hb dX15_init_10 rfl (lv_at hl 2 rfl) ?_
  refine gp_putF (C := RX18) (T := TX18) (ty := .int) E hE.1 (oneO (dT := dT) hP) hS rfl (if_pos rfl) rfl in_X18 tyX18 tyX18_ok nmX18 1 (by decide) (hts _ q900) (fun _ z => z) rfl hnm rfl rfl rfl rfl dX15_init_11 (fun H locs hP _ hS => ?_)
  have hP : oF D 15 3 [.int x1, .int x2, .int 0] q H := cf_put (Nat.le_of_ble_eq_true rfl) hP
  exact g_vret (Pic := fun H => oF D 15 3 [.int x1, .int x2, .int 0] q H) E hr hlk hP hS dX15_init_14
set_option maxHeartbeats 4000000 in
theorem dc_Fixed : dN yX6_init 1 := ⟨by decide +kernel, by decide +kernel, by decide +kernel⟩
set_option maxHeartbeats 4000000 in
theorem tc_Fixed (l : Launch) (D : va_G) (dT : Nat → ClassId) (q : Nat) (x1 : Int32) : Met l yX6_init (ws_ yX6_init cX6_init 2 none) (rmd 2) (va_Pc [.ref q, .int x1] (oFP D dT 5 1 [.int 0] q)) (va_Qv (fun (_ : Unit) => True) (fun _ t => oF D 5 1 [.int x1] q t.heap) (eqA q)) 0 0 (eqA q) := by
  refine k_met (own := RX6) (by decide) rfl (Nat.le_of_ble_eq_true rfl) ?_
  intro p e s m below meth c ls E hP hr hlk hl hnm
  obtain ⟨hP, hE⟩ := hP
  obtain ⟨hx, hb, hml, hown, hts⟩ := id E
  have hS : va_S (eqA q) s.heap s.heap [] := va_S.rf
  have hl : lv_has ls 2 [(0, .ref q), (1, .int x1)] := hl
  refine lv_aload_n hx hb dX6_init_0 rfl (lv_at hl 0 rfl) ?_
  refine k_ivN (Pic := oFP D dT 5 1 [.int 0] q) (Pic1 := fun H => oF D 5 1 [.int 0] q H) (A1 := eqA q) E hS (fun _ _ z => z) (fun _ z => z) (As := []) (tc_Term_5 l D dT q) oFP_bl (oFP_pre hP hE) (nmw_2 hE.2) q655 q175 q656 rfl dc_Term_5 rfl ⟨rfl, rfl⟩ (rmd_ok (by decide) (by decide)) ⟨Nat.le_refl 0, Nat.le_refl 0⟩ hl rfl (Nat.le_of_ble_eq_true rfl) dX6_init_1 (fun H locs hP _ _ hS => ?_)
  refine lv_aload_n hx hb dX6_init_4 rfl (lv_at hl 0 rfl) ?_
  refine lv_iload_n hx hb dX6_init_5 rfl (lv_at hl 1 rfl) ?_
  refine gp_putF (C := RX6) (T := TX6) (ty := .int) E hE.1 (oneO (dT := dT) hP) hS rfl (if_pos rfl) rfl in_X6 tyX6 tyX6_ok nmX6 0 (by decide) (hts _ q658) (fun _ z => z) rfl hnm rfl rfl rfl rfl dX6_init_6 (fun H locs hP _ hS => ?_)
  have hP : oF D 5 1 [.int x1] q H := cf_put (Nat.le_of_ble_eq_true rfl) hP
  exact g_vret (Pic := fun H => oF D 5 1 [.int x1] q H) E hr hlk hP hS dX6_init_9
set_option maxHeartbeats 4000000 in
theorem dc_Known : dN yX7_init 1 := ⟨by decide +kernel, by decide +kernel, by decide +kernel⟩
set_option maxHeartbeats 4000000 in
theorem tc_Known (l : Launch) (D : va_G) (dT : Nat → ClassId) (q : Nat) (x1 : Int32) : Met l yX7_init (ws_ yX7_init cX7_init 2 none) (rmd 2) (va_Pc [.ref q, .int x1] (oFP D dT 6 1 [.int 0] q)) (va_Qv (fun (_ : Unit) => True) (fun _ t => oF D 6 1 [.int x1] q t.heap) (eqA q)) 0 0 (eqA q) := by
  refine k_met (own := RX7) (by decide) rfl (Nat.le_of_ble_eq_true rfl) ?_
  intro p e s m below meth c ls E hP hr hlk hl hnm
  obtain ⟨hP, hE⟩ := hP
  obtain ⟨hx, hb, hml, hown, hts⟩ := id E
  have hS : va_S (eqA q) s.heap s.heap [] := va_S.rf
  have hl : lv_has ls 2 [(0, .ref q), (1, .int x1)] := hl
  refine lv_aload_n hx hb dX7_init_0 rfl (lv_at hl 0 rfl) ?_
  refine k_ivN (Pic := oFP D dT 6 1 [.int 0] q) (Pic1 := fun H => oF D 6 1 [.int 0] q H) (A1 := eqA q) E hS (fun _ _ z => z) (fun _ z => z) (As := []) (tc_Term_6 l D dT q) oFP_bl (oFP_pre hP hE) (nmw_3 hE.2) q655 q175 q656 rfl dc_Term_6 rfl ⟨rfl, rfl⟩ (rmd_ok (by decide) (by decide)) ⟨Nat.le_refl 0, Nat.le_refl 0⟩ hl rfl (Nat.le_of_ble_eq_true rfl) dX7_init_1 (fun H locs hP _ _ hS => ?_)
  refine lv_aload_n hx hb dX7_init_4 rfl (lv_at hl 0 rfl) ?_
  refine lv_iload_n hx hb dX7_init_5 rfl (lv_at hl 1 rfl) ?_
  refine gp_putF (C := RX7) (T := TX7) (ty := .int) E hE.1 (oneO (dT := dT) hP) hS rfl (if_pos rfl) rfl in_X7 tyX7 tyX7_ok nmX7 0 (by decide) (hts _ q668) (fun _ z => z) rfl hnm rfl rfl rfl rfl dX7_init_6 (fun H locs hP _ hS => ?_)
  have hP : oF D 6 1 [.int x1] q H := cf_put (Nat.le_of_ble_eq_true rfl) hP
  exact g_vret (Pic := fun H => oF D 6 1 [.int x1] q H) E hr hlk hP hS dX7_init_9
set_option maxHeartbeats 4000000 in
theorem dc_Joined : dN yX8_init 3 := ⟨by decide +kernel, by decide +kernel, by decide +kernel⟩
set_option maxHeartbeats 4000000 in
theorem tc_Joined (l : Launch) (D : va_G) (dT : Nat → ClassId) (q : Nat) (t1 : Nat) (x2 : Int32) (t3 : Nat) : Met l yX8_init (ws_ yX8_init cX8_init 4 none) (rmd 2) (va_Pc [.ref q, .ref t1, .int x2, .ref t3] (oFP D dT 7 3 [.null, .null, .int 0] q)) (va_Qv (fun (_ : Unit) => True) (fun _ t => oF D 7 3 [.ref t1, .ref t3, .int x2] q t.heap) (eqA q)) 0 0 (eqA q) := by
  refine k_met (own := RX8) (by decide) rfl (Nat.le_of_ble_eq_true rfl) ?_
  intro p e s m below meth c ls E hP hr hlk hl hnm
  obtain ⟨hP, hE⟩ := hP
  obtain ⟨hx, hb, hml, hown, hts⟩ := id E
  have hS : va_S (eqA q) s.heap s.heap [] := va_S.rf
  have hl : lv_has ls 4 [(0, .ref q), (1, .ref t1), (2, .int x2), (3, .ref t3)] := hl
  refine lv_aload_n hx hb dX8_init_0 rfl (lv_at hl 0 rfl) ?_
  refine k_ivN (Pic := oFP D dT 7 3 [.null, .null, .int 0] q) (Pic1 := fun H => oF D 7 3 [.null, .null, .int 0] q H) (A1 := eqA q) E hS (fun _ _ z => z) (fun _ z => z) (As := []) (tc_Term_7 l D dT q) oFP_bl (oFP_pre hP hE) (nmw_4 hE.2) q655 q175 q656 rfl dc_Term_7 rfl ⟨rfl, rfl⟩ (rmd_ok (by decide) (by decide)) ⟨Nat.le_refl 0, Nat.le_refl 0⟩ hl rfl (Nat.le_of_ble_eq_true rfl) dX8_init_1 (fun H locs hP _ _ hS => ?_)
  refine lv_aload_n hx hb dX8_init_4 rfl (lv_at hl 0 rfl) ?_
  refine lv_aload_n hx hb dX8_init_5 rfl (lv_at hl 1 rfl) ?_
  refine gp_putF (C := RX8) (T := TX8) (ty := (.object "NamesWeather$Term")) E hE.1 (oneO (dT := dT) hP) hS rfl (if_pos rfl) rfl in_X8 tyX8 tyX8_ok nmX8 0 (by decide) (hts _ q678) (fun _ z => z) rfl hnm rfl rfl rfl rfl dX8_init_6 (fun H locs hP _ hS => ?_)
  have hP : oF D 7 3 [.ref t1, .null, .int 0] q H := cf_put (Nat.le_of_ble_eq_true rfl) hP
  refine lv_aload_n hx hb dX8_init_9 rfl (lv_at hl 0 rfl) ?_
  refine lv_iload_n hx hb dX8_init_10 rfl (lv_at hl 2 rfl) ?_
  refine gp_putF (C := RX8) (T := TX8) (ty := .int) E hE.1 (oneO (dT := dT) hP) hS rfl (if_pos rfl) rfl in_X8 tyX8 tyX8_ok nmX8 2 (by decide) (hts _ q680) (fun _ z => z) rfl hnm rfl rfl rfl rfl dX8_init_11 (fun H locs hP _ hS => ?_)
  have hP : oF D 7 3 [.ref t1, .null, .int x2] q H := cf_put (Nat.le_of_ble_eq_true rfl) hP
  refine lv_aload_n hx hb dX8_init_14 rfl (lv_at hl 0 rfl) ?_
  refine lv_aload_n hx hb dX8_init_15 rfl (lv_at hl 3 rfl) ?_
  refine gp_putF (C := RX8) (T := TX8) (ty := (.object "NamesWeather$Term")) E hE.1 (oneO (dT := dT) hP) hS rfl (if_pos rfl) rfl in_X8 tyX8 tyX8_ok nmX8 1 (by decide) (hts _ q679) (fun _ z => z) rfl hnm rfl rfl rfl rfl dX8_init_16 (fun H locs hP _ hS => ?_)
  have hP : oF D 7 3 [.ref t1, .ref t3, .int x2] q H := cf_put (Nat.le_of_ble_eq_true rfl) hP
  exact g_vret (Pic := fun H => oF D 7 3 [.ref t1, .ref t3, .int x2] q H) E hr hlk hP hS dX8_init_19
set_option maxHeartbeats 4000000 in
theorem dc_Not : dN yX9_init 1 := ⟨by decide +kernel, by decide +kernel, by decide +kernel⟩
set_option maxHeartbeats 4000000 in
theorem tc_Not (l : Launch) (D : va_G) (dT : Nat → ClassId) (q : Nat) (t1 : Nat) : Met l yX9_init (ws_ yX9_init cX9_init 2 none) (rmd 2) (va_Pc [.ref q, .ref t1] (oFP D dT 8 1 [.null] q)) (va_Qv (fun (_ : Unit) => True) (fun _ t => oF D 8 1 [.ref t1] q t.heap) (eqA q)) 0 0 (eqA q) := by
  refine k_met (own := RX9) (by decide) rfl (Nat.le_of_ble_eq_true rfl) ?_
  intro p e s m below meth c ls E hP hr hlk hl hnm
  obtain ⟨hP, hE⟩ := hP
  obtain ⟨hx, hb, hml, hown, hts⟩ := id E
  have hS : va_S (eqA q) s.heap s.heap [] := va_S.rf
  have hl : lv_has ls 2 [(0, .ref q), (1, .ref t1)] := hl
  refine lv_aload_n hx hb dX9_init_0 rfl (lv_at hl 0 rfl) ?_
  refine k_ivN (Pic := oFP D dT 8 1 [.null] q) (Pic1 := fun H => oF D 8 1 [.null] q H) (A1 := eqA q) E hS (fun _ _ z => z) (fun _ z => z) (As := []) (tc_Term_8 l D dT q) oFP_bl (oFP_pre hP hE) (nmw_5 hE.2) q655 q175 q656 rfl dc_Term_8 rfl ⟨rfl, rfl⟩ (rmd_ok (by decide) (by decide)) ⟨Nat.le_refl 0, Nat.le_refl 0⟩ hl rfl (Nat.le_of_ble_eq_true rfl) dX9_init_1 (fun H locs hP _ _ hS => ?_)
  refine lv_aload_n hx hb dX9_init_4 rfl (lv_at hl 0 rfl) ?_
  refine lv_aload_n hx hb dX9_init_5 rfl (lv_at hl 1 rfl) ?_
  refine gp_putF (C := RX9) (T := TX9) (ty := (.object "NamesWeather$Term")) E hE.1 (oneO (dT := dT) hP) hS rfl (if_pos rfl) rfl in_X9 tyX9 tyX9_ok nmX9 0 (by decide) (hts _ q710) (fun _ z => z) rfl hnm rfl rfl rfl rfl dX9_init_6 (fun H locs hP _ hS => ?_)
  have hP : oF D 8 1 [.ref t1] q H := cf_put (Nat.le_of_ble_eq_true rfl) hP
  exact g_vret (Pic := fun H => oF D 8 1 [.ref t1] q H) E hr hlk hP hS dX9_init_9
set_option maxHeartbeats 4000000 in
theorem dc_Line : dN yX10_init 3 := ⟨by decide +kernel, by decide +kernel, by decide +kernel⟩
set_option maxHeartbeats 4000000 in
theorem tc_Line (l : Launch) (D : va_G) (dT : Nat → ClassId) (q : Nat) (x1 : Int32) (t2 : Nat) (t3 : Nat) : Met l yX10_init (ws_ yX10_init cX10_init 4 none) (rmd 1) (va_Pc [.ref q, .int x1, .ref t2, .ref t3] (oFP D dT 9 3 [.int 0, .null, .null] q)) (va_Qv (fun (_ : Unit) => True) (fun _ t => oF D 9 3 [.int x1, .ref t2, .ref t3] q t.heap) (eqA q)) 0 0 (eqA q) := by
  refine k_met (own := RX10) (by decide) rfl (Nat.le_of_ble_eq_true rfl) ?_
  intro p e s m below meth c ls E hP hr hlk hl hnm
  obtain ⟨hP, hE⟩ := hP
  obtain ⟨hx, hb, hml, hown, hts⟩ := id E
  have hS : va_S (eqA q) s.heap s.heap [] := va_S.rf
  have hl : lv_has ls 4 [(0, .ref q), (1, .int x1), (2, .ref t2), (3, .ref t3)] := hl
  refine lv_aload_n hx hb dX10_init_0 rfl (lv_at hl 0 rfl) ?_
  refine W.objInit hx hb hown (hts _ q723) (hts _ q201) (hts _ q202) rfl (by rw [hml]; exact hl.1) rfl dX10_init_1 (Nat.le_of_ble_eq_true rfl) (Nat.le_of_ble_eq_true rfl) ?_
  refine lv_aload_n hx hb dX10_init_4 rfl (lv_at hl 0 rfl) ?_
  refine lv_iload_n hx hb dX10_init_5 rfl (lv_at hl 1 rfl) ?_
  refine gp_putF (C := RX10) (T := TX10) (ty := .int) E hE.1 (oneO (dT := dT) hP) hS rfl (if_pos rfl) rfl in_X10 tyX10 tyX10_ok nmX10 0 (by decide) (hts _ q724) (fun _ z => z) rfl hnm rfl rfl rfl rfl dX10_init_6 (fun H locs hP _ hS => ?_)
  have hP : oF D 9 3 [.int x1, .null, .null] q H := cf_put (Nat.le_of_ble_eq_true rfl) hP
  refine lv_aload_n hx hb dX10_init_9 rfl (lv_at hl 0 rfl) ?_
  refine lv_aload_n hx hb dX10_init_10 rfl (lv_at hl 2 rfl) ?_
  refine gp_putF (C := RX10) (T := TX10) (ty := (.object "NamesWeather$Term")) E hE.1 (oneO (dT := dT) hP) hS rfl (if_pos rfl) rfl in_X10 tyX10 tyX10_ok nmX10 1 (by decide) (hts _ q726) (fun _ z => z) rfl hnm rfl rfl rfl rfl dX10_init_11 (fun H locs hP _ hS => ?_)
  have hP : oF D 9 3 [.int x1, .ref t2, .null] q H := cf_put (Nat.le_of_ble_eq_true rfl) hP
  refine lv_aload_n hx hb dX10_init_14 rfl (lv_at hl 0 rfl) ?_
  refine lv_aload_n hx hb dX10_init_15 rfl (lv_at hl 3 rfl) ?_
  refine gp_putF (C := RX10) (T := TX10) (ty := (.object "NamesWeather$Term")) E hE.1 (oneO (dT := dT) hP) hS rfl (if_pos rfl) rfl in_X10 tyX10 tyX10_ok nmX10 2 (by decide) (hts _ q728) (fun _ z => z) rfl hnm rfl rfl rfl rfl dX10_init_16 (fun H locs hP _ hS => ?_)
  have hP : oF D 9 3 [.int x1, .ref t2, .ref t3] q H := cf_put (Nat.le_of_ble_eq_true rfl) hP
  exact g_vret (Pic := fun H => oF D 9 3 [.int x1, .ref t2, .ref t3] q H) E hr hlk hP hS dX10_init_19
set_option maxHeartbeats 4000000 in
theorem dc_Quench : dN yX11_init 3 := ⟨by decide +kernel, by decide +kernel, by decide +kernel⟩
set_option maxHeartbeats 4000000 in
theorem tc_Quench (l : Launch) (D : va_G) (dT : Nat → ClassId) (q : Nat) (x1 : Int32) (x2 : Int32) (x3 : Int32) : Met l yX11_init (ws_ yX11_init cX11_init 4 none) (rmd 1) (va_Pc [.ref q, .int x1, .int x2, .int x3] (oFP D dT 10 3 [.int 0, .int 0, .int 0] q)) (va_Qv (fun (_ : Unit) => True) (fun _ t => oF D 10 3 [.int x1, .int x2, .int x3] q t.heap) (eqA q)) 0 0 (eqA q) := by
  refine k_met (own := RX11) (by decide) rfl (Nat.le_of_ble_eq_true rfl) ?_
  intro p e s m below meth c ls E hP hr hlk hl hnm
  obtain ⟨hP, hE⟩ := hP
  obtain ⟨hx, hb, hml, hown, hts⟩ := id E
  have hS : va_S (eqA q) s.heap s.heap [] := va_S.rf
  have hl : lv_has ls 4 [(0, .ref q), (1, .int x1), (2, .int x2), (3, .int x3)] := hl
  refine lv_aload_n hx hb dX11_init_0 rfl (lv_at hl 0 rfl) ?_
  refine W.objInit hx hb hown (hts _ q823) (hts _ q201) (hts _ q202) rfl (by rw [hml]; exact hl.1) rfl dX11_init_1 (Nat.le_of_ble_eq_true rfl) (Nat.le_of_ble_eq_true rfl) ?_
  refine lv_aload_n hx hb dX11_init_4 rfl (lv_at hl 0 rfl) ?_
  refine lv_iload_n hx hb dX11_init_5 rfl (lv_at hl 1 rfl) ?_
  refine gp_putF (C := RX11) (T := TX11) (ty := .int) E hE.1 (oneO (dT := dT) hP) hS rfl (if_pos rfl) rfl in_X11 tyX11 tyX11_ok nmX11 0 (by decide) (hts _ q824) (fun _ z => z) rfl hnm rfl rfl rfl rfl dX11_init_6 (fun H locs hP _ hS => ?_)
  have hP : oF D 10 3 [.int x1, .int 0, .int 0] q H := cf_put (Nat.le_of_ble_eq_true rfl) hP
  refine lv_aload_n hx hb dX11_init_9 rfl (lv_at hl 0 rfl) ?_
  refine lv_iload_n hx hb dX11_init_10 rfl (lv_at hl 2 rfl) ?_
  refine gp_putF (C := RX11) (T := TX11) (ty := .int) E hE.1 (oneO (dT := dT) hP) hS rfl (if_pos rfl) rfl in_X11 tyX11 tyX11_ok nmX11 1 (by decide) (hts _ q826) (fun _ z => z) rfl hnm rfl rfl rfl rfl dX11_init_11 (fun H locs hP _ hS => ?_)
  have hP : oF D 10 3 [.int x1, .int x2, .int 0] q H := cf_put (Nat.le_of_ble_eq_true rfl) hP
  refine lv_aload_n hx hb dX11_init_14 rfl (lv_at hl 0 rfl) ?_
  refine lv_iload_n hx hb dX11_init_15 rfl (lv_at hl 3 rfl) ?_
  refine gp_putF (C := RX11) (T := TX11) (ty := .int) E hE.1 (oneO (dT := dT) hP) hS rfl (if_pos rfl) rfl in_X11 tyX11 tyX11_ok nmX11 2 (by decide) (hts _ q828) (fun _ z => z) rfl hnm rfl rfl rfl rfl dX11_init_16 (fun H locs hP _ hS => ?_)
  have hP : oF D 10 3 [.int x1, .int x2, .int x3] q H := cf_put (Nat.le_of_ble_eq_true rfl) hP
  exact g_vret (Pic := fun H => oF D 10 3 [.int x1, .int x2, .int x3] q H) E hr hlk hP hS dX11_init_19
set_option maxHeartbeats 4000000 in
theorem dc_ClearWant : dN yX13_init 3 := ⟨by decide +kernel, by decide +kernel, by decide +kernel⟩
set_option maxHeartbeats 4000000 in
theorem tc_ClearWant (l : Launch) (D : va_G) (dT : Nat → ClassId) (q : Nat) (x1 : Int32) (x2 : Int32) (x3 : Int32) : Met l yX13_init (ws_ yX13_init cX13_init 4 none) (rmd 2) (va_Pc [.ref q, .int x1, .int x2, .int x3] (oFP D dT 11 3 [.int 0, .int 0, .int 0] q)) (va_Qv (fun (_ : Unit) => True) (fun _ t => oF D 11 3 [.int x1, .int x2, .int x3] q t.heap) (eqA q)) 0 0 (eqA q) := by
  refine k_met (own := RX13) (by decide) rfl (Nat.le_of_ble_eq_true rfl) ?_
  intro p e s m below meth c ls E hP hr hlk hl hnm
  obtain ⟨hP, hE⟩ := hP
  obtain ⟨hx, hb, hml, hown, hts⟩ := id E
  have hS : va_S (eqA q) s.heap s.heap [] := va_S.rf
  have hl : lv_has ls 4 [(0, .ref q), (1, .int x1), (2, .int x2), (3, .int x3)] := hl
  refine lv_aload_n hx hb dX13_init_0 rfl (lv_at hl 0 rfl) ?_
  refine lv_iload_n hx hb dX13_init_1 rfl (lv_at hl 1 rfl) ?_
  refine lv_iload_n hx hb dX13_init_2 rfl (lv_at hl 2 rfl) ?_
  refine lv_iload_n hx hb dX13_init_3 rfl (lv_at hl 3 rfl) ?_
  refine k_iv (Pic := oFP D dT 11 3 [.int 0, .int 0, .int 0] q) (Pic1 := fun H => oF D 11 3 [.int x1, .int x2, .int x3] q H) (A1 := eqA q) E hS (fun _ _ z => z) (fun _ z => z) (As := [.int x1, .int x2, .int x3]) (tc_Want_11 l D dT q x1 x2 x3) oFP_bl (oFP_pre hP hE) q850 q851 q186 q852 rfl dc_Want_11 rfl ⟨rfl, rfl⟩ (rmd_ok (by decide) (by decide)) ⟨Nat.le_refl 0, Nat.le_refl 0⟩ hl rfl (Nat.le_of_ble_eq_true rfl) dX13_init_4 (fun H locs hP _ _ hS => ?_)
  exact g_vret (Pic := fun H => oF D 11 3 [.int x1, .int x2, .int x3] q H) E hr hlk hP hS dX13_init_7
set_option maxHeartbeats 4000000 in
theorem dc_SkyWant : dN yX14_init 5 := ⟨by decide +kernel, by decide +kernel, by decide +kernel⟩
set_option maxHeartbeats 4000000 in
theorem tc_SkyWant (l : Launch) (D : va_G) (dT : Nat → ClassId) (q : Nat) (x1 : Int32) (x2 : Int32) (x3 : Int32) (x4 : Int32) (x5 : Int32) : Met l yX14_init (ws_ yX14_init cX14_init 6 none) (rmd 2) (va_Pc [.ref q, .int x1, .int x2, .int x3, .int x4, .int x5] (oFP D dT 12 5 [.int 0, .int 0, .int 0, .int 0, .int 0] q)) (va_Qv (fun (_ : Unit) => True) (fun _ t => oF D 12 5 [.int x3, .int x4, .int x5, .int x1, .int x2] q t.heap) (eqA q)) 0 0 (eqA q) := by
  refine k_met (own := RX14) (by decide) rfl (Nat.le_of_ble_eq_true rfl) ?_
  intro p e s m below meth c ls E hP hr hlk hl hnm
  obtain ⟨hP, hE⟩ := hP
  obtain ⟨hx, hb, hml, hown, hts⟩ := id E
  have hS : va_S (eqA q) s.heap s.heap [] := va_S.rf
  have hl : lv_has ls 6 [(0, .ref q), (1, .int x1), (2, .int x2), (3, .int x3), (4, .int x4), (5, .int x5)] := hl
  refine lv_aload_n hx hb dX14_init_0 rfl (lv_at hl 0 rfl) ?_
  refine lv_iload_n hx hb dX14_init_1 rfl (lv_at hl 3 rfl) ?_
  refine lv_iload hx hb dX14_init_2 (lv_at hl 4 rfl) ?_
  refine lv_iload hx hb dX14_init_4 (lv_at hl 5 rfl) ?_
  refine k_iv (Pic := oFP D dT 12 5 [.int 0, .int 0, .int 0, .int 0, .int 0] q) (Pic1 := fun H => oF D 12 5 [.int x3, .int x4, .int x5, .int 0, .int 0] q H) (A1 := eqA q) E hS (fun _ _ z => z) (fun _ z => z) (As := [.int x3, .int x4, .int x5]) (tc_Want_12 l D dT q x3 x4 x5) oFP_bl (oFP_pre hP hE) q871 q851 q186 q852 rfl dc_Want_12 rfl ⟨rfl, rfl⟩ (rmd_ok (by decide) (by decide)) ⟨Nat.le_refl 0, Nat.le_refl 0⟩ hl rfl (Nat.le_of_ble_eq_true rfl) dX14_init_6 (fun H locs hP _ _ hS => ?_)
  refine lv_aload_n hx hb dX14_init_9 rfl (lv_at hl 0 rfl) ?_
  refine lv_iload_n hx hb dX14_init_10 rfl (lv_at hl 1 rfl) ?_
  refine gp_putF (C := RX14) (T := TX14) (ty := .int) E hE.1 (oneO (dT := dT) hP) hS rfl (if_pos rfl) rfl in_X14 tyX14 tyX14_ok nmX14 3 (by decide) (hts _ q872) (fun _ z => z) rfl hnm rfl rfl rfl rfl dX14_init_11 (fun H locs hP _ hS => ?_)
  have hP : oF D 12 5 [.int x3, .int x4, .int x5, .int x1, .int 0] q H := cf_put (Nat.le_of_ble_eq_true rfl) hP
  refine lv_aload_n hx hb dX14_init_14 rfl (lv_at hl 0 rfl) ?_
  refine lv_iload_n hx hb dX14_init_15 rfl (lv_at hl 2 rfl) ?_
  refine gp_putF (C := RX14) (T := TX14) (ty := .int) E hE.1 (oneO (dT := dT) hP) hS rfl (if_pos rfl) rfl in_X14 tyX14 tyX14_ok nmX14 4 (by decide) (hts _ q873) (fun _ z => z) rfl hnm rfl rfl rfl rfl dX14_init_16 (fun H locs hP _ hS => ?_)
  have hP : oF D 12 5 [.int x3, .int x4, .int x5, .int x1, .int x2] q H := cf_put (Nat.le_of_ble_eq_true rfl) hP
  exact g_vret (Pic := fun H => oF D 12 5 [.int x3, .int x4, .int x5, .int x1, .int x2] q H) E hr hlk hP hS dX14_init_19
set_option maxHeartbeats 4000000 in
theorem dc_Bury : dN yX16_init 2 := ⟨by decide +kernel, by decide +kernel, by decide +kernel⟩
set_option maxHeartbeats 4000000 in
theorem tc_Bury (l : Launch) (D : va_G) (dT : Nat → ClassId) (q : Nat) (x1 : Int32) (x2 : Int32) : Met l yX16_init (ws_ yX16_init cX16_init 3 none) (rmd 2) (va_Pc [.ref q, .int x1, .int x2] (oFP D dT 13 2 [.int 0, .int 0] q)) (va_Qv (fun (_ : Unit) => True) (fun _ t => oF D 13 2 [.int x1, .int x2] q t.heap) (eqA q)) 0 0 (eqA q) := by
  refine k_met (own := RX16) (by decide) rfl (Nat.le_of_ble_eq_true rfl) ?_
  intro p e s m below meth c ls E hP hr hlk hl hnm
  obtain ⟨hP, hE⟩ := hP
  obtain ⟨hx, hb, hml, hown, hts⟩ := id E
  have hS : va_S (eqA q) s.heap s.heap [] := va_S.rf
  have hl : lv_has ls 3 [(0, .ref q), (1, .int x1), (2, .int x2)] := hl
  refine lv_aload_n hx hb dX16_init_0 rfl (lv_at hl 0 rfl) ?_
  refine lv_iload_n hx hb dX16_init_1 rfl (lv_at hl 1 rfl) ?_
  refine lv_iload_n hx hb dX16_init_2 rfl (lv_at hl 2 rfl) ?_
  refine k_iv (Pic := oFP D dT 13 2 [.int 0, .int 0] q) (Pic1 := fun H => oF D 13 2 [.int x1, .int x2] q H) (A1 := eqA q) E hS (fun _ _ z => z) (fun _ z => z) (As := [.int x1, .int x2]) (tc_Deed_13 l D dT q x1 x2) oFP_bl (oFP_pre hP hE) q895 q896 q189 q897 rfl dc_Deed_13 rfl ⟨rfl, rfl⟩ (rmd_ok (by decide) (by decide)) ⟨Nat.le_refl 0, Nat.le_refl 0⟩ hl rfl (Nat.le_of_ble_eq_true rfl) dX16_init_3 (fun H locs hP _ _ hS => ?_)
  exact g_vret (Pic := fun H => oF D 13 2 [.int x1, .int x2] q H) E hr hlk hP hS dX16_init_6
set_option maxHeartbeats 4000000 in
theorem dc_Call : dN yX17_init 3 := ⟨by decide +kernel, by decide +kernel, by decide +kernel⟩
set_option maxHeartbeats 4000000 in
theorem tc_Call (l : Launch) (D : va_G) (dT : Nat → ClassId) (q : Nat) (x1 : Int32) (x2 : Int32) (x3 : Int32) : Met l yX17_init (ws_ yX17_init cX17_init 4 none) (rmd 2) (va_Pc [.ref q, .int x1, .int x2, .int x3] (oFP D dT 14 3 [.int 0, .int 0, .int 0] q)) (va_Qv (fun (_ : Unit) => True) (fun _ t => oF D 14 3 [.int x1, .int x2, .int x3] q t.heap) (eqA q)) 0 0 (eqA q) := by
  refine k_met (own := RX17) (by decide) rfl (Nat.le_of_ble_eq_true rfl) ?_
  intro p e s m below meth c ls E hP hr hlk hl hnm
  obtain ⟨hP, hE⟩ := hP
  obtain ⟨hx, hb, hml, hown, hts⟩ := id E
  have hS : va_S (eqA q) s.heap s.heap [] := va_S.rf
  have hl : lv_has ls 4 [(0, .ref q), (1, .int x1), (2, .int x2), (3, .int x3)] := hl
  refine lv_aload_n hx hb dX17_init_0 rfl (lv_at hl 0 rfl) ?_
  refine lv_iload_n hx hb dX17_init_1 rfl (lv_at hl 1 rfl) ?_
  refine lv_iload_n hx hb dX17_init_2 rfl (lv_at hl 2 rfl) ?_
  refine k_iv (Pic := oFP D dT 14 3 [.int 0, .int 0, .int 0] q) (Pic1 := fun H => oF D 14 3 [.int x1, .int x2, .int 0] q H) (A1 := eqA q) E hS (fun _ _ z => z) (fun _ z => z) (As := [.int x1, .int x2]) (tc_Deed_14 l D dT q x1 x2) oFP_bl (oFP_pre hP hE) q911 q896 q189 q897 rfl dc_Deed_14 rfl ⟨rfl, rfl⟩ (rmd_ok (by decide) (by decide)) ⟨Nat.le_refl 0, Nat.le_refl 0⟩ hl rfl (Nat.le_of_ble_eq_true rfl) dX17_init_3 (fun H locs hP _ _ hS => ?_)
  refine lv_aload_n hx hb dX17_init_6 rfl (lv_at hl 0 rfl) ?_
  refine lv_iload_n hx hb dX17_init_7 rfl (lv_at hl 3 rfl) ?_
  refine gp_putF (C := RX17) (T := TX17) (ty := .int) E hE.1 (oneO (dT := dT) hP) hS rfl (if_pos rfl) rfl in_X17 tyX17 tyX17_ok nmX17 2 (by decide) (hts _ q912) (fun _ z => z) rfl hnm rfl rfl rfl rfl dX17_init_8 (fun H locs hP _ hS => ?_)
  have hP : oF D 14 3 [.int x1, .int x2, .int x3] q H := cf_put (Nat.le_of_ble_eq_true rfl) hP
  exact g_vret (Pic := fun H => oF D 14 3 [.int x1, .int x2, .int x3] q H) E hr hlk hP hS dX17_init_11
set_option maxHeartbeats 4000000 in
theorem dc_Move : dN yX18_init 3 := ⟨by decide +kernel, by decide +kernel, by decide +kernel⟩
set_option maxHeartbeats 4000000 in
theorem tc_Move (l : Launch) (D : va_G) (dT : Nat → ClassId) (q : Nat) (x1 : Int32) (x2 : Int32) (x3 : Int32) : Met l yX18_init (ws_ yX18_init cX18_init 4 none) (rmd 2) (va_Pc [.ref q, .int x1, .int x2, .int x3] (oFP D dT 15 3 [.int 0, .int 0, .int 0] q)) (va_Qv (fun (_ : Unit) => True) (fun _ t => oF D 15 3 [.int x1, .int x2, .int x3] q t.heap) (eqA q)) 0 0 (eqA q) := by
  refine k_met (own := RX18) (by decide) rfl (Nat.le_of_ble_eq_true rfl) ?_
  intro p e s m below meth c ls E hP hr hlk hl hnm
  obtain ⟨hP, hE⟩ := hP
  obtain ⟨hx, hb, hml, hown, hts⟩ := id E
  have hS : va_S (eqA q) s.heap s.heap [] := va_S.rf
  have hl : lv_has ls 4 [(0, .ref q), (1, .int x1), (2, .int x2), (3, .int x3)] := hl
  refine lv_aload_n hx hb dX18_init_0 rfl (lv_at hl 0 rfl) ?_
  refine lv_iload_n hx hb dX18_init_1 rfl (lv_at hl 1 rfl) ?_
  refine lv_iload_n hx hb dX18_init_2 rfl (lv_at hl 2 rfl) ?_
  refine k_iv (Pic := oFP D dT 15 3 [.int 0, .int 0, .int 0] q) (Pic1 := fun H => oF D 15 3 [.int x1, .int x2, .int 0] q H) (A1 := eqA q) E hS (fun _ _ z => z) (fun _ z => z) (As := [.int x1, .int x2]) (tc_Deed_15 l D dT q x1 x2) oFP_bl (oFP_pre hP hE) q923 q896 q189 q897 rfl dc_Deed_15 rfl ⟨rfl, rfl⟩ (rmd_ok (by decide) (by decide)) ⟨Nat.le_refl 0, Nat.le_refl 0⟩ hl rfl (Nat.le_of_ble_eq_true rfl) dX18_init_3 (fun H locs hP _ _ hS => ?_)
  refine lv_aload_n hx hb dX18_init_6 rfl (lv_at hl 0 rfl) ?_
  refine lv_iload_n hx hb dX18_init_7 rfl (lv_at hl 3 rfl) ?_
  refine gp_putF (C := RX18) (T := TX18) (ty := .int) E hE.1 (oneO (dT := dT) hP) hS rfl (if_pos rfl) rfl in_X18 tyX18 tyX18_ok nmX18 2 (by decide) (hts _ q924) (fun _ z => z) rfl hnm rfl rfl rfl rfl dX18_init_8 (fun H locs hP _ hS => ?_)
  have hP : oF D 15 3 [.int x1, .int x2, .int x3] q H := cf_put (Nat.le_of_ble_eq_true rfl) hP
  exact g_vret (Pic := fun H => oF D 15 3 [.int x1, .int x2, .int x3] q H) E hr hlk hP hS dX18_init_11
set_option maxHeartbeats 4000000 in
theorem dc_Reader : dN yX3_init 2 := ⟨by decide +kernel, by decide +kernel, by decide +kernel⟩
set_option maxHeartbeats 4000000 in
theorem tc_Reader (l : Launch) (D : va_G) (dT : Nat → ClassId) (q : Nat) (t1 : Nat) (x2 : Int32) : Met l yX3_init (ws_ yX3_init cX3_init 3 none) (rmd 1) (va_Pc [.ref q, .ref t1, .int x2] (oFP D dT 3 7 [.int 0, .int 0, .int 0, .int 0, .int 0, .int 0, .null] q)) (va_Qv (fun (_ : Unit) => True) (fun _ t => oF D 3 7 [.int x2, .int 0, .int 0, .int 0, .int 0, .int 0, .ref t1] q t.heap) (eqA q)) 0 0 (eqA q) := by
  refine k_met (own := RX3) (by decide) rfl (Nat.le_of_ble_eq_true rfl) ?_
  intro p e s m below meth c ls E hP hr hlk hl hnm
  obtain ⟨hP, hE⟩ := hP
  obtain ⟨hx, hb, hml, hown, hts⟩ := id E
  have hS : va_S (eqA q) s.heap s.heap [] := va_S.rf
  have hl : lv_has ls 3 [(0, .ref q), (1, .ref t1), (2, .int x2)] := hl
  refine lv_aload_n hx hb dX3_init_0 rfl (lv_at hl 0 rfl) ?_
  refine lv_aload_n hx hb dX3_init_1 rfl (lv_at hl 1 rfl) ?_
  refine gp_putF (C := RX3) (T := TX3) (ty := (.object "NamesWeather")) E hE.1 (oneO (dT := dT) hP) hS rfl (if_pos rfl) rfl in_X3 tyX3 tyX3_ok nmX3 6 (by decide) (hts _ q410) (fun _ z => z) rfl hnm rfl rfl rfl rfl dX3_init_2 (fun H locs hP _ hS => ?_)
  have hP : oF D 3 7 [.int 0, .int 0, .int 0, .int 0, .int 0, .int 0, .ref t1] q H := cf_put (Nat.le_of_ble_eq_true rfl) hP
  refine lv_aload_n hx hb dX3_init_5 rfl (lv_at hl 0 rfl) ?_
  refine W.objInit hx hb hown (hts _ q403) (hts _ q201) (hts _ q202) rfl (by rw [hml]; exact hl.1) rfl dX3_init_6 (Nat.le_of_ble_eq_true rfl) (Nat.le_of_ble_eq_true rfl) ?_
  refine lv_aload_n hx hb dX3_init_9 rfl (lv_at hl 0 rfl) ?_
  refine lv_iload_n hx hb dX3_init_10 rfl (lv_at hl 2 rfl) ?_
  refine gp_putF (C := RX3) (T := TX3) (ty := .int) E hE.1 (oneO (dT := dT) hP) hS rfl (if_pos rfl) rfl in_X3 tyX3 tyX3_ok nmX3 0 (by decide) (hts _ q404) (fun _ z => z) rfl hnm rfl rfl rfl rfl dX3_init_11 (fun H locs hP _ hS => ?_)
  have hP : oF D 3 7 [.int x2, .int 0, .int 0, .int 0, .int 0, .int 0, .ref t1] q H := cf_put (Nat.le_of_ble_eq_true rfl) hP
  exact g_vret (Pic := fun H => oF D 3 7 [.int x2, .int 0, .int 0, .int 0, .int 0, .int 0, .ref t1] q H) E hr hlk hP hS dX3_init_14
set_option maxHeartbeats 4000000 in
theorem dc_LineN : dN yX10_init 3 := ⟨by decide +kernel, by decide +kernel, by decide +kernel⟩
set_option maxHeartbeats 4000000 in
theorem tc_LineN (l : Launch) (D : va_G) (dT : Nat → ClassId) (q : Nat) (x1 : Int32) (t2 : Nat) : Met l yX10_init (ws_ yX10_init cX10_init 4 none) (rmd 1) (va_Pc [.ref q, .int x1, .ref t2, .null] (oFP D dT 9 3 [.int 0, .null, .null] q)) (va_Qv (fun (_ : Unit) => True) (fun _ t => oF D 9 3 [.int x1, .ref t2, .null] q t.heap) (eqA q)) 0 0 (eqA q) := by
  refine k_met (own := RX10) (by decide) rfl (Nat.le_of_ble_eq_true rfl) ?_
  intro p e s m below meth c ls E hP hr hlk hl hnm
  obtain ⟨hP, hE⟩ := hP
  obtain ⟨hx, hb, hml, hown, hts⟩ := id E
  have hS : va_S (eqA q) s.heap s.heap [] := va_S.rf
  have hl : lv_has ls 4 [(0, .ref q), (1, .int x1), (2, .ref t2), (3, .null)] := hl
  refine lv_aload_n hx hb dX10_init_0 rfl (lv_at hl 0 rfl) ?_
  refine W.objInit hx hb hown (hts _ q723) (hts _ q201) (hts _ q202) rfl (by rw [hml]; exact hl.1) rfl dX10_init_1 (Nat.le_of_ble_eq_true rfl) (Nat.le_of_ble_eq_true rfl) ?_
  refine lv_aload_n hx hb dX10_init_4 rfl (lv_at hl 0 rfl) ?_
  refine lv_iload_n hx hb dX10_init_5 rfl (lv_at hl 1 rfl) ?_
  refine gp_putF (C := RX10) (T := TX10) (ty := .int) E hE.1 (oneO (dT := dT) hP) hS rfl (if_pos rfl) rfl in_X10 tyX10 tyX10_ok nmX10 0 (by decide) (hts _ q724) (fun _ z => z) rfl hnm rfl rfl rfl rfl dX10_init_6 (fun H locs hP _ hS => ?_)
  have hP : oF D 9 3 [.int x1, .null, .null] q H := cf_put (Nat.le_of_ble_eq_true rfl) hP
  refine lv_aload_n hx hb dX10_init_9 rfl (lv_at hl 0 rfl) ?_
  refine lv_aload_n hx hb dX10_init_10 rfl (lv_at hl 2 rfl) ?_
  refine gp_putF (C := RX10) (T := TX10) (ty := (.object "NamesWeather$Term")) E hE.1 (oneO (dT := dT) hP) hS rfl (if_pos rfl) rfl in_X10 tyX10 tyX10_ok nmX10 1 (by decide) (hts _ q726) (fun _ z => z) rfl hnm rfl rfl rfl rfl dX10_init_11 (fun H locs hP _ hS => ?_)
  have hP : oF D 9 3 [.int x1, .ref t2, .null] q H := cf_put (Nat.le_of_ble_eq_true rfl) hP
  refine lv_aload_n hx hb dX10_init_14 rfl (lv_at hl 0 rfl) ?_
  refine lv_aload_nN hx hb dX10_init_15 rfl (lv_at hl 3 rfl) ?_
  refine gp_putF (C := RX10) (T := TX10) (ty := (.object "NamesWeather$Term")) E hE.1 (oneO (dT := dT) hP) hS rfl (if_pos rfl) rfl in_X10 tyX10 tyX10_ok nmX10 2 (by decide) (hts _ q728) (fun _ z => z) rfl hnm rfl rfl rfl rfl dX10_init_16 (fun H locs hP _ hS => ?_)
  have hP : oF D 9 3 [.int x1, .ref t2, .null] q H := cf_put (Nat.le_of_ble_eq_true rfl) hP
  exact g_vret (Pic := fun H => oF D 9 3 [.int x1, .ref t2, .null] q H) E hr hlk hP hS dX10_init_19
