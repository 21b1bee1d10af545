/-! Skies made -/
set_option maxRecDepth 100000
set_option maxHeartbeats 2000000 in
theorem tk_Skies (l : Launch) (D : va_G) (dT : Nat → ClassId) (Z : nwZ) (h : Nat) : Met l yX1_init (ws_ yX1_init cX1_init 2 none) (rmx 5 179 1076) (va_Pc [.ref h] (KSp D dT Z h)) (va_Qv (fun (_ : Unit) => True) (fun _ t => SkF D dT Z h t.heap ∧ t.heap.size = h + 180) (fun q => h ≤ q)) 179 1076 (fun q => h ≤ q) := by
  refine k_met (own := RX1) (by decide) rfl (Nat.le_of_ble_eq_true rfl) ?_
  intro p e s m below meth c ls E hP hr hlk hl hnm
  obtain ⟨hO, hE, hSV, hA2, hZh, hz⟩ := hP
  have hK := hE.1
  obtain ⟨hx, hb, hml, hown, hts⟩ := id E
  have hS : va_S (fun q => h ≤ q) s.heap s.heap [] := va_S.rf
  have hl : lv_has ls 2 [(0, .ref h)] := hl
  have hB : Bl h 0 (cS dT h) s.heap := fun i hi => absurd hi (Nat.not_lt_zero i)
  obtain ⟨H, hH⟩ : ∃ z, z = s.heap := ⟨_, rfl⟩
  refine lv_aload_n hx hb dX1_init_0 rfl (lv_at hl 0 rfl) ?_
  refine W.objInit hx hb hown (hts _ q208) (hts _ q201) (hts _ q202) rfl (by rw [hml]; exact hl.1) rfl dX1_init_1 (Nat.le_of_ble_eq_true rfl) (Nat.le_of_ble_eq_true rfl) ?_
  refine lv_aload_n hx hb dX1_init_4 rfl (lv_at hl 0 rfl) ?_
  refine lv_bipush (v := nI 8) hx hb dX1_init_5 rfl ?_
  refine lv_iconst (v := nI 5) hx hb dX1_init_7 rfl ?_
  refine n_multi E hK hA2 q209 (n := 8) (k := 5) (by decide) (by decide) (Nat.le_of_ble_eq_true rfl) (Nat.le_of_ble_eq_true rfl) dX1_init_8 (fun H1 e1 e2 z1 o1 => ?_)
  have hS := S_old hS (by omega) o1
  have hO := hO.same (o1 _ hO.lt)
  rw [hz] at e1 e2 ⊢
  have hB := Bl_m (k := 8) hB hz o1 (by rw [hz]; exact e1.trans (congrArg some cS_0.symm)) (by rw [hz]; exact fun j hj => (e2 j hj).trans (congrArg some (cS_row (by omega) (by omega) (by omega) (by omega)).symm))
  have hz : H1.size = h + 1 + 9 := by rw [z1, hz]
  have hlo := hO.lt
  refine gp_putF (C := RX1) (T := TX1) (ty := (.array (.array .int))) E hK (oneO (dT := dT) hO) hS (Nat.le_refl h) (if_pos rfl) rfl in_X1 tyX1 tyX1_ok nmX1 0 (by decide) (hts _ q239) (fun _ z => z) rfl hnm rfl rfl rfl rfl dX1_init_12 (fun H locs hO oq hS => ?_)
  have hO : oF D 1 23 [.ref (h + 1 + 0), .null, .null, .null, .null, .null, .null, .null, .null, .null, .null, .null, .null, .int 0, .int 0, .int 0, .int 0, .int 0, .int 0, .int 0, .int 0, .int 0, .int 0] h H := cf_put (Nat.le_of_ble_eq_true rfl) hO
  have hz := (sz_put hlo hO.lt oq).trans hz
  have hB := Bl_put hB oq
  refine lv_aload_n hx hb dX1_init_15 rfl (lv_at hl 0 rfl) ?_
  refine lv_bipush (v := nI 8) hx hb dX1_init_16 rfl ?_
  refine lv_iconst (v := nI 5) hx hb dX1_init_18 rfl ?_
  refine n_multi E hK hA2 q209 (n := 8) (k := 5) (by decide) (by decide) (Nat.le_of_ble_eq_true rfl) (Nat.le_of_ble_eq_true rfl) dX1_init_19 (fun H1 e1 e2 z1 o1 => ?_)
  have hS := S_old hS (by omega) o1
  have hO := hO.same (o1 _ hO.lt)
  rw [hz] at e1 e2 ⊢
  have hB := Bl_m (k := 8) hB hz o1 (by rw [hz]; exact e1.trans (congrArg some cS_9.symm)) (by rw [hz]; exact fun j hj => (e2 j hj).trans (congrArg some (cS_row (by omega) (by omega) (by omega) (by omega)).symm))
  have hz : H1.size = h + 1 + 18 := by rw [z1, hz]
  have hlo := hO.lt
  refine gp_putF (C := RX1) (T := TX1) (ty := (.array (.array .int))) E hK (oneO (dT := dT) hO) hS (Nat.le_refl h) (if_pos rfl) rfl in_X1 tyX1 tyX1_ok nmX1 1 (by decide) (hts _ q242) (fun _ z => z) rfl hnm rfl rfl rfl rfl dX1_init_23 (fun H locs hO oq hS => ?_)
  have hO : oF D 1 23 [.ref (h + 1 + 0), .ref (h + 1 + 9), .null, .null, .null, .null, .null, .null, .null, .null, .null, .null, .null, .int 0, .int 0, .int 0, .int 0, .int 0, .int 0, .int 0, .int 0, .int 0, .int 0] h H := cf_put (Nat.le_of_ble_eq_true rfl) hO
  have hz := (sz_put hlo hO.lt oq).trans hz
  have hB := Bl_put hB oq
  refine lv_aload_n hx hb dX1_init_26 rfl (lv_at hl 0 rfl) ?_
  refine lv_sipush (v := nI 150) hx hb dX1_init_27 rfl ?_
  refine lv_iconst (v := nI 5) hx hb dX1_init_30 rfl ?_
  refine n_multi E hK hA2 q209 (n := 150) (k := 5) (by decide) (by decide) (Nat.le_of_ble_eq_true rfl) (Nat.le_of_ble_eq_true rfl) dX1_init_31 (fun H1 e1 e2 z1 o1 => ?_)
  have hS := S_old hS (by omega) o1
  have hO := hO.same (o1 _ hO.lt)
  rw [hz] at e1 e2 ⊢
  have hB := Bl_m (k := 150) hB hz o1 (by rw [hz]; exact e1.trans (congrArg some cS_18.symm)) (by rw [hz]; exact fun j hj => (e2 j hj).trans (congrArg some (cS_row (by omega) (by omega) (by omega) (by omega)).symm))
  have hz : H1.size = h + 1 + 169 := by rw [z1, hz]
  have hlo := hO.lt
  refine gp_putF (C := RX1) (T := TX1) (ty := (.array (.array .int))) E hK (oneO (dT := dT) hO) hS (Nat.le_refl h) (if_pos rfl) rfl in_X1 tyX1 tyX1_ok nmX1 2 (by decide) (hts _ q243) (fun _ z => z) rfl hnm rfl rfl rfl rfl dX1_init_35 (fun H locs hO oq hS => ?_)
  have hO : oF D 1 23 [.ref (h + 1 + 0), .ref (h + 1 + 9), .ref (h + 1 + 18), .null, .null, .null, .null, .null, .null, .null, .null, .null, .null, .int 0, .int 0, .int 0, .int 0, .int 0, .int 0, .int 0, .int 0, .int 0, .int 0] h H := cf_put (Nat.le_of_ble_eq_true rfl) hO
  have hz := (sz_put hlo hO.lt oq).trans hz
  have hB := Bl_put hB oq
  refine lv_aload_n hx hb dX1_init_38 rfl (lv_at hl 0 rfl) ?_
  refine lv_bipush (v := nI 12) hx hb dX1_init_39 rfl ?_
  refine n_newI E hK (n := 12) (by decide) (Nat.le_of_ble_eq_true rfl) (Nat.le_of_ble_eq_true rfl) dX1_init_41 (fun H1 e1 z1 o1 => ?_)
  have hS := S_old hS (by omega) o1
  have hO := hO.same (o1 _ hO.lt)
  rw [hz] at e1 ⊢
  have hB := Bl_1 hB hz o1 (by rw [hz]; exact e1.trans (congrArg some (cS_12 (by decide) (by decide)).symm))
  have hz : H1.size = h + 1 + 170 := by rw [z1, hz]
  have hlo := hO.lt
  refine gp_putF (C := RX1) (T := TX1) (ty := (.array .int)) E hK (oneO (dT := dT) hO) hS (Nat.le_refl h) (if_pos rfl) rfl in_X1 tyX1 tyX1_ok nmX1 3 (by decide) (hts _ q245) (fun _ z => z) rfl hnm rfl rfl rfl rfl dX1_init_43 (fun H locs hO oq hS => ?_)
  have hO : oF D 1 23 [.ref (h + 1 + 0), .ref (h + 1 + 9), .ref (h + 1 + 18), .ref (h + 1 + 169), .null, .null, .null, .null, .null, .null, .null, .null, .null, .int 0, .int 0, .int 0, .int 0, .int 0, .int 0, .int 0, .int 0, .int 0, .int 0] h H := cf_put (Nat.le_of_ble_eq_true rfl) hO
  have hz := (sz_put hlo hO.lt oq).trans hz
  have hB := Bl_put hB oq
  refine lv_aload_n hx hb dX1_init_46 rfl (lv_at hl 0 rfl) ?_
  refine lv_bipush (v := nI 12) hx hb dX1_init_47 rfl ?_
  refine n_newI E hK (n := 12) (by decide) (Nat.le_of_ble_eq_true rfl) (Nat.le_of_ble_eq_true rfl) dX1_init_49 (fun H1 e1 z1 o1 => ?_)
  have hS := S_old hS (by omega) o1
  have hO := hO.same (o1 _ hO.lt)
  rw [hz] at e1 ⊢
  have hB := Bl_1 hB hz o1 (by rw [hz]; exact e1.trans (congrArg some (cS_12 (by decide) (by decide)).symm))
  have hz : H1.size = h + 1 + 171 := by rw [z1, hz]
  have hlo := hO.lt
  refine gp_putF (C := RX1) (T := TX1) (ty := (.array .int)) E hK (oneO (dT := dT) hO) hS (Nat.le_refl h) (if_pos rfl) rfl in_X1 tyX1 tyX1_ok nmX1 4 (by decide) (hts _ q247) (fun _ z => z) rfl hnm rfl rfl rfl rfl dX1_init_51 (fun H locs hO oq hS => ?_)
  have hO : oF D 1 23 [.ref (h + 1 + 0), .ref (h + 1 + 9), .ref (h + 1 + 18), .ref (h + 1 + 169), .ref (h + 1 + 170), .null, .null, .null, .null, .null, .null, .null, .null, .int 0, .int 0, .int 0, .int 0, .int 0, .int 0, .int 0, .int 0, .int 0, .int 0] h H := cf_put (Nat.le_of_ble_eq_true rfl) hO
  have hz := (sz_put hlo hO.lt oq).trans hz
  have hB := Bl_put hB oq
  refine lv_aload_n hx hb dX1_init_54 rfl (lv_at hl 0 rfl) ?_
  refine lv_bipush (v := nI 12) hx hb dX1_init_55 rfl ?_
  refine n_newI E hK (n := 12) (by decide) (Nat.le_of_ble_eq_true rfl) (Nat.le_of_ble_eq_true rfl) dX1_init_57 (fun H1 e1 z1 o1 => ?_)
  have hS := S_old hS (by omega) o1
  have hO := hO.same (o1 _ hO.lt)
  rw [hz] at e1 ⊢
  have hB := Bl_1 hB hz o1 (by rw [hz]; exact e1.trans (congrArg some (cS_12 (by decide) (by decide)).symm))
  have hz : H1.size = h + 1 + 172 := by rw [z1, hz]
  have hlo := hO.lt
  refine gp_putF (C := RX1) (T := TX1) (ty := (.array .int)) E hK (oneO (dT := dT) hO) hS (Nat.le_refl h) (if_pos rfl) rfl in_X1 tyX1 tyX1_ok nmX1 5 (by decide) (hts _ q249) (fun _ z => z) rfl hnm rfl rfl rfl rfl dX1_init_59 (fun H locs hO oq hS => ?_)
  have hO : oF D 1 23 [.ref (h + 1 + 0), .ref (h + 1 + 9), .ref (h + 1 + 18), .ref (h + 1 + 169), .ref (h + 1 + 170), .ref (h + 1 + 171), .null, .null, .null, .null, .null, .null, .null, .int 0, .int 0, .int 0, .int 0, .int 0, .int 0, .int 0, .int 0, .int 0, .int 0] h H := cf_put (Nat.le_of_ble_eq_true rfl) hO
  have hz := (sz_put hlo hO.lt oq).trans hz
  have hB := Bl_put hB oq
  refine lv_aload_n hx hb dX1_init_62 rfl (lv_at hl 0 rfl) ?_
  refine lv_bipush (v := nI 12) hx hb dX1_init_63 rfl ?_
  refine n_newI E hK (n := 12) (by decide) (Nat.le_of_ble_eq_true rfl) (Nat.le_of_ble_eq_true rfl) dX1_init_65 (fun H1 e1 z1 o1 => ?_)
  have hS := S_old hS (by omega) o1
  have hO := hO.same (o1 _ hO.lt)
  rw [hz] at e1 ⊢
  have hB := Bl_1 hB hz o1 (by rw [hz]; exact e1.trans (congrArg some (cS_12 (by decide) (by decide)).symm))
  have hz : H1.size = h + 1 + 173 := by rw [z1, hz]
  have hlo := hO.lt
  refine gp_putF (C := RX1) (T := TX1) (ty := (.array .int)) E hK (oneO (dT := dT) hO) hS (Nat.le_refl h) (if_pos rfl) rfl in_X1 tyX1 tyX1_ok nmX1 6 (by decide) (hts _ q251) (fun _ z => z) rfl hnm rfl rfl rfl rfl dX1_init_67 (fun H locs hO oq hS => ?_)
  have hO : oF D 1 23 [.ref (h + 1 + 0), .ref (h + 1 + 9), .ref (h + 1 + 18), .ref (h + 1 + 169), .ref (h + 1 + 170), .ref (h + 1 + 171), .ref (h + 1 + 172), .null, .null, .null, .null, .null, .null, .int 0, .int 0, .int 0, .int 0, .int 0, .int 0, .int 0, .int 0, .int 0, .int 0] h H := cf_put (Nat.le_of_ble_eq_true rfl) hO
  have hz := (sz_put hlo hO.lt oq).trans hz
  have hB := Bl_put hB oq
  refine lv_aload_n hx hb dX1_init_70 rfl (lv_at hl 0 rfl) ?_
  refine lv_bipush (v := nI 12) hx hb dX1_init_71 rfl ?_
  refine n_newI E hK (n := 12) (by decide) (Nat.le_of_ble_eq_true rfl) (Nat.le_of_ble_eq_true rfl) dX1_init_73 (fun H1 e1 z1 o1 => ?_)
  have hS := S_old hS (by omega) o1
  have hO := hO.same (o1 _ hO.lt)
  rw [hz] at e1 ⊢
  have hB := Bl_1 hB hz o1 (by rw [hz]; exact e1.trans (congrArg some (cS_12 (by decide) (by decide)).symm))
  have hz : H1.size = h + 1 + 174 := by rw [z1, hz]
  have hlo := hO.lt
  refine gp_putF (C := RX1) (T := TX1) (ty := (.array .int)) E hK (oneO (dT := dT) hO) hS (Nat.le_refl h) (if_pos rfl) rfl in_X1 tyX1 tyX1_ok nmX1 7 (by decide) (hts _ q253) (fun _ z => z) rfl hnm rfl rfl rfl rfl dX1_init_75 (fun H locs hO oq hS => ?_)
  have hO : oF D 1 23 [.ref (h + 1 + 0), .ref (h + 1 + 9), .ref (h + 1 + 18), .ref (h + 1 + 169), .ref (h + 1 + 170), .ref (h + 1 + 171), .ref (h + 1 + 172), .ref (h + 1 + 173), .null, .null, .null, .null, .null, .int 0, .int 0, .int 0, .int 0, .int 0, .int 0, .int 0, .int 0, .int 0, .int 0] h H := cf_put (Nat.le_of_ble_eq_true rfl) hO
  have hz := (sz_put hlo hO.lt oq).trans hz
  have hB := Bl_put hB oq
  refine lv_aload_n hx hb dX1_init_78 rfl (lv_at hl 0 rfl) ?_
  refine lv_bipush (v := nI 8) hx hb dX1_init_79 rfl ?_
  refine n_newI E hK (n := 8) (by decide) (Nat.le_of_ble_eq_true rfl) (Nat.le_of_ble_eq_true rfl) dX1_init_81 (fun H1 e1 z1 o1 => ?_)
  have hS := S_old hS (by omega) o1
  have hO := hO.same (o1 _ hO.lt)
  rw [hz] at e1 ⊢
  have hB := Bl_1 hB hz o1 (by rw [hz]; exact e1.trans (congrArg some cS_174.symm))
  have hz : H1.size = h + 1 + 175 := by rw [z1, hz]
  have hlo := hO.lt
  refine gp_putF (C := RX1) (T := TX1) (ty := (.array .int)) E hK (oneO (dT := dT) hO) hS (Nat.le_refl h) (if_pos rfl) rfl in_X1 tyX1 tyX1_ok nmX1 8 (by decide) (hts _ q255) (fun _ z => z) rfl hnm rfl rfl rfl rfl dX1_init_83 (fun H locs hO oq hS => ?_)
  have hO : oF D 1 23 [.ref (h + 1 + 0), .ref (h + 1 + 9), .ref (h + 1 + 18), .ref (h + 1 + 169), .ref (h + 1 + 170), .ref (h + 1 + 171), .ref (h + 1 + 172), .ref (h + 1 + 173), .ref (h + 1 + 174), .null, .null, .null, .null, .int 0, .int 0, .int 0, .int 0, .int 0, .int 0, .int 0, .int 0, .int 0, .int 0] h H := cf_put (Nat.le_of_ble_eq_true rfl) hO
  have hz := (sz_put hlo hO.lt oq).trans hz
  have hB := Bl_put hB oq
  refine lv_aload_n hx hb dX1_init_86 rfl (lv_at hl 0 rfl) ?_
  refine x_new (B := 3) (C := RJ2) (T := TJ2) E hK (ci := 16) rfl in_J2 tyJ2 tyJ2_ok q211 q212 q165 [.int 0, .null, .int 0] (by decide) (by decide) (Nat.le_of_ble_eq_true rfl) (Nat.le_of_ble_eq_true rfl) dX1_init_87 (fun H1 hQ z1 o1 => ?_)
  have hS := S_old hS (by omega) o1
  have hO := hO.same (o1 _ hO.lt)
  have hB := Bl_old hB o1
  rw [hz] at hQ ⊢
  have hz : H1.size = h + 1 + 176 := by rw [z1, hz]
  refine lv_dup hx hb dX1_init_90 rfl ?_
  have hSV1 : SV Z s H1 := hSV.kept (fun q hq hn => hS.2.1 q hq (fun z => hn (Nat.le_trans hZh z)))
  refine k_iv (Pic := fun U => aLP D dT Z (h + 1 + 175) U ∧ U.heap.size = h + 1 + 176) (Pic1 := fun H => LB D dT Z.2.2.1 (h + 1 + 175) Z.2.2.1 [] H ∧ H.size = h + 1 + 176) (A1 := eqA (h + 1 + 175)) E hS (fun z _ ez => by rw [show z = h + 1 + 175 from ez]; show h ≤ _; omega) (fun z ez => by rw [show z = h + 1 + 175 from ez]; show h ≤ _; omega) (As := []) (tm_init l D dT Z (h + 1 + 175) (h + 1 + 176)) (fun U f mk x h => ⟨aLP_bl U f mk x h.1, h.2⟩) (fun U hU hW => ⟨aLP_pre hQ hE hSV1 (by omega) U hU hW, by rw [hU]; exact hz⟩) q213 q214 q165 q215 rfl dl_init rfl ⟨rfl, rfl⟩ (rmxd_ok (by decide) (by decide)) ⟨Nat.le_of_ble_eq_true rfl, Nat.le_of_ble_eq_true rfl⟩ hl rfl (Nat.le_of_ble_eq_true rfl) dX1_init_91 (fun H locs hLz hz1 hq1 hS => ?_)
  obtain ⟨hL0, hz⟩ := hLz
  have hO := hO.same (hq1 _ hO.lt (fun e => by have : h = h + 1 + 175 := e; omega))
  have hB := Bl_eq hB (by omega) hq1
  have hlo := hO.lt
  refine gp_put (C := RX1) (T := TX1) (ty := (.object "java/util/ArrayList")) E hK (oneO (dT := dT) hO) hS (Nat.le_refl h) (if_pos rfl) rfl in_X1 tyX1 tyX1_ok nmX1 9 (by decide) (hts _ q257) (fun _ z => z) rfl rfl rfl rfl dX1_init_94 (fun H locs hO oq hS => ?_)
  have hO : oF D 1 23 [.ref (h + 1 + 0), .ref (h + 1 + 9), .ref (h + 1 + 18), .ref (h + 1 + 169), .ref (h + 1 + 170), .ref (h + 1 + 171), .ref (h + 1 + 172), .ref (h + 1 + 173), .ref (h + 1 + 174), .ref (h + 1 + 175), .null, .null, .null, .int 0, .int 0, .int 0, .int 0, .int 0, .int 0, .int 0, .int 0, .int 0, .int 0] h H := cf_put (Nat.le_of_ble_eq_true rfl) hO
  have hz := (sz_put hlo hO.lt oq).trans hz
  have hB := Bl_put hB oq
  have hL0 := LB_old hL0 (oq _ (by omega))
  refine lv_aload_n hx hb dX1_init_97 rfl (lv_at hl 0 rfl) ?_
  refine x_new (B := 3) (C := RJ2) (T := TJ2) E hK (ci := 16) rfl in_J2 tyJ2 tyJ2_ok q211 q212 q165 [.int 0, .null, .int 0] (by decide) (by decide) (Nat.le_of_ble_eq_true rfl) (Nat.le_of_ble_eq_true rfl) dX1_init_98 (fun H1 hQ z1 o1 => ?_)
  have hS := S_old hS (by omega) o1
  have hO := hO.same (o1 _ hO.lt)
  have hB := Bl_old hB o1
  have hL0 := LB_old hL0 (o1 _ (LB_al hL0))
  rw [hz] at hQ ⊢
  have hz : H1.size = h + 1 + 177 := by rw [z1, hz]
  refine lv_dup hx hb dX1_init_101 rfl ?_
  have hSV1 : SV Z s H1 := hSV.kept (fun q hq hn => hS.2.1 q hq (fun z => hn (Nat.le_trans hZh z)))
  refine k_iv (Pic := fun U => aLP D dT Z (h + 1 + 176) U ∧ U.heap.size = h + 1 + 177) (Pic1 := fun H => LB D dT Z.2.2.1 (h + 1 + 176) Z.2.2.1 [] H ∧ H.size = h + 1 + 177) (A1 := eqA (h + 1 + 176)) E hS (fun z _ ez => by rw [show z = h + 1 + 176 from ez]; show h ≤ _; omega) (fun z ez => by rw [show z = h + 1 + 176 from ez]; show h ≤ _; omega) (As := []) (tm_init l D dT Z (h + 1 + 176) (h + 1 + 177)) (fun U f mk x h => ⟨aLP_bl U f mk x h.1, h.2⟩) (fun U hU hW => ⟨aLP_pre hQ hE hSV1 (by omega) U hU hW, by rw [hU]; exact hz⟩) q213 q214 q165 q215 rfl dl_init rfl ⟨rfl, rfl⟩ (rmxd_ok (by decide) (by decide)) ⟨Nat.le_of_ble_eq_true rfl, Nat.le_of_ble_eq_true rfl⟩ hl rfl (Nat.le_of_ble_eq_true rfl) dX1_init_102 (fun H locs hLz hz1 hq1 hS => ?_)
  obtain ⟨hL1, hz⟩ := hLz
  have hO := hO.same (hq1 _ hO.lt (fun e => by have : h = h + 1 + 176 := e; omega))
  have hB := Bl_eq hB (by omega) hq1
  have hL0 := LB_old hL0 (hq1 _ (LB_al hL0) (fun e => by have : _ = h + 1 + 176 := e; omega))
  have hlo := hO.lt
  refine gp_put (C := RX1) (T := TX1) (ty := (.object "java/util/ArrayList")) E hK (oneO (dT := dT) hO) hS (Nat.le_refl h) (if_pos rfl) rfl in_X1 tyX1 tyX1_ok nmX1 10 (by decide) (hts _ q259) (fun _ z => z) rfl rfl rfl rfl dX1_init_105 (fun H locs hO oq hS => ?_)
  have hO : oF D 1 23 [.ref (h + 1 + 0), .ref (h + 1 + 9), .ref (h + 1 + 18), .ref (h + 1 + 169), .ref (h + 1 + 170), .ref (h + 1 + 171), .ref (h + 1 + 172), .ref (h + 1 + 173), .ref (h + 1 + 174), .ref (h + 1 + 175), .ref (h + 1 + 176), .null, .null, .int 0, .int 0, .int 0, .int 0, .int 0, .int 0, .int 0, .int 0, .int 0, .int 0] h H := cf_put (Nat.le_of_ble_eq_true rfl) hO
  have hz := (sz_put hlo hO.lt oq).trans hz
  have hB := Bl_put hB oq
  have hL0 := LB_old hL0 (oq _ (by omega))
  have hL1 := LB_old hL1 (oq _ (by omega))
  refine lv_aload_n hx hb dX1_init_108 rfl (lv_at hl 0 rfl) ?_
  refine x_new (B := 3) (C := RJ2) (T := TJ2) E hK (ci := 16) rfl in_J2 tyJ2 tyJ2_ok q211 q212 q165 [.int 0, .null, .int 0] (by decide) (by decide) (Nat.le_of_ble_eq_true rfl) (Nat.le_of_ble_eq_true rfl) dX1_init_109 (fun H1 hQ z1 o1 => ?_)
  have hS := S_old hS (by omega) o1
  have hO := hO.same (o1 _ hO.lt)
  have hB := Bl_old hB o1
  have hL0 := LB_old hL0 (o1 _ (LB_al hL0))
  have hL1 := LB_old hL1 (o1 _ (LB_al hL1))
  rw [hz] at hQ ⊢
  have hz : H1.size = h + 1 + 178 := by rw [z1, hz]
  refine lv_dup hx hb dX1_init_112 rfl ?_
  have hSV1 : SV Z s H1 := hSV.kept (fun q hq hn => hS.2.1 q hq (fun z => hn (Nat.le_trans hZh z)))
  refine k_iv (Pic := fun U => aLP D dT Z (h + 1 + 177) U ∧ U.heap.size = h + 1 + 178) (Pic1 := fun H => LB D dT Z.2.2.1 (h + 1 + 177) Z.2.2.1 [] H ∧ H.size = h + 1 + 178) (A1 := eqA (h + 1 + 177)) E hS (fun z _ ez => by rw [show z = h + 1 + 177 from ez]; show h ≤ _; omega) (fun z ez => by rw [show z = h + 1 + 177 from ez]; show h ≤ _; omega) (As := []) (tm_init l D dT Z (h + 1 + 177) (h + 1 + 178)) (fun U f mk x h => ⟨aLP_bl U f mk x h.1, h.2⟩) (fun U hU hW => ⟨aLP_pre hQ hE hSV1 (by omega) U hU hW, by rw [hU]; exact hz⟩) q213 q214 q165 q215 rfl dl_init rfl ⟨rfl, rfl⟩ (rmxd_ok (by decide) (by decide)) ⟨Nat.le_of_ble_eq_true rfl, Nat.le_of_ble_eq_true rfl⟩ hl rfl (Nat.le_of_ble_eq_true rfl) dX1_init_113 (fun H locs hLz hz1 hq1 hS => ?_)
  obtain ⟨hL2, hz⟩ := hLz
  have hO := hO.same (hq1 _ hO.lt (fun e => by have : h = h + 1 + 177 := e; omega))
  have hB := Bl_eq hB (by omega) hq1
  have hL0 := LB_old hL0 (hq1 _ (LB_al hL0) (fun e => by have : _ = h + 1 + 177 := e; omega))
  have hL1 := LB_old hL1 (hq1 _ (LB_al hL1) (fun e => by have : _ = h + 1 + 177 := e; omega))
  have hlo := hO.lt
  refine gp_put (C := RX1) (T := TX1) (ty := (.object "java/util/ArrayList")) E hK (oneO (dT := dT) hO) hS (Nat.le_refl h) (if_pos rfl) rfl in_X1 tyX1 tyX1_ok nmX1 11 (by decide) (hts _ q261) (fun _ z => z) rfl rfl rfl rfl dX1_init_116 (fun H locs hO oq hS => ?_)
  have hO : oF D 1 23 [.ref (h + 1 + 0), .ref (h + 1 + 9), .ref (h + 1 + 18), .ref (h + 1 + 169), .ref (h + 1 + 170), .ref (h + 1 + 171), .ref (h + 1 + 172), .ref (h + 1 + 173), .ref (h + 1 + 174), .ref (h + 1 + 175), .ref (h + 1 + 176), .ref (h + 1 + 177), .null, .int 0, .int 0, .int 0, .int 0, .int 0, .int 0, .int 0, .int 0, .int 0, .int 0] h H := cf_put (Nat.le_of_ble_eq_true rfl) hO
  have hz := (sz_put hlo hO.lt oq).trans hz
  have hB := Bl_put hB oq
  have hL0 := LB_old hL0 (oq _ (by omega))
  have hL1 := LB_old hL1 (oq _ (by omega))
  have hL2 := LB_old hL2 (oq _ (by omega))
  refine lv_aload_n hx hb dX1_init_119 rfl (lv_at hl 0 rfl) ?_
  refine x_new (B := 3) (C := RJ2) (T := TJ2) E hK (ci := 16) rfl in_J2 tyJ2 tyJ2_ok q211 q212 q165 [.int 0, .null, .int 0] (by decide) (by decide) (Nat.le_of_ble_eq_true rfl) (Nat.le_of_ble_eq_true rfl) dX1_init_120 (fun H1 hQ z1 o1 => ?_)
  have hS := S_old hS (by omega) o1
  have hO := hO.same (o1 _ hO.lt)
  have hB := Bl_old hB o1
  have hL0 := LB_old hL0 (o1 _ (LB_al hL0))
  have hL1 := LB_old hL1 (o1 _ (LB_al hL1))
  have hL2 := LB_old hL2 (o1 _ (LB_al hL2))
  rw [hz] at hQ ⊢
  have hz : H1.size = h + 1 + 179 := by rw [z1, hz]
  refine lv_dup hx hb dX1_init_123 rfl ?_
  have hSV1 : SV Z s H1 := hSV.kept (fun q hq hn => hS.2.1 q hq (fun z => hn (Nat.le_trans hZh z)))
  refine k_iv (Pic := fun U => aLP D dT Z (h + 1 + 178) U ∧ U.heap.size = h + 1 + 179) (Pic1 := fun H => LB D dT Z.2.2.1 (h + 1 + 178) Z.2.2.1 [] H ∧ H.size = h + 1 + 179) (A1 := eqA (h + 1 + 178)) E hS (fun z _ ez => by rw [show z = h + 1 + 178 from ez]; show h ≤ _; omega) (fun z ez => by rw [show z = h + 1 + 178 from ez]; show h ≤ _; omega) (As := []) (tm_init l D dT Z (h + 1 + 178) (h + 1 + 179)) (fun U f mk x h => ⟨aLP_bl U f mk x h.1, h.2⟩) (fun U hU hW => ⟨aLP_pre hQ hE hSV1 (by omega) U hU hW, by rw [hU]; exact hz⟩) q213 q214 q165 q215 rfl dl_init rfl ⟨rfl, rfl⟩ (rmxd_ok (by decide) (by decide)) ⟨Nat.le_of_ble_eq_true rfl, Nat.le_of_ble_eq_true rfl⟩ hl rfl (Nat.le_of_ble_eq_true rfl) dX1_init_124 (fun H locs hLz hz1 hq1 hS => ?_)
  obtain ⟨hL3, hz⟩ := hLz
  have hO := hO.same (hq1 _ hO.lt (fun e => by have : h = h + 1 + 178 := e; omega))
  have hB := Bl_eq hB (by omega) hq1
  have hL0 := LB_old hL0 (hq1 _ (LB_al hL0) (fun e => by have : _ = h + 1 + 178 := e; omega))
  have hL1 := LB_old hL1 (hq1 _ (LB_al hL1) (fun e => by have : _ = h + 1 + 178 := e; omega))
  have hL2 := LB_old hL2 (hq1 _ (LB_al hL2) (fun e => by have : _ = h + 1 + 178 := e; omega))
  have hlo := hO.lt
  refine gp_put (C := RX1) (T := TX1) (ty := (.object "java/util/ArrayList")) E hK (oneO (dT := dT) hO) hS (Nat.le_refl h) (if_pos rfl) rfl in_X1 tyX1 tyX1_ok nmX1 12 (by decide) (hts _ q263) (fun _ z => z) rfl rfl rfl rfl dX1_init_127 (fun H locs hO oq hS => ?_)
  have hO : oF D 1 23 [.ref (h + 1 + 0), .ref (h + 1 + 9), .ref (h + 1 + 18), .ref (h + 1 + 169), .ref (h + 1 + 170), .ref (h + 1 + 171), .ref (h + 1 + 172), .ref (h + 1 + 173), .ref (h + 1 + 174), .ref (h + 1 + 175), .ref (h + 1 + 176), .ref (h + 1 + 177), .ref (h + 1 + 178), .int 0, .int 0, .int 0, .int 0, .int 0, .int 0, .int 0, .int 0, .int 0, .int 0] h H := cf_put (Nat.le_of_ble_eq_true rfl) hO
  have hz := (sz_put hlo hO.lt oq).trans hz
  have hB := Bl_put hB oq
  have hL0 := LB_old hL0 (oq _ (by omega))
  have hL1 := LB_old hL1 (oq _ (by omega))
  have hL2 := LB_old hL2 (oq _ (by omega))
  have hL3 := LB_old hL3 (oq _ (by omega))
  have hP := PS_made hO hB
  refine lv_iconst (v := nI 0) hx hb dX1_init_130 rfl ?_
  refine lv_istore_n (lv' := [(1, .int (nI 0)), (0, .ref h)]) hx hb dX1_init_131 rfl hl (by decide) rfl (fun ls hl => ?_)
  refine lv_iload_n hx hb dX1_init_132 rfl (lv_at hl 0 rfl) ?_
  refine lv_bipush (v := nI 8) hx hb dX1_init_133 rfl ?_
  refine lv_icmp_ge (tgt := 151) hx hb dX1_init_135 (by decide) (fun kc => absurd kc (by decide)) (fun _ => ?_)
  refine lv_aload_n hx hb dX1_init_138 rfl (lv_at hl 1 rfl) ?_
  refine gp_get (C := RX1) (T := TX1) E hK hP (shS_h h) rfl in_X1 8 (by decide) (hts _ q255) (fun _ z => z) (vS_a (by decide) (by decide)) dX1_init_139 ?_
  refine lv_iload_n hx hb dX1_init_142 rfl (lv_at hl 0 rfl) ?_
  refine lv_iconst (v := (-1)) hx hb dX1_init_143 rfl ?_
  refine gp_iast E hK hP hS (Nat.le_trans (Nat.le_add_right h 167) (Nat.le_add_right _ 8)) (shS_a (by decide) (by decide)) (by decide) dX1_init_144 (fun H locs hP oq hS => ?_)
  have hP : PS D dT h (up_ (z0_) 8 0 (-1)) (ρ0_ h) H := PS_ast (by decide) (by decide) (show wr_ (z0_) 8 8 (nI 0) (-1) = some _ from rfl) hP
  have hL0 := LB_old hL0 (oq _ (by omega))
  have hL1 := LB_old hL1 (oq _ (by omega))
  have hL2 := LB_old hL2 (oq _ (by omega))
  have hL3 := LB_old hL3 (oq _ (by omega))
  have hz := (sz_put (by omega) (by have := hP.lt (a := h + 167 + 8) (by rw [shS_a (by decide) (by decide)]; exact fun z => by cases z); exact this) oq).trans hz
  refine lv_iinc (v := nI 1) (lv' := [(1, .int (nI 1)), (0, .ref h)]) hx hb dX1_init_145 hl (k := 0) rfl rfl (by decide) rfl (fun ls hl => ?_)
  refine lv_goto (tgt := 132) hx hb dX1_init_148 (by decide) ?_
  refine lv_iload_n hx hb dX1_init_132 rfl (lv_at hl 0 rfl) ?_
  refine lv_bipush (v := nI 8) hx hb dX1_init_133 rfl ?_
  refine lv_icmp_ge (tgt := 151) hx hb dX1_init_135 (by decide) (fun kc => absurd kc (by decide)) (fun _ => ?_)
  refine lv_aload_n hx hb dX1_init_138 rfl (lv_at hl 1 rfl) ?_
  refine gp_get (C := RX1) (T := TX1) E hK hP (shS_h h) rfl in_X1 8 (by decide) (hts _ q255) (fun _ z => z) (vS_a (by decide) (by decide)) dX1_init_139 ?_
  refine lv_iload_n hx hb dX1_init_142 rfl (lv_at hl 0 rfl) ?_
  refine lv_iconst (v := (-1)) hx hb dX1_init_143 rfl ?_
  refine gp_iast E hK hP hS (Nat.le_trans (Nat.le_add_right h 167) (Nat.le_add_right _ 8)) (shS_a (by decide) (by decide)) (by decide) dX1_init_144 (fun H locs hP oq hS => ?_)
  have hP : PS D dT h (up_ (up_ (z0_) 8 0 (-1)) 8 1 (-1)) (ρ0_ h) H := PS_ast (by decide) (by decide) (show wr_ (up_ (z0_) 8 0 (-1)) 8 8 (nI 1) (-1) = some _ from rfl) hP
  have hL0 := LB_old hL0 (oq _ (by omega))
  have hL1 := LB_old hL1 (oq _ (by omega))
  have hL2 := LB_old hL2 (oq _ (by omega))
  have hL3 := LB_old hL3 (oq _ (by omega))
  have hz := (sz_put (by omega) (by have := hP.lt (a := h + 167 + 8) (by rw [shS_a (by decide) (by decide)]; exact fun z => by cases z); exact this) oq).trans hz
  refine lv_iinc (v := nI 2) (lv' := [(1, .int (nI 2)), (0, .ref h)]) hx hb dX1_init_145 hl (k := 0) rfl rfl (by decide) rfl (fun ls hl => ?_)
  refine lv_goto (tgt := 132) hx hb dX1_init_148 (by decide) ?_
  refine lv_iload_n hx hb dX1_init_132 rfl (lv_at hl 0 rfl) ?_
  refine lv_bipush (v := nI 8) hx hb dX1_init_133 rfl ?_
  refine lv_icmp_ge (tgt := 151) hx hb dX1_init_135 (by decide) (fun kc => absurd kc (by decide)) (fun _ => ?_)
  refine lv_aload_n hx hb dX1_init_138 rfl (lv_at hl 1 rfl) ?_
  refine gp_get (C := RX1) (T := TX1) E hK hP (shS_h h) rfl in_X1 8 (by decide) (hts _ q255) (fun _ z => z) (vS_a (by decide) (by decide)) dX1_init_139 ?_
  refine lv_iload_n hx hb dX1_init_142 rfl (lv_at hl 0 rfl) ?_
  refine lv_iconst (v := (-1)) hx hb dX1_init_143 rfl ?_
  refine gp_iast E hK hP hS (Nat.le_trans (Nat.le_add_right h 167) (Nat.le_add_right _ 8)) (shS_a (by decide) (by decide)) (by decide) dX1_init_144 (fun H locs hP oq hS => ?_)
  have hP : PS D dT h (up_ (up_ (up_ (z0_) 8 0 (-1)) 8 1 (-1)) 8 2 (-1)) (ρ0_ h) H := PS_ast (by decide) (by decide) (show wr_ (up_ (up_ (z0_) 8 0 (-1)) 8 1 (-1)) 8 8 (nI 2) (-1) = some _ from rfl) hP
  have hL0 := LB_old hL0 (oq _ (by omega))
  have hL1 := LB_old hL1 (oq _ (by omega))
  have hL2 := LB_old hL2 (oq _ (by omega))
  have hL3 := LB_old hL3 (oq _ (by omega))
  have hz := (sz_put (by omega) (by have := hP.lt (a := h + 167 + 8) (by rw [shS_a (by decide) (by decide)]; exact fun z => by cases z); exact this) oq).trans hz
  refine lv_iinc (v := nI 3) (lv' := [(1, .int (nI 3)), (0, .ref h)]) hx hb dX1_init_145 hl (k := 0) rfl rfl (by decide) rfl (fun ls hl => ?_)
  refine lv_goto (tgt := 132) hx hb dX1_init_148 (by decide) ?_
  refine lv_iload_n hx hb dX1_init_132 rfl (lv_at hl 0 rfl) ?_
  refine lv_bipush (v := nI 8) hx hb dX1_init_133 rfl ?_
  refine lv_icmp_ge (tgt := 151) hx hb dX1_init_135 (by decide) (fun kc => absurd kc (by decide)) (fun _ => ?_)
  refine lv_aload_n hx hb dX1_init_138 rfl (lv_at hl 1 rfl) ?_
  refine gp_get (C := RX1) (T := TX1) E hK hP (shS_h h) rfl in_X1 8 (by decide) (hts _ q255) (fun _ z => z) (vS_a (by decide) (by decide)) dX1_init_139 ?_
  refine lv_iload_n hx hb dX1_init_142 rfl (lv_at hl 0 rfl) ?_
  refine lv_iconst (v := (-1)) hx hb dX1_init_143 rfl ?_
  refine gp_iast E hK hP hS (Nat.le_trans (Nat.le_add_right h 167) (Nat.le_add_right _ 8)) (shS_a (by decide) (by decide)) (by decide) dX1_init_144 (fun H locs hP oq hS => ?_)
  have hP : PS D dT h (up_ (up_ (up_ (up_ (z0_) 8 0 (-1)) 8 1 (-1)) 8 2 (-1)) 8 3 (-1)) (ρ0_ h) H := PS_ast (by decide) (by decide) (show wr_ (up_ (up_ (up_ (z0_) 8 0 (-1)) 8 1 (-1)) 8 2 (-1)) 8 8 (nI 3) (-1) = some _ from rfl) hP
  have hL0 := LB_old hL0 (oq _ (by omega))
  have hL1 := LB_old hL1 (oq _ (by omega))
  have hL2 := LB_old hL2 (oq _ (by omega))
  have hL3 := LB_old hL3 (oq _ (by omega))
  have hz := (sz_put (by omega) (by have := hP.lt (a := h + 167 + 8) (by rw [shS_a (by decide) (by decide)]; exact fun z => by cases z); exact this) oq).trans hz
  refine lv_iinc (v := nI 4) (lv' := [(1, .int (nI 4)), (0, .ref h)]) hx hb dX1_init_145 hl (k := 0) rfl rfl (by decide) rfl (fun ls hl => ?_)
  refine lv_goto (tgt := 132) hx hb dX1_init_148 (by decide) ?_
  refine lv_iload_n hx hb dX1_init_132 rfl (lv_at hl 0 rfl) ?_
  refine lv_bipush (v := nI 8) hx hb dX1_init_133 rfl ?_
  refine lv_icmp_ge (tgt := 151) hx hb dX1_init_135 (by decide) (fun kc => absurd kc (by decide)) (fun _ => ?_)
  refine lv_aload_n hx hb dX1_init_138 rfl (lv_at hl 1 rfl) ?_
  refine gp_get (C := RX1) (T := TX1) E hK hP (shS_h h) rfl in_X1 8 (by decide) (hts _ q255) (fun _ z => z) (vS_a (by decide) (by decide)) dX1_init_139 ?_
  refine lv_iload_n hx hb dX1_init_142 rfl (lv_at hl 0 rfl) ?_
  refine lv_iconst (v := (-1)) hx hb dX1_init_143 rfl ?_
  refine gp_iast E hK hP hS (Nat.le_trans (Nat.le_add_right h 167) (Nat.le_add_right _ 8)) (shS_a (by decide) (by decide)) (by decide) dX1_init_144 (fun H locs hP oq hS => ?_)
  have hP : PS D dT h (up_ (up_ (up_ (up_ (up_ (z0_) 8 0 (-1)) 8 1 (-1)) 8 2 (-1)) 8 3 (-1)) 8 4 (-1)) (ρ0_ h) H := PS_ast (by decide) (by decide) (show wr_ (up_ (up_ (up_ (up_ (z0_) 8 0 (-1)) 8 1 (-1)) 8 2 (-1)) 8 3 (-1)) 8 8 (nI 4) (-1) = some _ from rfl) hP
  have hL0 := LB_old hL0 (oq _ (by omega))
  have hL1 := LB_old hL1 (oq _ (by omega))
  have hL2 := LB_old hL2 (oq _ (by omega))
  have hL3 := LB_old hL3 (oq _ (by omega))
  have hz := (sz_put (by omega) (by have := hP.lt (a := h + 167 + 8) (by rw [shS_a (by decide) (by decide)]; exact fun z => by cases z); exact this) oq).trans hz
  refine lv_iinc (v := nI 5) (lv' := [(1, .int (nI 5)), (0, .ref h)]) hx hb dX1_init_145 hl (k := 0) rfl rfl (by decide) rfl (fun ls hl => ?_)
  refine lv_goto (tgt := 132) hx hb dX1_init_148 (by decide) ?_
  refine lv_iload_n hx hb dX1_init_132 rfl (lv_at hl 0 rfl) ?_
  refine lv_bipush (v := nI 8) hx hb dX1_init_133 rfl ?_
  refine lv_icmp_ge (tgt := 151) hx hb dX1_init_135 (by decide) (fun kc => absurd kc (by decide)) (fun _ => ?_)
  refine lv_aload_n hx hb dX1_init_138 rfl (lv_at hl 1 rfl) ?_
  refine gp_get (C := RX1) (T := TX1) E hK hP (shS_h h) rfl in_X1 8 (by decide) (hts _ q255) (fun _ z => z) (vS_a (by decide) (by decide)) dX1_init_139 ?_
  refine lv_iload_n hx hb dX1_init_142 rfl (lv_at hl 0 rfl) ?_
  refine lv_iconst (v := (-1)) hx hb dX1_init_143 rfl ?_
  refine gp_iast E hK hP hS (Nat.le_trans (Nat.le_add_right h 167) (Nat.le_add_right _ 8)) (shS_a (by decide) (by decide)) (by decide) dX1_init_144 (fun H locs hP oq hS => ?_)
  have hP : PS D dT h (up_ (up_ (up_ (up_ (up_ (up_ (z0_) 8 0 (-1)) 8 1 (-1)) 8 2 (-1)) 8 3 (-1)) 8 4 (-1)) 8 5 (-1)) (ρ0_ h) H := PS_ast (by decide) (by decide) (show wr_ (up_ (up_ (up_ (up_ (up_ (z0_) 8 0 (-1)) 8 1 (-1)) 8 2 (-1)) 8 3 (-1)) 8 4 (-1)) 8 8 (nI 5) (-1) = some _ from rfl) hP
  have hL0 := LB_old hL0 (oq _ (by omega))
  have hL1 := LB_old hL1 (oq _ (by omega))
  have hL2 := LB_old hL2 (oq _ (by omega))
  have hL3 := LB_old hL3 (oq _ (by omega))
  have hz := (sz_put (by omega) (by have := hP.lt (a := h + 167 + 8) (by rw [shS_a (by decide) (by decide)]; exact fun z => by cases z); exact this) oq).trans hz
  refine lv_iinc (v := nI 6) (lv' := [(1, .int (nI 6)), (0, .ref h)]) hx hb dX1_init_145 hl (k := 0) rfl rfl (by decide) rfl (fun ls hl => ?_)
  refine lv_goto (tgt := 132) hx hb dX1_init_148 (by decide) ?_
  refine lv_iload_n hx hb dX1_init_132 rfl (lv_at hl 0 rfl) ?_
  refine lv_bipush (v := nI 8) hx hb dX1_init_133 rfl ?_
  refine lv_icmp_ge (tgt := 151) hx hb dX1_init_135 (by decide) (fun kc => absurd kc (by decide)) (fun _ => ?_)
  refine lv_aload_n hx hb dX1_init_138 rfl (lv_at hl 1 rfl) ?_
  refine gp_get (C := RX1) (T := TX1) E hK hP (shS_h h) rfl in_X1 8 (by decide) (hts _ q255) (fun _ z => z) (vS_a (by decide) (by decide)) dX1_init_139 ?_
  refine lv_iload_n hx hb dX1_init_142 rfl (lv_at hl 0 rfl) ?_
  refine lv_iconst (v := (-1)) hx hb dX1_init_143 rfl ?_
  refine gp_iast E hK hP hS (Nat.le_trans (Nat.le_add_right h 167) (Nat.le_add_right _ 8)) (shS_a (by decide) (by decide)) (by decide) dX1_init_144 (fun H locs hP oq hS => ?_)
  have hP : PS D dT h (up_ (up_ (up_ (up_ (up_ (up_ (up_ (z0_) 8 0 (-1)) 8 1 (-1)) 8 2 (-1)) 8 3 (-1)) 8 4 (-1)) 8 5 (-1)) 8 6 (-1)) (ρ0_ h) H := PS_ast (by decide) (by decide) (show wr_ (up_ (up_ (up_ (up_ (up_ (up_ (z0_) 8 0 (-1)) 8 1 (-1)) 8 2 (-1)) 8 3 (-1)) 8 4 (-1)) 8 5 (-1)) 8 8 (nI 6) (-1) = some _ from rfl) hP
  have hL0 := LB_old hL0 (oq _ (by omega))
  have hL1 := LB_old hL1 (oq _ (by omega))
  have hL2 := LB_old hL2 (oq _ (by omega))
  have hL3 := LB_old hL3 (oq _ (by omega))
  have hz := (sz_put (by omega) (by have := hP.lt (a := h + 167 + 8) (by rw [shS_a (by decide) (by decide)]; exact fun z => by cases z); exact this) oq).trans hz
  refine lv_iinc (v := nI 7) (lv' := [(1, .int (nI 7)), (0, .ref h)]) hx hb dX1_init_145 hl (k := 0) rfl rfl (by decide) rfl (fun ls hl => ?_)
  refine lv_goto (tgt := 132) hx hb dX1_init_148 (by decide) ?_
  refine lv_iload_n hx hb dX1_init_132 rfl (lv_at hl 0 rfl) ?_
  refine lv_bipush (v := nI 8) hx hb dX1_init_133 rfl ?_
  refine lv_icmp_ge (tgt := 151) hx hb dX1_init_135 (by decide) (fun kc => absurd kc (by decide)) (fun _ => ?_)
  refine lv_aload_n hx hb dX1_init_138 rfl (lv_at hl 1 rfl) ?_
  refine gp_get (C := RX1) (T := TX1) E hK hP (shS_h h) rfl in_X1 8 (by decide) (hts _ q255) (fun _ z => z) (vS_a (by decide) (by decide)) dX1_init_139 ?_
  refine lv_iload_n hx hb dX1_init_142 rfl (lv_at hl 0 rfl) ?_
  refine lv_iconst (v := (-1)) hx hb dX1_init_143 rfl ?_
  refine gp_iast E hK hP hS (Nat.le_trans (Nat.le_add_right h 167) (Nat.le_add_right _ 8)) (shS_a (by decide) (by decide)) (by decide) dX1_init_144 (fun H locs hP oq hS => ?_)
  have hP : PS D dT h (up_ (up_ (up_ (up_ (up_ (up_ (up_ (up_ (z0_) 8 0 (-1)) 8 1 (-1)) 8 2 (-1)) 8 3 (-1)) 8 4 (-1)) 8 5 (-1)) 8 6 (-1)) 8 7 (-1)) (ρ0_ h) H := PS_ast (by decide) (by decide) (show wr_ (up_ (up_ (up_ (up_ (up_ (up_ (up_ (z0_) 8 0 (-1)) 8 1 (-1)) 8 2 (-1)) 8 3 (-1)) 8 4 (-1)) 8 5 (-1)) 8 6 (-1)) 8 8 (nI 7) (-1) = some _ from rfl) hP
  have hL0 := LB_old hL0 (oq _ (by omega))
  have hL1 := LB_old hL1 (oq _ (by omega))
  have hL2 := LB_old hL2 (oq _ (by omega))
  have hL3 := LB_old hL3 (oq _ (by omega))
  have hz := (sz_put (by omega) (by have := hP.lt (a := h + 167 + 8) (by rw [shS_a (by decide) (by decide)]; exact fun z => by cases z); exact this) oq).trans hz
  refine lv_iinc (v := nI 8) (lv' := [(1, .int (nI 8)), (0, .ref h)]) hx hb dX1_init_145 hl (k := 0) rfl rfl (by decide) rfl (fun ls hl => ?_)
  refine lv_goto (tgt := 132) hx hb dX1_init_148 (by decide) ?_
  refine lv_iload_n hx hb dX1_init_132 rfl (lv_at hl 0 rfl) ?_
  refine lv_bipush (v := nI 8) hx hb dX1_init_133 rfl ?_
  refine lv_icmp_ge (tgt := 151) hx hb dX1_init_135 (by decide) (fun _ => ?_) (fun kc => absurd (by decide) kc)
  exact g_vret (Pic := fun H => SkF D dT Z h H ∧ H.size = h + 180) E hr hlk ⟨⟨hP, fun i hi => by rcases (show i = 0 ∨ i = 1 ∨ i = 2 ∨ i = 3 by omega) with rfl | rfl | rfl | rfl; exact hL0; exact hL1; exact hL2; exact hL3⟩, hz⟩ hS dX1_init_151
