set_option maxRecDepth 100000
/-! ===== the constructor of NapkinDeeds ===== -/
/-- nothing is known yet -/
def sy_0 : sy_S := (((0, 0, [], [], [], []), ([], [], []), []), (fun _ => none), (fun _ => none), [], 0, -1)
section IN996
variable {g : nd_G} {d : Nat} {K : nd_K} {h : nd_H}
theorem ni_X1 (hg : nd_OK g) (hd : 6 ≤ d) (l0 : h.length = 1) (b0 : h[0]? = some (.inr (nX1, [.null, .null, .null, .null, .null, .null, .int 0, .int 0, .int 0, .null, .null, .int 0, .null]))) (hk : ∀ h2, h2.length = 101 → cw_I sy_0 h2 → K (.inl none) h2) : nd_M g mX1_init d 100 30000 [.ref 0] h K := by
  refine nd_enter hg (by decide) rfl (Nat.le_of_ble_eq_true rfl) (fun X hC => ?_)
  refine nd_aload_n hC dX1_init_0 rfl rfl ?_
  refine nd_objInit hC q224 q225 q226 (by exact Nat.le_of_ble_eq_true rfl) dX1_init_1 ?_
  have H0def : True := trivial
  refine nd_aload_n hC dX1_init_4 rfl rfl ?_
  refine nd_new (ci := nX2) hC [.null, .null, .null, .null, .int 0] in_X2 rfl tyX2 tyX2_ok q227 q228 q150 rfl rfl (by omega) (by omega) dX1_init_5 ?_
  rw [l0]
  refine nd_dup hC (by rfl) dX1_init_8 ?_
  refine nd_callIN (mm2 := mX2_init) (As := []) (mc2 := 7) (ms2 := 33) (d2 := d - 1) hC rfl rfl q231 q150 q229 q230 rfl lmX2_init (Nat.le_of_ble_eq_true rfl) (by omega) rfl (by exact Nat.le_of_ble_eq_true rfl) (by omega) (by omega) dX1_init_9 rfl ((ni_X2 (b := 1) hg (by omega) (by rw [List.length_append, l0]; rfl) (by rw [← l0]; exact l_at_last) (fun G0 v1_0 v2_0 v3_0 v4_0 => ?_)))
  have gl0 : G0.length = 9 := by rw [v1_0.1, List.length_append, l0]; rfl
  have gk0 : ∀ c, c < 1 → G0[c]? = h[c]? := fun c hc => (v1_0.2 c (by omega) (by rw [List.length_append, l0]; show c < 1 + 1; omega)).trans (List.getElem?_append_left (by rw [l0]; exact hc))
  have gb0 := (gk0 0 (by omega)).trans b0
  refine nd_putF (ci := nX1) hC in_X1 rfl gb0 0 (by decide) tyX1 tyX1_ok (by decide +kernel) q384 (fun _ z => z) rfl rfl rfl rfl rfl (by show 0 < 13; decide) dX1_init_12 ?_
  show nd_W _ _ _ _ _ _ _ _ _ _ (G0.set 0 (.inr (nX1, [.ref 1, .null, .null, .null, .null, .null, .int 0, .int 0, .int 0, .null, .null, .int 0, .null]) : nd_C)) _ _
  generalize e1 : G0.set 0 (.inr (nX1, [.ref 1, .null, .null, .null, .null, .null, .int 0, .int 0, .int 0, .null, .null, .int 0, .null]) : nd_C) = H1
  have l1 : H1.length = 9 := by rw [← e1, List.length_set]; exact gl0
  have g1 : ∀ c, c ≠ 0 → H1[c]? = G0[c]? := fun c hc => by rw [← e1]; exact List.getElem?_set_ne (Ne.symm hc)
  have b1 : H1[0]? = some (.inr (nX1, [.ref 1, .null, .null, .null, .null, .null, .int 0, .int 0, .int 0, .null, .null, .int 0, .null]) : nd_C) := by rw [← e1]; exact List.getElem?_set_self (by rw [gl0]; omega)
  have k1 : ∀ c, c ≠ 0 → c ≠ 17 → c ≠ 95 → c < 1 → H1[c]? = h[c]? := fun c z1 z2 z3 z4 => (g1 c z1).trans ((fun c z1 _ _ z4 => gk0 c z4) c z1 z2 z3 z4)
  refine nd_aload_n hC dX1_init_15 rfl rfl ?_
  refine nd_new (ci := nX2) hC [.null, .null, .null, .null, .int 0] in_X2 rfl tyX2 tyX2_ok q227 q228 q150 rfl rfl (by omega) (by omega) dX1_init_16 ?_
  rw [l1]
  refine nd_dup hC (by rfl) dX1_init_19 ?_
  refine nd_callIN (mm2 := mX2_init) (As := []) (mc2 := 7) (ms2 := 33) (d2 := d - 1) hC rfl rfl q231 q150 q229 q230 rfl lmX2_init (Nat.le_of_ble_eq_true rfl) (by omega) rfl (by exact Nat.le_of_ble_eq_true rfl) (by omega) (by omega) dX1_init_20 rfl ((ni_X2 (b := 9) hg (by omega) (by rw [List.length_append, l1]; rfl) (by rw [← l1]; exact l_at_last) (fun G1 v1_1 v2_1 v3_1 v4_1 => ?_)))
  have gl1 : G1.length = 17 := by rw [v1_1.1, List.length_append, l1]; rfl
  have gk1 : ∀ c, c < 9 → G1[c]? = H1[c]? := fun c hc => (v1_1.2 c (by omega) (by rw [List.length_append, l1]; show c < 9 + 1; omega)).trans (List.getElem?_append_left (by rw [l1]; exact hc))
  have gb1 := (gk1 0 (by omega)).trans b1
  refine nd_putF (ci := nX1) hC in_X1 rfl gb1 1 (by decide) tyX1 tyX1_ok (by decide +kernel) q385 (fun _ z => z) rfl rfl rfl rfl rfl (by show 1 < 13; decide) dX1_init_23 ?_
  show nd_W _ _ _ _ _ _ _ _ _ _ (G1.set 0 (.inr (nX1, [.ref 1, .ref 9, .null, .null, .null, .null, .int 0, .int 0, .int 0, .null, .null, .int 0, .null]) : nd_C)) _ _
  generalize e2 : G1.set 0 (.inr (nX1, [.ref 1, .ref 9, .null, .null, .null, .null, .int 0, .int 0, .int 0, .null, .null, .int 0, .null]) : nd_C) = H2
  have l2 : H2.length = 17 := by rw [← e2, List.length_set]; exact gl1
  have g2 : ∀ c, c ≠ 0 → H2[c]? = G1[c]? := fun c hc => by rw [← e2]; exact List.getElem?_set_ne (Ne.symm hc)
  have b2 : H2[0]? = some (.inr (nX1, [.ref 1, .ref 9, .null, .null, .null, .null, .int 0, .int 0, .int 0, .null, .null, .int 0, .null]) : nd_C) := by rw [← e2]; exact List.getElem?_set_self (by rw [gl1]; omega)
  have k2 : ∀ c, c ≠ 0 → c ≠ 17 → c ≠ 95 → c < 9 → H2[c]? = H1[c]? := fun c z1 z2 z3 z4 => (g2 c z1).trans ((fun c z1 _ _ z4 => gk1 c z4) c z1 z2 z3 z4)
  refine nd_aload_n hC dX1_init_26 rfl rfl ?_
  refine nd_bipush hC (v := nI 8) (by rfl) dX1_init_27 ?_
  refine nd_anew hC (C := "NapkinDeeds$Look") (ty := 6) (N := 8) q323 q324 rfl (nI_toInt (by omega)) (by decide) (by omega) (by omega) dX1_init_29 ?_
  rw [l2]
  generalize e3 : H2 ++ [(.inl (6, 8, .inr (.inr (fun _ => .null))) : nd_C)] = H3
  have l3 : H3.length = 18 := by rw [← e3, List.length_append, l2]; rfl
  have g3 : ∀ c, c < 17 → H3[c]? = H2[c]? := fun c hc => by rw [← e3]; exact List.getElem?_append_left (by rw [l2]; exact hc)
  have b3 := (g3 0 (by omega)).trans b2
  have w3 : H3[17]? = some (.inl (6, 8, .inr (.inr (fun _ => .null))) : nd_C) := by rw [← e3, ← l2]; exact l_at_last
  have k3 : ∀ c, c ≠ 0 → c ≠ 17 → c ≠ 95 → c < 17 → H3[c]? = H2[c]? := fun c _ _ _ z4 => g3 c z4
  refine nd_dup hC (by rfl) dX1_init_32 ?_
  refine nd_iconst hC (v := nI 0) (by rfl) dX1_init_33 ?_
  refine nd_new (ci := nX4) hC [.null, .null, .int 0] in_X4 rfl tyX4 tyX4_ok q323 q325 q155 rfl rfl (by omega) (by omega) dX1_init_34 ?_
  rw [l3]
  refine nd_dup hC (by rfl) dX1_init_37 ?_
  refine nd_callIN (mm2 := mX4_init) (As := []) (mc2 := 8) (ms2 := 48) (d2 := d - 1) hC rfl rfl q328 q155 q326 q327 rfl lmX4_init (Nat.le_of_ble_eq_true rfl) (by omega) rfl (by exact Nat.le_of_ble_eq_true rfl) (by omega) (by omega) dX1_init_38 rfl ((ni_X4 (b := 18) hg (by rw [List.length_append, l3]; rfl) (by rw [← l3]; exact l_at_last) (fun G3 v1_3 v2_3 => ?_)))
  have gl3 : G3.length = 27 := by rw [v1_3.1, List.length_append, l3]; rfl
  have gk3 : ∀ c, c < 18 → G3[c]? = H3[c]? := fun c hc => (v1_3.2 c (by omega) (by rw [List.length_append, l3]; show c < 18 + 1; omega)).trans (List.getElem?_append_left (by rw [l3]; exact hc))
  have ga3 := v2_3.1
  have gw3 := (gk3 17 (by omega)).trans w3
  refine nd_astC (j := 0) (n := 8) (ty := 6) (ci := nX4) hC rfl rfl gw3 ga3 (by omega) (by omega) dX1_init_41 ?_
  generalize e4 : G3.set 17 _ = H4
  have l4 : H4.length = 27 := by rw [← e4, List.length_set]; exact gl3
  have g4 : ∀ c, c ≠ 17 → H4[c]? = G3[c]? := fun c hc => by rw [← e4]; exact List.getElem?_set_ne (Ne.symm hc)
  have b4 := (g4 0 (by omega)).trans ((gk3 0 (by omega)).trans b3)
  have w4 : H4[17]? = some (.inl (6, 8, .inr (.inr (va_up (fun _ => .null) 0 (.ref 18))))) := by rw [← e4]; exact List.getElem?_set_self (by rw [gl3]; omega)
  have k4 : ∀ c, c ≠ 0 → c ≠ 17 → c ≠ 95 → c < 18 → H4[c]? = H3[c]? := fun c z1 z2 z3 z4 => (g4 c (by omega)).trans (gk3 c z4)
  refine nd_dup hC (by rfl) dX1_init_42 ?_
  refine nd_iconst hC (v := nI 1) (by rfl) dX1_init_43 ?_
  refine nd_new (ci := nX4) hC [.null, .null, .int 0] in_X4 rfl tyX4 tyX4_ok q323 q325 q155 rfl rfl (by omega) (by omega) dX1_init_44 ?_
  rw [l4]
  refine nd_dup hC (by rfl) dX1_init_47 ?_
  refine nd_callIN (mm2 := mX4_init) (As := []) (mc2 := 8) (ms2 := 48) (d2 := d - 1) hC rfl rfl q328 q155 q326 q327 rfl lmX4_init (Nat.le_of_ble_eq_true rfl) (by omega) rfl (by exact Nat.le_of_ble_eq_true rfl) (by omega) (by omega) dX1_init_48 rfl ((ni_X4 (b := 27) hg (by rw [List.length_append, l4]; rfl) (by rw [← l4]; exact l_at_last) (fun G4 v1_4 v2_4 => ?_)))
  have gl4 : G4.length = 36 := by rw [v1_4.1, List.length_append, l4]; rfl
  have gk4 : ∀ c, c < 27 → G4[c]? = H4[c]? := fun c hc => (v1_4.2 c (by omega) (by rw [List.length_append, l4]; show c < 27 + 1; omega)).trans (List.getElem?_append_left (by rw [l4]; exact hc))
  have ga4 := v2_4.1
  have gw4 := (gk4 17 (by omega)).trans w4
  refine nd_astC (j := 1) (n := 8) (ty := 6) (ci := nX4) hC rfl rfl gw4 ga4 (by omega) (by omega) dX1_init_51 ?_
  generalize e5 : G4.set 17 _ = H5
  have l5 : H5.length = 36 := by rw [← e5, List.length_set]; exact gl4
  have g5 : ∀ c, c ≠ 17 → H5[c]? = G4[c]? := fun c hc => by rw [← e5]; exact List.getElem?_set_ne (Ne.symm hc)
  have b5 := (g5 0 (by omega)).trans ((gk4 0 (by omega)).trans b4)
  have w5 : H5[17]? = some (.inl (6, 8, .inr (.inr (va_up (va_up (fun _ => .null) 0 (.ref 18)) 1 (.ref 27))))) := by rw [← e5]; exact List.getElem?_set_self (by rw [gl4]; omega)
  have k5 : ∀ c, c ≠ 0 → c ≠ 17 → c ≠ 95 → c < 27 → H5[c]? = H4[c]? := fun c z1 z2 z3 z4 => (g5 c (by omega)).trans (gk4 c z4)
  refine nd_dup hC (by rfl) dX1_init_52 ?_
  refine nd_iconst hC (v := nI 2) (by rfl) dX1_init_53 ?_
  refine nd_new (ci := nX4) hC [.null, .null, .int 0] in_X4 rfl tyX4 tyX4_ok q323 q325 q155 rfl rfl (by omega) (by omega) dX1_init_54 ?_
  rw [l5]
  refine nd_dup hC (by rfl) dX1_init_57 ?_
  refine nd_callIN (mm2 := mX4_init) (As := []) (mc2 := 8) (ms2 := 48) (d2 := d - 1) hC rfl rfl q328 q155 q326 q327 rfl lmX4_init (Nat.le_of_ble_eq_true rfl) (by omega) rfl (by exact Nat.le_of_ble_eq_true rfl) (by omega) (by omega) dX1_init_58 rfl ((ni_X4 (b := 36) hg (by rw [List.length_append, l5]; rfl) (by rw [← l5]; exact l_at_last) (fun G5 v1_5 v2_5 => ?_)))
  have gl5 : G5.length = 45 := by rw [v1_5.1, List.length_append, l5]; rfl
  have gk5 : ∀ c, c < 36 → G5[c]? = H5[c]? := fun c hc => (v1_5.2 c (by omega) (by rw [List.length_append, l5]; show c < 36 + 1; omega)).trans (List.getElem?_append_left (by rw [l5]; exact hc))
  have ga5 := v2_5.1
  have gw5 := (gk5 17 (by omega)).trans w5
  refine nd_astC (j := 2) (n := 8) (ty := 6) (ci := nX4) hC rfl rfl gw5 ga5 (by omega) (by omega) dX1_init_61 ?_
  generalize e6 : G5.set 17 _ = H6
  have l6 : H6.length = 45 := by rw [← e6, List.length_set]; exact gl5
  have g6 : ∀ c, c ≠ 17 → H6[c]? = G5[c]? := fun c hc => by rw [← e6]; exact List.getElem?_set_ne (Ne.symm hc)
  have b6 := (g6 0 (by omega)).trans ((gk5 0 (by omega)).trans b5)
  have w6 : H6[17]? = some (.inl (6, 8, .inr (.inr (va_up (va_up (va_up (fun _ => .null) 0 (.ref 18)) 1 (.ref 27)) 2 (.ref 36))))) := by rw [← e6]; exact List.getElem?_set_self (by rw [gl5]; omega)
  have k6 : ∀ c, c ≠ 0 → c ≠ 17 → c ≠ 95 → c < 36 → H6[c]? = H5[c]? := fun c z1 z2 z3 z4 => (g6 c (by omega)).trans (gk5 c z4)
  refine nd_dup hC (by rfl) dX1_init_62 ?_
  refine nd_iconst hC (v := nI 3) (by rfl) dX1_init_63 ?_
  refine nd_new (ci := nX4) hC [.null, .null, .int 0] in_X4 rfl tyX4 tyX4_ok q323 q325 q155 rfl rfl (by omega) (by omega) dX1_init_64 ?_
  rw [l6]
  refine nd_dup hC (by rfl) dX1_init_67 ?_
  refine nd_callIN (mm2 := mX4_init) (As := []) (mc2 := 8) (ms2 := 48) (d2 := d - 1) hC rfl rfl q328 q155 q326 q327 rfl lmX4_init (Nat.le_of_ble_eq_true rfl) (by omega) rfl (by exact Nat.le_of_ble_eq_true rfl) (by omega) (by omega) dX1_init_68 rfl ((ni_X4 (b := 45) hg (by rw [List.length_append, l6]; rfl) (by rw [← l6]; exact l_at_last) (fun G6 v1_6 v2_6 => ?_)))
  have gl6 : G6.length = 54 := by rw [v1_6.1, List.length_append, l6]; rfl
  have gk6 : ∀ c, c < 45 → G6[c]? = H6[c]? := fun c hc => (v1_6.2 c (by omega) (by rw [List.length_append, l6]; show c < 45 + 1; omega)).trans (List.getElem?_append_left (by rw [l6]; exact hc))
  have ga6 := v2_6.1
  have gw6 := (gk6 17 (by omega)).trans w6
  refine nd_astC (j := 3) (n := 8) (ty := 6) (ci := nX4) hC rfl rfl gw6 ga6 (by omega) (by omega) dX1_init_71 ?_
  generalize e7 : G6.set 17 _ = H7
  have l7 : H7.length = 54 := by rw [← e7, List.length_set]; exact gl6
  have g7 : ∀ c, c ≠ 17 → H7[c]? = G6[c]? := fun c hc => by rw [← e7]; exact List.getElem?_set_ne (Ne.symm hc)
  have b7 := (g7 0 (by omega)).trans ((gk6 0 (by omega)).trans b6)
  have w7 : H7[17]? = some (.inl (6, 8, .inr (.inr (va_up (va_up (va_up (va_up (fun _ => .null) 0 (.ref 18)) 1 (.ref 27)) 2 (.ref 36)) 3 (.ref 45))))) := by rw [← e7]; exact List.getElem?_set_self (by rw [gl6]; omega)
  have k7 : ∀ c, c ≠ 0 → c ≠ 17 → c ≠ 95 → c < 45 → H7[c]? = H6[c]? := fun c z1 z2 z3 z4 => (g7 c (by omega)).trans (gk6 c z4)
  refine nd_dup hC (by rfl) dX1_init_72 ?_
  refine nd_iconst hC (v := nI 4) (by rfl) dX1_init_73 ?_
  refine nd_new (ci := nX4) hC [.null, .null, .int 0] in_X4 rfl tyX4 tyX4_ok q323 q325 q155 rfl rfl (by omega) (by omega) dX1_init_74 ?_
  rw [l7]
  refine nd_dup hC (by rfl) dX1_init_77 ?_
  refine nd_callIN (mm2 := mX4_init) (As := []) (mc2 := 8) (ms2 := 48) (d2 := d - 1) hC rfl rfl q328 q155 q326 q327 rfl lmX4_init (Nat.le_of_ble_eq_true rfl) (by omega) rfl (by exact Nat.le_of_ble_eq_true rfl) (by omega) (by omega) dX1_init_78 rfl ((ni_X4 (b := 54) hg (by rw [List.length_append, l7]; rfl) (by rw [← l7]; exact l_at_last) (fun G7 v1_7 v2_7 => ?_)))
  have gl7 : G7.length = 63 := by rw [v1_7.1, List.length_append, l7]; rfl
  have gk7 : ∀ c, c < 54 → G7[c]? = H7[c]? := fun c hc => (v1_7.2 c (by omega) (by rw [List.length_append, l7]; show c < 54 + 1; omega)).trans (List.getElem?_append_left (by rw [l7]; exact hc))
  have ga7 := v2_7.1
  have gw7 := (gk7 17 (by omega)).trans w7
  refine nd_astC (j := 4) (n := 8) (ty := 6) (ci := nX4) hC rfl rfl gw7 ga7 (by omega) (by omega) dX1_init_81 ?_
  generalize e8 : G7.set 17 _ = H8
  have l8 : H8.length = 63 := by rw [← e8, List.length_set]; exact gl7
  have g8 : ∀ c, c ≠ 17 → H8[c]? = G7[c]? := fun c hc => by rw [← e8]; exact List.getElem?_set_ne (Ne.symm hc)
  have b8 := (g8 0 (by omega)).trans ((gk7 0 (by omega)).trans b7)
  have w8 : H8[17]? = some (.inl (6, 8, .inr (.inr (va_up (va_up (va_up (va_up (va_up (fun _ => .null) 0 (.ref 18)) 1 (.ref 27)) 2 (.ref 36)) 3 (.ref 45)) 4 (.ref 54))))) := by rw [← e8]; exact List.getElem?_set_self (by rw [gl7]; omega)
  have k8 : ∀ c, c ≠ 0 → c ≠ 17 → c ≠ 95 → c < 54 → H8[c]? = H7[c]? := fun c z1 z2 z3 z4 => (g8 c (by omega)).trans (gk7 c z4)
  refine nd_dup hC (by rfl) dX1_init_82 ?_
  refine nd_iconst hC (v := nI 5) (by rfl) dX1_init_83 ?_
  refine nd_new (ci := nX4) hC [.null, .null, .int 0] in_X4 rfl tyX4 tyX4_ok q323 q325 q155 rfl rfl (by omega) (by omega) dX1_init_84 ?_
  rw [l8]
  refine nd_dup hC (by rfl) dX1_init_87 ?_
  refine nd_callIN (mm2 := mX4_init) (As := []) (mc2 := 8) (ms2 := 48) (d2 := d - 1) hC rfl rfl q328 q155 q326 q327 rfl lmX4_init (Nat.le_of_ble_eq_true rfl) (by omega) rfl (by exact Nat.le_of_ble_eq_true rfl) (by omega) (by omega) dX1_init_88 rfl ((ni_X4 (b := 63) hg (by rw [List.length_append, l8]; rfl) (by rw [← l8]; exact l_at_last) (fun G8 v1_8 v2_8 => ?_)))
  have gl8 : G8.length = 72 := by rw [v1_8.1, List.length_append, l8]; rfl
  have gk8 : ∀ c, c < 63 → G8[c]? = H8[c]? := fun c hc => (v1_8.2 c (by omega) (by rw [List.length_append, l8]; show c < 63 + 1; omega)).trans (List.getElem?_append_left (by rw [l8]; exact hc))
  have ga8 := v2_8.1
  have gw8 := (gk8 17 (by omega)).trans w8
  refine nd_astC (j := 5) (n := 8) (ty := 6) (ci := nX4) hC rfl rfl gw8 ga8 (by omega) (by omega) dX1_init_91 ?_
  generalize e9 : G8.set 17 _ = H9
  have l9 : H9.length = 72 := by rw [← e9, List.length_set]; exact gl8
  have g9 : ∀ c, c ≠ 17 → H9[c]? = G8[c]? := fun c hc => by rw [← e9]; exact List.getElem?_set_ne (Ne.symm hc)
  have b9 := (g9 0 (by omega)).trans ((gk8 0 (by omega)).trans b8)
  have w9 : H9[17]? = some (.inl (6, 8, .inr (.inr (va_up (va_up (va_up (va_up (va_up (va_up (fun _ => .null) 0 (.ref 18)) 1 (.ref 27)) 2 (.ref 36)) 3 (.ref 45)) 4 (.ref 54)) 5 (.ref 63))))) := by rw [← e9]; exact List.getElem?_set_self (by rw [gl8]; omega)
  have k9 : ∀ c, c ≠ 0 → c ≠ 17 → c ≠ 95 → c < 63 → H9[c]? = H8[c]? := fun c z1 z2 z3 z4 => (g9 c (by omega)).trans (gk8 c z4)
  refine nd_dup hC (by rfl) dX1_init_92 ?_
  refine nd_bipush hC (v := nI 6) (by rfl) dX1_init_93 ?_
  refine nd_new (ci := nX4) hC [.null, .null, .int 0] in_X4 rfl tyX4 tyX4_ok q323 q325 q155 rfl rfl (by omega) (by omega) dX1_init_95 ?_
  rw [l9]
  refine nd_dup hC (by rfl) dX1_init_98 ?_
  refine nd_callIN (mm2 := mX4_init) (As := []) (mc2 := 8) (ms2 := 48) (d2 := d - 1) hC rfl rfl q328 q155 q326 q327 rfl lmX4_init (Nat.le_of_ble_eq_true rfl) (by omega) rfl (by exact Nat.le_of_ble_eq_true rfl) (by omega) (by omega) dX1_init_99 rfl ((ni_X4 (b := 72) hg (by rw [List.length_append, l9]; rfl) (by rw [← l9]; exact l_at_last) (fun G9 v1_9 v2_9 => ?_)))
  have gl9 : G9.length = 81 := by rw [v1_9.1, List.length_append, l9]; rfl
  have gk9 : ∀ c, c < 72 → G9[c]? = H9[c]? := fun c hc => (v1_9.2 c (by omega) (by rw [List.length_append, l9]; show c < 72 + 1; omega)).trans (List.getElem?_append_left (by rw [l9]; exact hc))
  have ga9 := v2_9.1
  have gw9 := (gk9 17 (by omega)).trans w9
  refine nd_astC (j := 6) (n := 8) (ty := 6) (ci := nX4) hC rfl rfl gw9 ga9 (by omega) (by omega) dX1_init_102 ?_
  generalize e10 : G9.set 17 _ = H10
  have l10 : H10.length = 81 := by rw [← e10, List.length_set]; exact gl9
  have g10 : ∀ c, c ≠ 17 → H10[c]? = G9[c]? := fun c hc => by rw [← e10]; exact List.getElem?_set_ne (Ne.symm hc)
  have b10 := (g10 0 (by omega)).trans ((gk9 0 (by omega)).trans b9)
  have w10 : H10[17]? = some (.inl (6, 8, .inr (.inr (va_up (va_up (va_up (va_up (va_up (va_up (va_up (fun _ => .null) 0 (.ref 18)) 1 (.ref 27)) 2 (.ref 36)) 3 (.ref 45)) 4 (.ref 54)) 5 (.ref 63)) 6 (.ref 72))))) := by rw [← e10]; exact List.getElem?_set_self (by rw [gl9]; omega)
  have k10 : ∀ c, c ≠ 0 → c ≠ 17 → c ≠ 95 → c < 72 → H10[c]? = H9[c]? := fun c z1 z2 z3 z4 => (g10 c (by omega)).trans (gk9 c z4)
  refine nd_dup hC (by rfl) dX1_init_103 ?_
  refine nd_bipush hC (v := nI 7) (by rfl) dX1_init_104 ?_
  refine nd_new (ci := nX4) hC [.null, .null, .int 0] in_X4 rfl tyX4 tyX4_ok q323 q325 q155 rfl rfl (by omega) (by omega) dX1_init_106 ?_
  rw [l10]
  refine nd_dup hC (by rfl) dX1_init_109 ?_
  refine nd_callIN (mm2 := mX4_init) (As := []) (mc2 := 8) (ms2 := 48) (d2 := d - 1) hC rfl rfl q328 q155 q326 q327 rfl lmX4_init (Nat.le_of_ble_eq_true rfl) (by omega) rfl (by exact Nat.le_of_ble_eq_true rfl) (by omega) (by omega) dX1_init_110 rfl ((ni_X4 (b := 81) hg (by rw [List.length_append, l10]; rfl) (by rw [← l10]; exact l_at_last) (fun G10 v1_10 v2_10 => ?_)))
  have gl10 : G10.length = 90 := by rw [v1_10.1, List.length_append, l10]; rfl
  have gk10 : ∀ c, c < 81 → G10[c]? = H10[c]? := fun c hc => (v1_10.2 c (by omega) (by rw [List.length_append, l10]; show c < 81 + 1; omega)).trans (List.getElem?_append_left (by rw [l10]; exact hc))
  have ga10 := v2_10.1
  have gw10 := (gk10 17 (by omega)).trans w10
  refine nd_astC (j := 7) (n := 8) (ty := 6) (ci := nX4) hC rfl rfl gw10 ga10 (by omega) (by omega) dX1_init_113 ?_
  generalize e11 : G10.set 17 _ = H11
  have l11 : H11.length = 90 := by rw [← e11, List.length_set]; exact gl10
  have g11 : ∀ c, c ≠ 17 → H11[c]? = G10[c]? := fun c hc => by rw [← e11]; exact List.getElem?_set_ne (Ne.symm hc)
  have b11 := (g11 0 (by omega)).trans ((gk10 0 (by omega)).trans b10)
  have w11 : H11[17]? = some (.inl (6, 8, .inr (.inr (va_up (va_up (va_up (va_up (va_up (va_up (va_up (va_up (fun _ => .null) 0 (.ref 18)) 1 (.ref 27)) 2 (.ref 36)) 3 (.ref 45)) 4 (.ref 54)) 5 (.ref 63)) 6 (.ref 72)) 7 (.ref 81))))) := by rw [← e11]; exact List.getElem?_set_self (by rw [gl10]; omega)
  have k11 : ∀ c, c ≠ 0 → c ≠ 17 → c ≠ 95 → c < 81 → H11[c]? = H10[c]? := fun c z1 z2 z3 z4 => (g11 c (by omega)).trans (gk10 c z4)
  refine nd_ext w11 (f2 := (fun k => .ref (18 + 9 * k))) (fun j hj => ?_) ?_
  · match j, hj with
    | 0, _ => rfl
    | 1, _ => rfl
    | 2, _ => rfl
    | 3, _ => rfl
    | 4, _ => rfl
    | 5, _ => rfl
    | 6, _ => rfl
    | 7, _ => rfl
  generalize e12 : H11.set 17 (.inl (6, 8, .inr (.inr (fun k => .ref (18 + 9 * k)))) : nd_C) = H12
  have l12 : H12.length = 90 := by rw [← e12, List.length_set]; exact l11
  have g12 : ∀ c, c ≠ 17 → H12[c]? = H11[c]? := fun c hc => by rw [← e12]; exact List.getElem?_set_ne (Ne.symm hc)
  have b12 := (g12 0 (by omega)).trans b11
  have w12 : H12[17]? = some (.inl (6, 8, .inr (.inr (fun k => .ref (18 + 9 * k)))) : nd_C) := by rw [← e12]; exact List.getElem?_set_self (by rw [l11]; omega)
  have k12 : ∀ c, c ≠ 0 → c ≠ 17 → c ≠ 95 → c < 90 → H12[c]? = H11[c]? := fun c z1 z2 z3 z4 => g12 c (by omega)
  refine nd_putF (ci := nX1) hC in_X1 rfl b12 2 (by decide) tyX1 tyX1_ok (by decide +kernel) q387 (fun _ z => z) rfl rfl rfl rfl rfl (by show 2 < 13; decide) dX1_init_114 ?_
  show nd_W _ _ _ _ _ _ _ _ _ _ (H12.set 0 (.inr (nX1, [.ref 1, .ref 9, .ref 17, .null, .null, .null, .int 0, .int 0, .int 0, .null, .null, .int 0, .null]) : nd_C)) _ _
  generalize e13 : H12.set 0 (.inr (nX1, [.ref 1, .ref 9, .ref 17, .null, .null, .null, .int 0, .int 0, .int 0, .null, .null, .int 0, .null]) : nd_C) = H13
  have l13 : H13.length = 90 := by rw [← e13, List.length_set]; exact l12
  have g13 : ∀ c, c ≠ 0 → H13[c]? = H12[c]? := fun c hc => by rw [← e13]; exact List.getElem?_set_ne (Ne.symm hc)
  have b13 : H13[0]? = some (.inr (nX1, [.ref 1, .ref 9, .ref 17, .null, .null, .null, .int 0, .int 0, .int 0, .null, .null, .int 0, .null]) : nd_C) := by rw [← e13]; exact List.getElem?_set_self (by rw [l12]; omega)
  have k13 : ∀ c, c ≠ 0 → c ≠ 17 → c ≠ 95 → c < 90 → H13[c]? = H12[c]? := fun c z1 z2 z3 z4 => (g13 c z1).trans ((fun c _ _ _ _ => rfl) c z1 z2 z3 z4)
  have f_looks : H13[17]? = some (.inl (6, 8, .inr (.inr (fun k => .ref (18 + 9 * k)))) : nd_C) := (g13 17 (by omega)).trans w12
  refine nd_aload_n hC dX1_init_117 rfl rfl ?_
  refine nd_new (ci := nJ2) hC [.int 0, .null, .int 0] in_J2 rfl tyJ2 tyJ2_ok q352 q240 q154 rfl rfl (by omega) (by omega) dX1_init_118 ?_
  rw [l13]
  refine nd_dup hC (by rfl) dX1_init_121 ?_
  refine nd_callI (mm2 := mJ2_init) (As := []) (mc2 := 0) (ms2 := 0) (d2 := d - 1) hC rfl rfl q243 q154 q353 q242 rfl lmJ2_init (Nat.le_of_ble_eq_true rfl) (by omega) rfl (by exact Nat.le_of_ble_eq_true rfl) (by omega) (by omega) dX1_init_122 rfl ((ni_J2 (b := 90) hg (by omega) (by rw [← l13]; exact l_at_last) ?_))
  generalize ee13 : (H13 ++ [(.inr (nJ2, [.int 0, .null, .int 0]) : nd_C)]).set 90 _ = G13
  have gl13 : G13.length = 91 := by rw [← ee13, List.length_set, List.length_append, l13]; rfl
  have gk13 : ∀ c, c < 90 → G13[c]? = H13[c]? := fun c hc => by rw [← ee13, List.getElem?_set_ne (by omega)]; exact List.getElem?_append_left (by rw [l13]; exact hc)
  have gn13 : G13[90]? = some (.inr (nJ2, [.int (nI 0), .float 201, .int 0])) := by rw [← ee13]; exact List.getElem?_set_self (by rw [List.length_append, l13]; show 90 < 90 + 1; omega)
  have gb13 := (gk13 0 (by omega)).trans b13
  refine nd_putF (ci := nX1) hC in_X1 rfl gb13 3 (by decide) tyX1 tyX1_ok (by decide +kernel) q389 (fun _ z => z) rfl rfl rfl rfl rfl (by show 3 < 13; decide) dX1_init_125 ?_
  show nd_W _ _ _ _ _ _ _ _ _ _ (G13.set 0 (.inr (nX1, [.ref 1, .ref 9, .ref 17, .ref 90, .null, .null, .int 0, .int 0, .int 0, .null, .null, .int 0, .null]) : nd_C)) _ _
  generalize e14 : G13.set 0 (.inr (nX1, [.ref 1, .ref 9, .ref 17, .ref 90, .null, .null, .int 0, .int 0, .int 0, .null, .null, .int 0, .null]) : nd_C) = H14
  have l14 : H14.length = 91 := by rw [← e14, List.length_set]; exact gl13
  have g14 : ∀ c, c ≠ 0 → H14[c]? = G13[c]? := fun c hc => by rw [← e14]; exact List.getElem?_set_ne (Ne.symm hc)
  have b14 : H14[0]? = some (.inr (nX1, [.ref 1, .ref 9, .ref 17, .ref 90, .null, .null, .int 0, .int 0, .int 0, .null, .null, .int 0, .null]) : nd_C) := by rw [← e14]; exact List.getElem?_set_self (by rw [gl13]; omega)
  have k14 : ∀ c, c ≠ 0 → c ≠ 17 → c ≠ 95 → c < 90 → H14[c]? = H13[c]? := fun c z1 z2 z3 z4 => (g14 c z1).trans ((fun c z1 _ _ z4 => gk13 c z4) c z1 z2 z3 z4)
  have f_deeds : H14[90]? = some (.inr (nJ2, [.int (nI 0), .float 201, .int 0])) := (g14 90 (by omega)).trans gn13
  refine nd_aload_n hC dX1_init_128 rfl rfl ?_
  refine nd_iconst hC (v := nI 3) (by rfl) dX1_init_129 ?_
  refine nd_anew hC (C := "NapkinDeeds$Image") (ty := 7) (N := 3) q354 q355 rfl (nI_toInt (by omega)) (by decide) (by omega) (by omega) dX1_init_130 ?_
  rw [l14]
  have al14 : (H14 ++ [(.inl (7, 3, .inr (.inr (fun _ => .null))) : nd_C)]).length = 92 := by rw [List.length_append, l14]; rfl
  have ak14 : ∀ c, c < 91 → (H14 ++ [(.inl (7, 3, .inr (.inr (fun _ => .null))) : nd_C)])[c]? = H14[c]? := fun c hc => List.getElem?_append_left (by rw [l14]; exact hc)
  have ab14 := (ak14 0 (by omega)).trans b14
  have an14 : (H14 ++ [(.inl (7, 3, .inr (.inr (fun _ => .null))) : nd_C)])[91]? = some (.inl (7, 3, .inr (.inr (fun _ => .null))) : nd_C) := by rw [← l14]; exact l_at_last
  refine nd_putF (ci := nX1) hC in_X1 rfl ab14 4 (by decide) tyX1 tyX1_ok (by decide +kernel) q390 (fun _ z => z) rfl rfl rfl rfl rfl (by show 4 < 13; decide) dX1_init_133 ?_
  show nd_W _ _ _ _ _ _ _ _ _ _ ((H14 ++ [(.inl (7, 3, .inr (.inr (fun _ => .null))) : nd_C)]).set 0 (.inr (nX1, [.ref 1, .ref 9, .ref 17, .ref 90, .ref 91, .null, .int 0, .int 0, .int 0, .null, .null, .int 0, .null]) : nd_C)) _ _
  generalize e15 : (H14 ++ [(.inl (7, 3, .inr (.inr (fun _ => .null))) : nd_C)]).set 0 (.inr (nX1, [.ref 1, .ref 9, .ref 17, .ref 90, .ref 91, .null, .int 0, .int 0, .int 0, .null, .null, .int 0, .null]) : nd_C) = H15
  have l15 : H15.length = 92 := by rw [← e15, List.length_set]; exact al14
  have g15 : ∀ c, c ≠ 0 → H15[c]? = (H14 ++ [(.inl (7, 3, .inr (.inr (fun _ => .null))) : nd_C)])[c]? := fun c hc => by rw [← e15]; exact List.getElem?_set_ne (Ne.symm hc)
  have b15 : H15[0]? = some (.inr (nX1, [.ref 1, .ref 9, .ref 17, .ref 90, .ref 91, .null, .int 0, .int 0, .int 0, .null, .null, .int 0, .null]) : nd_C) := by rw [← e15]; exact List.getElem?_set_self (by rw [al14]; omega)
  have k15 : ∀ c, c ≠ 0 → c ≠ 17 → c ≠ 95 → c < 91 → H15[c]? = H14[c]? := fun c z1 z2 z3 z4 => (g15 c z1).trans ((fun c z1 _ _ z4 => ak14 c z4) c z1 z2 z3 z4)
  have f_images : H15[91]? = some (.inl (7, 3, .inr (.inr (fun _ => .null))) : nd_C) := (g15 91 (by omega)).trans an14
  refine nd_aload_n hC dX1_init_136 rfl rfl ?_
  refine nd_sipush hC (v := nI 900) (by rfl) dX1_init_137 ?_
  refine nd_newarray hC (atype := .byte) (ty := 2) .byte (.inl (fun _ => 0)) q368 rfl rfl (fun _ _ => rfl) (N := 900) rfl (nI_toInt (by omega)) (by decide) (by omega) (by omega) dX1_init_140 ?_
  rw [l15]
  have al15 : (H15 ++ [(.inl (2, 900, .inl (fun _ => 0)) : nd_C)]).length = 93 := by rw [List.length_append, l15]; rfl
  have ak15 : ∀ c, c < 92 → (H15 ++ [(.inl (2, 900, .inl (fun _ => 0)) : nd_C)])[c]? = H15[c]? := fun c hc => List.getElem?_append_left (by rw [l15]; exact hc)
  have ab15 := (ak15 0 (by omega)).trans b15
  have an15 : (H15 ++ [(.inl (2, 900, .inl (fun _ => 0)) : nd_C)])[92]? = some (.inl (2, 900, .inl (fun _ => 0)) : nd_C) := by rw [← l15]; exact l_at_last
  refine nd_putF (ci := nX1) hC in_X1 rfl ab15 5 (by decide) tyX1 tyX1_ok (by decide +kernel) q391 (fun _ z => z) rfl rfl rfl rfl rfl (by show 5 < 13; decide) dX1_init_142 ?_
  show nd_W _ _ _ _ _ _ _ _ _ _ ((H15 ++ [(.inl (2, 900, .inl (fun _ => 0)) : nd_C)]).set 0 (.inr (nX1, [.ref 1, .ref 9, .ref 17, .ref 90, .ref 91, .ref 92, .int 0, .int 0, .int 0, .null, .null, .int 0, .null]) : nd_C)) _ _
  generalize e16 : (H15 ++ [(.inl (2, 900, .inl (fun _ => 0)) : nd_C)]).set 0 (.inr (nX1, [.ref 1, .ref 9, .ref 17, .ref 90, .ref 91, .ref 92, .int 0, .int 0, .int 0, .null, .null, .int 0, .null]) : nd_C) = H16
  have l16 : H16.length = 93 := by rw [← e16, List.length_set]; exact al15
  have g16 : ∀ c, c ≠ 0 → H16[c]? = (H15 ++ [(.inl (2, 900, .inl (fun _ => 0)) : nd_C)])[c]? := fun c hc => by rw [← e16]; exact List.getElem?_set_ne (Ne.symm hc)
  have b16 : H16[0]? = some (.inr (nX1, [.ref 1, .ref 9, .ref 17, .ref 90, .ref 91, .ref 92, .int 0, .int 0, .int 0, .null, .null, .int 0, .null]) : nd_C) := by rw [← e16]; exact List.getElem?_set_self (by rw [al15]; omega)
  have k16 : ∀ c, c ≠ 0 → c ≠ 17 → c ≠ 95 → c < 92 → H16[c]? = H15[c]? := fun c z1 z2 z3 z4 => (g16 c z1).trans ((fun c z1 _ _ z4 => ak15 c z4) c z1 z2 z3 z4)
  have f_tape : H16[92]? = some (.inl (2, 900, .inl (fun _ => 0)) : nd_C) := (g16 92 (by omega)).trans an15
  refine nd_aload_n hC dX1_init_145 rfl rfl ?_
  refine nd_iconst hC (v := -1) (by rfl) dX1_init_146 ?_
  refine nd_put (ci := nX1) hC in_X1 rfl b16 8 (by decide) tyX1 tyX1_ok (by decide +kernel) q394 (fun _ z => z) rfl rfl rfl (by show 8 < 13; decide) dX1_init_147 ?_
  show nd_W _ _ _ _ _ _ _ _ _ _ (H16.set 0 (.inr (nX1, [.ref 1, .ref 9, .ref 17, .ref 90, .ref 91, .ref 92, .int 0, .int 0, .int (-1), .null, .null, .int 0, .null]) : nd_C)) _ _
  generalize e17 : H16.set 0 (.inr (nX1, [.ref 1, .ref 9, .ref 17, .ref 90, .ref 91, .ref 92, .int 0, .int 0, .int (-1), .null, .null, .int 0, .null]) : nd_C) = H17
  have l17 : H17.length = 93 := by rw [← e17, List.length_set]; exact l16
  have g17 : ∀ c, c ≠ 0 → H17[c]? = H16[c]? := fun c hc => by rw [← e17]; exact List.getElem?_set_ne (Ne.symm hc)
  have b17 : H17[0]? = some (.inr (nX1, [.ref 1, .ref 9, .ref 17, .ref 90, .ref 91, .ref 92, .int 0, .int 0, .int (-1), .null, .null, .int 0, .null]) : nd_C) := by rw [← e17]; exact List.getElem?_set_self (by rw [l16]; omega)
  have k17 : ∀ c, c ≠ 0 → c ≠ 17 → c ≠ 95 → c < 93 → H17[c]? = H16[c]? := fun c z1 z2 z3 z4 => (g17 c z1).trans ((fun c _ _ _ _ => rfl) c z1 z2 z3 z4)
  refine nd_aload_n hC dX1_init_150 rfl rfl ?_
  refine nd_new (ci := nX5) hC [.null] in_X5 rfl tyX5 tyX5_ok q356 q357 q156 rfl rfl (by omega) (by omega) dX1_init_151 ?_
  rw [l17]
  refine nd_dup hC (by rfl) dX1_init_154 ?_
  refine nd_callIN (mm2 := mX5_init) (As := []) (mc2 := 1) (ms2 := 8) (d2 := d - 1) hC rfl rfl q360 q156 q358 q359 rfl lmX5_init (Nat.le_of_ble_eq_true rfl) (by omega) rfl (by exact Nat.le_of_ble_eq_true rfl) (by omega) (by omega) dX1_init_155 rfl ((ni_X5 (b := 93) hg (by rw [List.length_append, l17]; rfl) (by rw [← l17]; exact l_at_last) (fun G17 v1_17 v2_17 v3_17 => ?_)))
  have gl17 : G17.length = 95 := by rw [v1_17.1, List.length_append, l17]; rfl
  have gk17 : ∀ c, c < 93 → G17[c]? = H17[c]? := fun c hc => (v1_17.2 c (by omega) (by rw [List.length_append, l17]; show c < 93 + 1; omega)).trans (List.getElem?_append_left (by rw [l17]; exact hc))
  have gb17 := (gk17 0 (by omega)).trans b17
  refine nd_putF (ci := nX1) hC in_X1 rfl gb17 9 (by decide) tyX1 tyX1_ok (by decide +kernel) q395 (fun _ z => z) rfl rfl rfl rfl rfl (by show 9 < 13; decide) dX1_init_158 ?_
  show nd_W _ _ _ _ _ _ _ _ _ _ (G17.set 0 (.inr (nX1, [.ref 1, .ref 9, .ref 17, .ref 90, .ref 91, .ref 92, .int 0, .int 0, .int (-1), .ref 93, .null, .int 0, .null]) : nd_C)) _ _
  generalize e18 : G17.set 0 (.inr (nX1, [.ref 1, .ref 9, .ref 17, .ref 90, .ref 91, .ref 92, .int 0, .int 0, .int (-1), .ref 93, .null, .int 0, .null]) : nd_C) = H18
  have l18 : H18.length = 95 := by rw [← e18, List.length_set]; exact gl17
  have g18 : ∀ c, c ≠ 0 → H18[c]? = G17[c]? := fun c hc => by rw [← e18]; exact List.getElem?_set_ne (Ne.symm hc)
  have b18 : H18[0]? = some (.inr (nX1, [.ref 1, .ref 9, .ref 17, .ref 90, .ref 91, .ref 92, .int 0, .int 0, .int (-1), .ref 93, .null, .int 0, .null]) : nd_C) := by rw [← e18]; exact List.getElem?_set_self (by rw [gl17]; omega)
  have k18 : ∀ c, c ≠ 0 → c ≠ 17 → c ≠ 95 → c < 93 → H18[c]? = H17[c]? := fun c z1 z2 z3 z4 => (g18 c z1).trans ((fun c z1 _ _ z4 => gk17 c z4) c z1 z2 z3 z4)
  have f_case : H18[93]? = some (.inr (nX5, [.ref 94])) := (g18 93 (by omega)).trans v2_17
  have f_tells : H18[94]? = some (.inl (0, 8, .inl (fun _ => 0))) := (g18 94 (by omega)).trans v3_17
  refine nd_aload_n hC dX1_init_161 rfl rfl ?_
  refine nd_iconst hC (v := nI 4) (by rfl) dX1_init_162 ?_
  refine nd_anew hC (C := "NapkinDeeds$Tray") (ty := 8) (N := 4) q369 q370 rfl (nI_toInt (by omega)) (by decide) (by omega) (by omega) dX1_init_163 ?_
  rw [l18]
  generalize e19 : H18 ++ [(.inl (8, 4, .inr (.inr (fun _ => .null))) : nd_C)] = H19
  have l19 : H19.length = 96 := by rw [← e19, List.length_append, l18]; rfl
  have g19 : ∀ c, c < 95 → H19[c]? = H18[c]? := fun c hc => by rw [← e19]; exact List.getElem?_append_left (by rw [l18]; exact hc)
  have b19 := (g19 0 (by omega)).trans b18
  have w19 : H19[95]? = some (.inl (8, 4, .inr (.inr (fun _ => .null))) : nd_C) := by rw [← e19, ← l18]; exact l_at_last
  have k19 : ∀ c, c ≠ 0 → c ≠ 17 → c ≠ 95 → c < 95 → H19[c]? = H18[c]? := fun c _ _ _ z4 => g19 c z4
  refine nd_dup hC (by rfl) dX1_init_166 ?_
  refine nd_iconst hC (v := nI 0) (by rfl) dX1_init_167 ?_
  refine nd_new (ci := nX6) hC [.null] in_X6 rfl tyX6 tyX6_ok q369 q371 q157 rfl rfl (by omega) (by omega) dX1_init_168 ?_
  rw [l19]
  refine nd_dup hC (by rfl) dX1_init_171 ?_
  refine nd_callIN (mm2 := mX6_init) (As := []) (mc2 := 0) (ms2 := 0) (d2 := d - 1) hC rfl rfl q374 q157 q372 q373 rfl lmX6_init (Nat.le_of_ble_eq_true rfl) (by omega) rfl (by exact Nat.le_of_ble_eq_true rfl) (by omega) (by omega) dX1_init_172 rfl ((ni_X6 hg ?_))
  generalize ee19 : H19 ++ [(.inr (nX6, [.null]) : nd_C)] = G19
  have gl19 : G19.length = 97 := by rw [← ee19, List.length_append, l19]; rfl
  have gk19 : ∀ c, c < 96 → G19[c]? = H19[c]? := fun c hc => by rw [← ee19]; exact List.getElem?_append_left (by rw [l19]; exact hc)
  have ga19 : G19[96]? = some (.inr (nX6, [.null]) : nd_C) := by rw [← ee19, ← l19]; exact l_at_last
  have gw19 := (gk19 95 (by omega)).trans w19
  refine nd_astC (j := 0) (n := 4) (ty := 8) (ci := nX6) hC rfl rfl gw19 ga19 (by omega) (by omega) dX1_init_175 ?_
  generalize e20 : G19.set 95 _ = H20
  have l20 : H20.length = 97 := by rw [← e20, List.length_set]; exact gl19
  have g20 : ∀ c, c ≠ 95 → H20[c]? = G19[c]? := fun c hc => by rw [← e20]; exact List.getElem?_set_ne (Ne.symm hc)
  have b20 := (g20 0 (by omega)).trans ((gk19 0 (by omega)).trans b19)
  have w20 : H20[95]? = some (.inl (8, 4, .inr (.inr (va_up (fun _ => .null) 0 (.ref 96))))) := by rw [← e20]; exact List.getElem?_set_self (by rw [gl19]; omega)
  have k20 : ∀ c, c ≠ 0 → c ≠ 17 → c ≠ 95 → c < 96 → H20[c]? = H19[c]? := fun c z1 z2 z3 z4 => (g20 c (by omega)).trans (gk19 c z4)
  refine nd_dup hC (by rfl) dX1_init_176 ?_
  refine nd_iconst hC (v := nI 1) (by rfl) dX1_init_177 ?_
  refine nd_new (ci := nX6) hC [.null] in_X6 rfl tyX6 tyX6_ok q369 q371 q157 rfl rfl (by omega) (by omega) dX1_init_178 ?_
  rw [l20]
  refine nd_dup hC (by rfl) dX1_init_181 ?_
  refine nd_callIN (mm2 := mX6_init) (As := []) (mc2 := 0) (ms2 := 0) (d2 := d - 1) hC rfl rfl q374 q157 q372 q373 rfl lmX6_init (Nat.le_of_ble_eq_true rfl) (by omega) rfl (by exact Nat.le_of_ble_eq_true rfl) (by omega) (by omega) dX1_init_182 rfl ((ni_X6 hg ?_))
  generalize ee20 : H20 ++ [(.inr (nX6, [.null]) : nd_C)] = G20
  have gl20 : G20.length = 98 := by rw [← ee20, List.length_append, l20]; rfl
  have gk20 : ∀ c, c < 97 → G20[c]? = H20[c]? := fun c hc => by rw [← ee20]; exact List.getElem?_append_left (by rw [l20]; exact hc)
  have ga20 : G20[97]? = some (.inr (nX6, [.null]) : nd_C) := by rw [← ee20, ← l20]; exact l_at_last
  have gw20 := (gk20 95 (by omega)).trans w20
  refine nd_astC (j := 1) (n := 4) (ty := 8) (ci := nX6) hC rfl rfl gw20 ga20 (by omega) (by omega) dX1_init_185 ?_
  generalize e21 : G20.set 95 _ = H21
  have l21 : H21.length = 98 := by rw [← e21, List.length_set]; exact gl20
  have g21 : ∀ c, c ≠ 95 → H21[c]? = G20[c]? := fun c hc => by rw [← e21]; exact List.getElem?_set_ne (Ne.symm hc)
  have b21 := (g21 0 (by omega)).trans ((gk20 0 (by omega)).trans b20)
  have w21 : H21[95]? = some (.inl (8, 4, .inr (.inr (va_up (va_up (fun _ => .null) 0 (.ref 96)) 1 (.ref 97))))) := by rw [← e21]; exact List.getElem?_set_self (by rw [gl20]; omega)
  have k21 : ∀ c, c ≠ 0 → c ≠ 17 → c ≠ 95 → c < 97 → H21[c]? = H20[c]? := fun c z1 z2 z3 z4 => (g21 c (by omega)).trans (gk20 c z4)
  refine nd_dup hC (by rfl) dX1_init_186 ?_
  refine nd_iconst hC (v := nI 2) (by rfl) dX1_init_187 ?_
  refine nd_new (ci := nX6) hC [.null] in_X6 rfl tyX6 tyX6_ok q369 q371 q157 rfl rfl (by omega) (by omega) dX1_init_188 ?_
  rw [l21]
  refine nd_dup hC (by rfl) dX1_init_191 ?_
  refine nd_callIN (mm2 := mX6_init) (As := []) (mc2 := 0) (ms2 := 0) (d2 := d - 1) hC rfl rfl q374 q157 q372 q373 rfl lmX6_init (Nat.le_of_ble_eq_true rfl) (by omega) rfl (by exact Nat.le_of_ble_eq_true rfl) (by omega) (by omega) dX1_init_192 rfl ((ni_X6 hg ?_))
  generalize ee21 : H21 ++ [(.inr (nX6, [.null]) : nd_C)] = G21
  have gl21 : G21.length = 99 := by rw [← ee21, List.length_append, l21]; rfl
  have gk21 : ∀ c, c < 98 → G21[c]? = H21[c]? := fun c hc => by rw [← ee21]; exact List.getElem?_append_left (by rw [l21]; exact hc)
  have ga21 : G21[98]? = some (.inr (nX6, [.null]) : nd_C) := by rw [← ee21, ← l21]; exact l_at_last
  have gw21 := (gk21 95 (by omega)).trans w21
  refine nd_astC (j := 2) (n := 4) (ty := 8) (ci := nX6) hC rfl rfl gw21 ga21 (by omega) (by omega) dX1_init_195 ?_
  generalize e22 : G21.set 95 _ = H22
  have l22 : H22.length = 99 := by rw [← e22, List.length_set]; exact gl21
  have g22 : ∀ c, c ≠ 95 → H22[c]? = G21[c]? := fun c hc => by rw [← e22]; exact List.getElem?_set_ne (Ne.symm hc)
  have b22 := (g22 0 (by omega)).trans ((gk21 0 (by omega)).trans b21)
  have w22 : H22[95]? = some (.inl (8, 4, .inr (.inr (va_up (va_up (va_up (fun _ => .null) 0 (.ref 96)) 1 (.ref 97)) 2 (.ref 98))))) := by rw [← e22]; exact List.getElem?_set_self (by rw [gl21]; omega)
  have k22 : ∀ c, c ≠ 0 → c ≠ 17 → c ≠ 95 → c < 98 → H22[c]? = H21[c]? := fun c z1 z2 z3 z4 => (g22 c (by omega)).trans (gk21 c z4)
  refine nd_dup hC (by rfl) dX1_init_196 ?_
  refine nd_iconst hC (v := nI 3) (by rfl) dX1_init_197 ?_
  refine nd_new (ci := nX6) hC [.null] in_X6 rfl tyX6 tyX6_ok q369 q371 q157 rfl rfl (by omega) (by omega) dX1_init_198 ?_
  rw [l22]
  refine nd_dup hC (by rfl) dX1_init_201 ?_
  refine nd_callIN (mm2 := mX6_init) (As := []) (mc2 := 0) (ms2 := 0) (d2 := d - 1) hC rfl rfl q374 q157 q372 q373 rfl lmX6_init (Nat.le_of_ble_eq_true rfl) (by omega) rfl (by exact Nat.le_of_ble_eq_true rfl) (by omega) (by omega) dX1_init_202 rfl ((ni_X6 hg ?_))
  generalize ee22 : H22 ++ [(.inr (nX6, [.null]) : nd_C)] = G22
  have gl22 : G22.length = 100 := by rw [← ee22, List.length_append, l22]; rfl
  have gk22 : ∀ c, c < 99 → G22[c]? = H22[c]? := fun c hc => by rw [← ee22]; exact List.getElem?_append_left (by rw [l22]; exact hc)
  have ga22 : G22[99]? = some (.inr (nX6, [.null]) : nd_C) := by rw [← ee22, ← l22]; exact l_at_last
  have gw22 := (gk22 95 (by omega)).trans w22
  refine nd_astC (j := 3) (n := 4) (ty := 8) (ci := nX6) hC rfl rfl gw22 ga22 (by omega) (by omega) dX1_init_205 ?_
  generalize e23 : G22.set 95 _ = H23
  have l23 : H23.length = 100 := by rw [← e23, List.length_set]; exact gl22
  have g23 : ∀ c, c ≠ 95 → H23[c]? = G22[c]? := fun c hc => by rw [← e23]; exact List.getElem?_set_ne (Ne.symm hc)
  have b23 := (g23 0 (by omega)).trans ((gk22 0 (by omega)).trans b22)
  have w23 : H23[95]? = some (.inl (8, 4, .inr (.inr (va_up (va_up (va_up (va_up (fun _ => .null) 0 (.ref 96)) 1 (.ref 97)) 2 (.ref 98)) 3 (.ref 99))))) := by rw [← e23]; exact List.getElem?_set_self (by rw [gl22]; omega)
  have k23 : ∀ c, c ≠ 0 → c ≠ 17 → c ≠ 95 → c < 99 → H23[c]? = H22[c]? := fun c z1 z2 z3 z4 => (g23 c (by omega)).trans (gk22 c z4)
  refine nd_ext w23 (f2 := (fun t => .ref (96 + t))) (fun j hj => ?_) ?_
  · match j, hj with
    | 0, _ => rfl
    | 1, _ => rfl
    | 2, _ => rfl
    | 3, _ => rfl
  generalize e24 : H23.set 95 (.inl (8, 4, .inr (.inr (fun t => .ref (96 + t)))) : nd_C) = H24
  have l24 : H24.length = 100 := by rw [← e24, List.length_set]; exact l23
  have g24 : ∀ c, c ≠ 95 → H24[c]? = H23[c]? := fun c hc => by rw [← e24]; exact List.getElem?_set_ne (Ne.symm hc)
  have b24 := (g24 0 (by omega)).trans b23
  have w24 : H24[95]? = some (.inl (8, 4, .inr (.inr (fun t => .ref (96 + t)))) : nd_C) := by rw [← e24]; exact List.getElem?_set_self (by rw [l23]; omega)
  have k24 : ∀ c, c ≠ 0 → c ≠ 17 → c ≠ 95 → c < 100 → H24[c]? = H23[c]? := fun c z1 z2 z3 z4 => g24 c (by omega)
  refine nd_putF (ci := nX1) hC in_X1 rfl b24 10 (by decide) tyX1 tyX1_ok (by decide +kernel) q396 (fun _ z => z) rfl rfl rfl rfl rfl (by show 10 < 13; decide) dX1_init_206 ?_
  show nd_W _ _ _ _ _ _ _ _ _ _ (H24.set 0 (.inr (nX1, [.ref 1, .ref 9, .ref 17, .ref 90, .ref 91, .ref 92, .int 0, .int 0, .int (-1), .ref 93, .ref 95, .int 0, .null]) : nd_C)) _ _
  generalize e25 : H24.set 0 (.inr (nX1, [.ref 1, .ref 9, .ref 17, .ref 90, .ref 91, .ref 92, .int 0, .int 0, .int (-1), .ref 93, .ref 95, .int 0, .null]) : nd_C) = H25
  have l25 : H25.length = 100 := by rw [← e25, List.length_set]; exact l24
  have g25 : ∀ c, c ≠ 0 → H25[c]? = H24[c]? := fun c hc => by rw [← e25]; exact List.getElem?_set_ne (Ne.symm hc)
  have b25 : H25[0]? = some (.inr (nX1, [.ref 1, .ref 9, .ref 17, .ref 90, .ref 91, .ref 92, .int 0, .int 0, .int (-1), .ref 93, .ref 95, .int 0, .null]) : nd_C) := by rw [← e25]; exact List.getElem?_set_self (by rw [l24]; omega)
  have k25 : ∀ c, c ≠ 0 → c ≠ 17 → c ≠ 95 → c < 100 → H25[c]? = H24[c]? := fun c z1 z2 z3 z4 => (g25 c z1).trans ((fun c _ _ _ _ => rfl) c z1 z2 z3 z4)
  have f_trays : H25[95]? = some (.inl (8, 4, .inr (.inr (fun t => .ref (96 + t)))) : nd_C) := (g25 95 (by omega)).trans w24
  refine nd_aload_n hC dX1_init_209 rfl rfl ?_
  refine nd_sipush hC (v := nI 28000) (by rfl) dX1_init_210 ?_
  refine nd_newarray hC (atype := .long) (ty := 1) .long (.inr (.inl (fun _ => 0))) q427 rfl rfl (fun _ _ => rfl) (N := 28000) rfl (nI_toInt (by omega)) (by decide) (by omega) (by omega) dX1_init_213 ?_
  rw [l25]
  have al25 : (H25 ++ [(.inl (1, 28000, .inr (.inl (fun _ => 0))) : nd_C)]).length = 101 := by rw [List.length_append, l25]; rfl
  have ak25 : ∀ c, c < 100 → (H25 ++ [(.inl (1, 28000, .inr (.inl (fun _ => 0))) : nd_C)])[c]? = H25[c]? := fun c hc => List.getElem?_append_left (by rw [l25]; exact hc)
  have ab25 := (ak25 0 (by omega)).trans b25
  have an25 : (H25 ++ [(.inl (1, 28000, .inr (.inl (fun _ => 0))) : nd_C)])[100]? = some (.inl (1, 28000, .inr (.inl (fun _ => 0))) : nd_C) := by rw [← l25]; exact l_at_last
  refine nd_putF (ci := nX1) hC in_X1 rfl ab25 12 (by decide) tyX1 tyX1_ok (by decide +kernel) q399 (fun _ z => z) rfl rfl rfl rfl rfl (by show 12 < 13; decide) dX1_init_215 ?_
  show nd_W _ _ _ _ _ _ _ _ _ _ ((H25 ++ [(.inl (1, 28000, .inr (.inl (fun _ => 0))) : nd_C)]).set 0 (.inr (nX1, [.ref 1, .ref 9, .ref 17, .ref 90, .ref 91, .ref 92, .int 0, .int 0, .int (-1), .ref 93, .ref 95, .int 0, .ref 100]) : nd_C)) _ _
  generalize e26 : (H25 ++ [(.inl (1, 28000, .inr (.inl (fun _ => 0))) : nd_C)]).set 0 (.inr (nX1, [.ref 1, .ref 9, .ref 17, .ref 90, .ref 91, .ref 92, .int 0, .int 0, .int (-1), .ref 93, .ref 95, .int 0, .ref 100]) : nd_C) = H26
  have l26 : H26.length = 101 := by rw [← e26, List.length_set]; exact al25
  have g26 : ∀ c, c ≠ 0 → H26[c]? = (H25 ++ [(.inl (1, 28000, .inr (.inl (fun _ => 0))) : nd_C)])[c]? := fun c hc => by rw [← e26]; exact List.getElem?_set_ne (Ne.symm hc)
  have b26 : H26[0]? = some (.inr (nX1, [.ref 1, .ref 9, .ref 17, .ref 90, .ref 91, .ref 92, .int 0, .int 0, .int (-1), .ref 93, .ref 95, .int 0, .ref 100]) : nd_C) := by rw [← e26]; exact List.getElem?_set_self (by rw [al25]; omega)
  have k26 : ∀ c, c ≠ 0 → c ≠ 17 → c ≠ 95 → c < 100 → H26[c]? = H25[c]? := fun c z1 z2 z3 z4 => (g26 c z1).trans ((fun c z1 _ _ z4 => ak25 c z4) c z1 z2 z3 z4)
  have f_codes : H26[100]? = some (.inl (1, 28000, .inr (.inl (fun _ => 0))) : nd_C) := (g26 100 (by omega)).trans an25
  have K26 : ∀ c, c ≠ 0 → c ≠ 17 → c ≠ 95 → c < 101 → H26[c]? = H26[c]? := fun _ _ _ _ _ => rfl
  have K25 : ∀ c, c ≠ 0 → c ≠ 17 → c ≠ 95 → c < 100 → H26[c]? = H25[c]? := fun c z1 z2 z3 z4 => (K26 c z1 z2 z3 (by omega)).trans (k26 c z1 z2 z3 (by omega))
  have K24 : ∀ c, c ≠ 0 → c ≠ 17 → c ≠ 95 → c < 100 → H26[c]? = H24[c]? := fun c z1 z2 z3 z4 => (K25 c z1 z2 z3 (by omega)).trans (k25 c z1 z2 z3 (by omega))
  have K23 : ∀ c, c ≠ 0 → c ≠ 17 → c ≠ 95 → c < 100 → H26[c]? = H23[c]? := fun c z1 z2 z3 z4 => (K24 c z1 z2 z3 (by omega)).trans (k24 c z1 z2 z3 (by omega))
  have K22 : ∀ c, c ≠ 0 → c ≠ 17 → c ≠ 95 → c < 99 → H26[c]? = H22[c]? := fun c z1 z2 z3 z4 => (K23 c z1 z2 z3 (by omega)).trans (k23 c z1 z2 z3 (by omega))
  have K21 : ∀ c, c ≠ 0 → c ≠ 17 → c ≠ 95 → c < 98 → H26[c]? = H21[c]? := fun c z1 z2 z3 z4 => (K22 c z1 z2 z3 (by omega)).trans (k22 c z1 z2 z3 (by omega))
  have K20 : ∀ c, c ≠ 0 → c ≠ 17 → c ≠ 95 → c < 97 → H26[c]? = H20[c]? := fun c z1 z2 z3 z4 => (K21 c z1 z2 z3 (by omega)).trans (k21 c z1 z2 z3 (by omega))
  have K19 : ∀ c, c ≠ 0 → c ≠ 17 → c ≠ 95 → c < 96 → H26[c]? = H19[c]? := fun c z1 z2 z3 z4 => (K20 c z1 z2 z3 (by omega)).trans (k20 c z1 z2 z3 (by omega))
  have K18 : ∀ c, c ≠ 0 → c ≠ 17 → c ≠ 95 → c < 95 → H26[c]? = H18[c]? := fun c z1 z2 z3 z4 => (K19 c z1 z2 z3 (by omega)).trans (k19 c z1 z2 z3 (by omega))
  have K17 : ∀ c, c ≠ 0 → c ≠ 17 → c ≠ 95 → c < 93 → H26[c]? = H17[c]? := fun c z1 z2 z3 z4 => (K18 c z1 z2 z3 (by omega)).trans (k18 c z1 z2 z3 (by omega))
  have K16 : ∀ c, c ≠ 0 → c ≠ 17 → c ≠ 95 → c < 93 → H26[c]? = H16[c]? := fun c z1 z2 z3 z4 => (K17 c z1 z2 z3 (by omega)).trans (k17 c z1 z2 z3 (by omega))
  have K15 : ∀ c, c ≠ 0 → c ≠ 17 → c ≠ 95 → c < 92 → H26[c]? = H15[c]? := fun c z1 z2 z3 z4 => (K16 c z1 z2 z3 (by omega)).trans (k16 c z1 z2 z3 (by omega))
  have K14 : ∀ c, c ≠ 0 → c ≠ 17 → c ≠ 95 → c < 91 → H26[c]? = H14[c]? := fun c z1 z2 z3 z4 => (K15 c z1 z2 z3 (by omega)).trans (k15 c z1 z2 z3 (by omega))
  have K13 : ∀ c, c ≠ 0 → c ≠ 17 → c ≠ 95 → c < 90 → H26[c]? = H13[c]? := fun c z1 z2 z3 z4 => (K14 c z1 z2 z3 (by omega)).trans (k14 c z1 z2 z3 (by omega))
  have K12 : ∀ c, c ≠ 0 → c ≠ 17 → c ≠ 95 → c < 90 → H26[c]? = H12[c]? := fun c z1 z2 z3 z4 => (K13 c z1 z2 z3 (by omega)).trans (k13 c z1 z2 z3 (by omega))
  have K11 : ∀ c, c ≠ 0 → c ≠ 17 → c ≠ 95 → c < 90 → H26[c]? = H11[c]? := fun c z1 z2 z3 z4 => (K12 c z1 z2 z3 (by omega)).trans (k12 c z1 z2 z3 (by omega))
  have K10 : ∀ c, c ≠ 0 → c ≠ 17 → c ≠ 95 → c < 81 → H26[c]? = H10[c]? := fun c z1 z2 z3 z4 => (K11 c z1 z2 z3 (by omega)).trans (k11 c z1 z2 z3 (by omega))
  have K9 : ∀ c, c ≠ 0 → c ≠ 17 → c ≠ 95 → c < 72 → H26[c]? = H9[c]? := fun c z1 z2 z3 z4 => (K10 c z1 z2 z3 (by omega)).trans (k10 c z1 z2 z3 (by omega))
  have K8 : ∀ c, c ≠ 0 → c ≠ 17 → c ≠ 95 → c < 63 → H26[c]? = H8[c]? := fun c z1 z2 z3 z4 => (K9 c z1 z2 z3 (by omega)).trans (k9 c z1 z2 z3 (by omega))
  have K7 : ∀ c, c ≠ 0 → c ≠ 17 → c ≠ 95 → c < 54 → H26[c]? = H7[c]? := fun c z1 z2 z3 z4 => (K8 c z1 z2 z3 (by omega)).trans (k8 c z1 z2 z3 (by omega))
  have K6 : ∀ c, c ≠ 0 → c ≠ 17 → c ≠ 95 → c < 45 → H26[c]? = H6[c]? := fun c z1 z2 z3 z4 => (K7 c z1 z2 z3 (by omega)).trans (k7 c z1 z2 z3 (by omega))
  have K5 : ∀ c, c ≠ 0 → c ≠ 17 → c ≠ 95 → c < 36 → H26[c]? = H5[c]? := fun c z1 z2 z3 z4 => (K6 c z1 z2 z3 (by omega)).trans (k6 c z1 z2 z3 (by omega))
  have K4 : ∀ c, c ≠ 0 → c ≠ 17 → c ≠ 95 → c < 27 → H26[c]? = H4[c]? := fun c z1 z2 z3 z4 => (K5 c z1 z2 z3 (by omega)).trans (k5 c z1 z2 z3 (by omega))
  have K3 : ∀ c, c ≠ 0 → c ≠ 17 → c ≠ 95 → c < 18 → H26[c]? = H3[c]? := fun c z1 z2 z3 z4 => (K4 c z1 z2 z3 (by omega)).trans (k4 c z1 z2 z3 (by omega))
  have K2 : ∀ c, c ≠ 0 → c ≠ 17 → c ≠ 95 → c < 17 → H26[c]? = H2[c]? := fun c z1 z2 z3 z4 => (K3 c z1 z2 z3 (by omega)).trans (k3 c z1 z2 z3 (by omega))
  have K1 : ∀ c, c ≠ 0 → c ≠ 17 → c ≠ 95 → c < 9 → H26[c]? = H1[c]? := fun c z1 z2 z3 z4 => (K2 c z1 z2 z3 (by omega)).trans (k2 c z1 z2 z3 (by omega))
  have K0 : ∀ c, c ≠ 0 → c ≠ 17 → c ≠ 95 → c < 1 → H26[c]? = h[c]? := fun c z1 z2 z3 z4 => (K1 c z1 z2 z3 (by omega)).trans (k1 c z1 z2 z3 (by omega))
  have kx14 : ∀ c, c ≠ 0 → c ≠ 95 → c < 90 → H14[c]? = H13[c]? := fun c z1 z2 z3 => (g14 c z1).trans (gk13 c z3)
  have kx15 : ∀ c, c ≠ 0 → c ≠ 95 → c < 91 → H15[c]? = H14[c]? := fun c z1 z2 z3 => (g15 c z1).trans (ak14 c z3)
  have kx16 : ∀ c, c ≠ 0 → c ≠ 95 → c < 92 → H16[c]? = H15[c]? := fun c z1 z2 z3 => (g16 c z1).trans (ak15 c z3)
  have kx17 : ∀ c, c ≠ 0 → c ≠ 95 → c < 93 → H17[c]? = H16[c]? := fun c z1 z2 z3 => (g17 c z1).trans (rfl)
  have kx18 : ∀ c, c ≠ 0 → c ≠ 95 → c < 93 → H18[c]? = H17[c]? := fun c z1 z2 z3 => (g18 c z1).trans (gk17 c z3)
  have kx19 : ∀ c, c ≠ 0 → c ≠ 95 → c < 95 → H19[c]? = H18[c]? := fun c z1 z2 z3 => g19 c z3
  have kx20 : ∀ c, c ≠ 0 → c ≠ 95 → c < 96 → H20[c]? = H19[c]? := fun c z1 z2 z3 => (g20 c (by omega)).trans (gk19 c z3)
  have kx21 : ∀ c, c ≠ 0 → c ≠ 95 → c < 97 → H21[c]? = H20[c]? := fun c z1 z2 z3 => (g21 c (by omega)).trans (gk20 c z3)
  have kx22 : ∀ c, c ≠ 0 → c ≠ 95 → c < 98 → H22[c]? = H21[c]? := fun c z1 z2 z3 => (g22 c (by omega)).trans (gk21 c z3)
  have kx23 : ∀ c, c ≠ 0 → c ≠ 95 → c < 99 → H23[c]? = H22[c]? := fun c z1 z2 z3 => (g23 c (by omega)).trans (gk22 c z3)
  have kx24 : ∀ c, c ≠ 0 → c ≠ 95 → c < 100 → H24[c]? = H23[c]? := fun c z1 z2 z3 => (g24 c (by omega)).trans (rfl)
  have kx25 : ∀ c, c ≠ 0 → c ≠ 95 → c < 100 → H25[c]? = H24[c]? := fun c z1 z2 z3 => (g25 c z1).trans (rfl)
  have kx26 : ∀ c, c ≠ 0 → c ≠ 95 → c < 100 → H26[c]? = H25[c]? := fun c z1 z2 z3 => (g26 c z1).trans (ak25 c z3)
  have m17 : ∀ c, c ≠ 0 → c ≠ 95 → c < 90 → H26[c]? = H13[c]? := by
    intro c z1 z2 z3
    rw [kx26 c z1 z2 (by omega), kx25 c z1 z2 (by omega), kx24 c z1 z2 (by omega), kx23 c z1 z2 (by omega), kx22 c z1 z2 (by omega), kx21 c z1 z2 (by omega), kx20 c z1 z2 (by omega), kx19 c z1 z2 (by omega), kx18 c z1 z2 (by omega), kx17 c z1 z2 (by omega), kx16 c z1 z2 (by omega), kx15 c z1 z2 (by omega), kx14 c z1 z2 (by omega)]
  have r17 := (m17 17 (by omega) (by omega) (by omega)).trans f_looks
  have r95 : H26[95]? = _ := (g26 95 (by omega)).trans ((ak25 95 (by omega)).trans f_trays)
  have lk0 : ck_any H26 (18 + 9 * 0) := ⟨_, _, _, ⟨(K4 18 (by omega) (by omega) (by omega) (by omega)).trans ((g4 18 (by omega)).trans v2_3.1), (K4 19 (by omega) (by omega) (by omega) (by omega)).trans ((g4 19 (by omega)).trans v2_3.2.1), fun t ht => (K4 (18 + 2 + t) (by omega) (by omega) (by omega) (by omega)).trans ((g4 (18 + 2 + t) (by omega)).trans (v2_3.2.2.1 t ht)), (K4 26 (by omega) (by omega) (by omega) (by omega)).trans ((g4 26 (by omega)).trans v2_3.2.2.2)⟩⟩
  have lk1 : ck_any H26 (18 + 9 * 1) := ⟨_, _, _, ⟨(K5 27 (by omega) (by omega) (by omega) (by omega)).trans ((g5 27 (by omega)).trans v2_4.1), (K5 28 (by omega) (by omega) (by omega) (by omega)).trans ((g5 28 (by omega)).trans v2_4.2.1), fun t ht => (K5 (27 + 2 + t) (by omega) (by omega) (by omega) (by omega)).trans ((g5 (27 + 2 + t) (by omega)).trans (v2_4.2.2.1 t ht)), (K5 35 (by omega) (by omega) (by omega) (by omega)).trans ((g5 35 (by omega)).trans v2_4.2.2.2)⟩⟩
  have lk2 : ck_any H26 (18 + 9 * 2) := ⟨_, _, _, ⟨(K6 36 (by omega) (by omega) (by omega) (by omega)).trans ((g6 36 (by omega)).trans v2_5.1), (K6 37 (by omega) (by omega) (by omega) (by omega)).trans ((g6 37 (by omega)).trans v2_5.2.1), fun t ht => (K6 (36 + 2 + t) (by omega) (by omega) (by omega) (by omega)).trans ((g6 (36 + 2 + t) (by omega)).trans (v2_5.2.2.1 t ht)), (K6 44 (by omega) (by omega) (by omega) (by omega)).trans ((g6 44 (by omega)).trans v2_5.2.2.2)⟩⟩
  have lk3 : ck_any H26 (18 + 9 * 3) := ⟨_, _, _, ⟨(K7 45 (by omega) (by omega) (by omega) (by omega)).trans ((g7 45 (by omega)).trans v2_6.1), (K7 46 (by omega) (by omega) (by omega) (by omega)).trans ((g7 46 (by omega)).trans v2_6.2.1), fun t ht => (K7 (45 + 2 + t) (by omega) (by omega) (by omega) (by omega)).trans ((g7 (45 + 2 + t) (by omega)).trans (v2_6.2.2.1 t ht)), (K7 53 (by omega) (by omega) (by omega) (by omega)).trans ((g7 53 (by omega)).trans v2_6.2.2.2)⟩⟩
  have lk4 : ck_any H26 (18 + 9 * 4) := ⟨_, _, _, ⟨(K8 54 (by omega) (by omega) (by omega) (by omega)).trans ((g8 54 (by omega)).trans v2_7.1), (K8 55 (by omega) (by omega) (by omega) (by omega)).trans ((g8 55 (by omega)).trans v2_7.2.1), fun t ht => (K8 (54 + 2 + t) (by omega) (by omega) (by omega) (by omega)).trans ((g8 (54 + 2 + t) (by omega)).trans (v2_7.2.2.1 t ht)), (K8 62 (by omega) (by omega) (by omega) (by omega)).trans ((g8 62 (by omega)).trans v2_7.2.2.2)⟩⟩
  have lk5 : ck_any H26 (18 + 9 * 5) := ⟨_, _, _, ⟨(K9 63 (by omega) (by omega) (by omega) (by omega)).trans ((g9 63 (by omega)).trans v2_8.1), (K9 64 (by omega) (by omega) (by omega) (by omega)).trans ((g9 64 (by omega)).trans v2_8.2.1), fun t ht => (K9 (63 + 2 + t) (by omega) (by omega) (by omega) (by omega)).trans ((g9 (63 + 2 + t) (by omega)).trans (v2_8.2.2.1 t ht)), (K9 71 (by omega) (by omega) (by omega) (by omega)).trans ((g9 71 (by omega)).trans v2_8.2.2.2)⟩⟩
  have lk6 : ck_any H26 (18 + 9 * 6) := ⟨_, _, _, ⟨(K10 72 (by omega) (by omega) (by omega) (by omega)).trans ((g10 72 (by omega)).trans v2_9.1), (K10 73 (by omega) (by omega) (by omega) (by omega)).trans ((g10 73 (by omega)).trans v2_9.2.1), fun t ht => (K10 (72 + 2 + t) (by omega) (by omega) (by omega) (by omega)).trans ((g10 (72 + 2 + t) (by omega)).trans (v2_9.2.2.1 t ht)), (K10 80 (by omega) (by omega) (by omega) (by omega)).trans ((g10 80 (by omega)).trans v2_9.2.2.2)⟩⟩
  have lk7 : ck_any H26 (18 + 9 * 7) := ⟨_, _, _, ⟨(K11 81 (by omega) (by omega) (by omega) (by omega)).trans ((g11 81 (by omega)).trans v2_10.1), (K11 82 (by omega) (by omega) (by omega) (by omega)).trans ((g11 82 (by omega)).trans v2_10.2.1), fun t ht => (K11 (81 + 2 + t) (by omega) (by omega) (by omega) (by omega)).trans ((g11 (81 + 2 + t) (by omega)).trans (v2_10.2.2.1 t ht)), (K11 89 (by omega) (by omega) (by omega) (by omega)).trans ((g11 89 (by omega)).trans v2_10.2.2.2)⟩⟩
  have ty0 : H26[96]? = some (.inr (nX6, [.null])) := (K20 96 (by omega) (by omega) (by omega) (by omega)).trans ((g20 96 (by omega)).trans ga19)
  have ty1 : H26[97]? = some (.inr (nX6, [.null])) := (K21 97 (by omega) (by omega) (by omega) (by omega)).trans ((g21 97 (by omega)).trans ga20)
  have ty2 : H26[98]? = some (.inr (nX6, [.null])) := (K22 98 (by omega) (by omega) (by omega) (by omega)).trans ((g22 98 (by omega)).trans ga21)
  have ty3 : H26[99]? = some (.inr (nX6, [.null])) := (K23 99 (by omega) (by omega) (by omega) (by omega)).trans ((g23 99 (by omega)).trans ga22)
  have up_state : ∀ c, 1 ≤ c → c < 9 → H26[c]? = G0[c]? := fun c z1 z2 => (K1 c (by omega) (by omega) (by omega) (by omega)).trans (g1 c (by omega))
  have S_state : cs_S H26 1 2 (fun _ => 0) (fun _ => 0) (fun _ => 0) (nI 0) := ⟨(up_state _ (by omega) (by omega)).trans v2_0.1, (up_state _ (by omega) (by omega)).trans v2_0.2.1, (up_state _ (by omega) (by omega)).trans v2_0.2.2.1, (up_state _ (by omega) (by omega)).trans v2_0.2.2.2⟩
  have up_tried : ∀ c, 9 ≤ c → c < 17 → H26[c]? = G1[c]? := fun c z1 z2 => (K2 c (by omega) (by omega) (by omega) (by omega)).trans (g2 c (by omega))
  have S_tried : cs_S H26 9 10 (fun _ => 0) (fun _ => 0) (fun _ => 0) (nI 0) := ⟨(up_tried _ (by omega) (by omega)).trans v2_1.1, (up_tried _ (by omega) (by omega)).trans v2_1.2.1, (up_tried _ (by omega) (by omega)).trans v2_1.2.2.1, (up_tried _ (by omega) (by omega)).trans v2_1.2.2.2⟩
  have n2 := (up_state 2 (by omega) (by omega)).trans v3_0
  have n3 := (up_state 3 (by omega) (by omega)).trans (v4_0 0 (by omega))
  have n4 := (up_state 4 (by omega) (by omega)).trans (v4_0 1 (by omega))
  have n5 := (up_state 5 (by omega) (by omega)).trans (v4_0 2 (by omega))
  have dd := (K14 90 (by omega) (by omega) (by omega) (by omega)).trans f_deeds
  have im := (K15 91 (by omega) (by omega) (by omega) (by omega)).trans f_images
  have tp := (K16 92 (by omega) (by omega) (by omega) (by omega)).trans f_tape
  have ca := (K18 93 (by omega) (by omega) (by omega) (by omega)).trans f_case
  have tl := (K18 94 (by omega) (by omega) (by omega) (by omega)).trans f_tells
  have bb := b26
  refine nd_return hC rfl (by omega) (by omega) dX1_init_218 (hk H26 l26 ⟨⟨fun k hk => ?_, ⟨_, tl⟩, ⟨_, _, _, _, _, S_tried⟩, ⟨_, f_codes⟩⟩, (fun a => if 2 ≤ a ∧ a ≤ 5 then 1 else 0), 2, [], (fun _ => .null), (fun _ => []), ⟨⟨0, bb⟩, r17, ⟨?_, ⟨_, _, _, _, S_state, rfl, fun i hi => absurd hi (Nat.not_lt_zero _), fun i hi => absurd hi (Nat.not_lt_zero _), fun i hi => absurd hi (Nat.not_lt_zero _)⟩, Or.inl ⟨rfl, _, dd⟩, rfl, fun i hi => absurd hi (Nat.not_lt_zero _)⟩, im, fun i hi => ⟨rfl, rfl⟩, List.nodup_nil, r95, fun t ht => ?_, ⟨_, tp, fun i hi => absurd hi (Nat.not_lt_zero _)⟩, ca, fun a ha => ?_⟩⟩)
  · match k, hk with
    | 0, _ => exact lk0
    | 1, _ => exact lk1
    | 2, _ => exact lk2
    | 3, _ => exact lk3
    | 4, _ => exact lk4
    | 5, _ => exact lk5
    | 6, _ => exact lk6
    | 7, _ => exact lk7
  · exact ⟨3, 4, 5, _, _, .null, .null, .null, rfl, rfl, n2, n3, ⟨rfl, Nat.zero_le _, Or.inl ⟨rfl, _, _, n5⟩⟩, Or.inl ⟨rfl, rfl⟩, Or.inl ⟨rfl, rfl⟩, Or.inl ⟨rfl, rfl⟩⟩
  · match t, ht with
    | 0, _ => exact ty0
    | 1, _ => exact ty1
    | 2, _ => exact ty2
    | 3, _ => exact ty3
  · have ha : (if 2 ≤ a ∧ a ≤ 5 then 1 else 0) ≠ 0 := ha
    by_cases q : 2 ≤ a ∧ a ≤ 5
    · exact ⟨by rw [l26]; omega, Or.inl q⟩
    · rw [if_neg q] at ha; exact absurd rfl ha
end IN996

