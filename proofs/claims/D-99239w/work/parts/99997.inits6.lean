set_option maxRecDepth 100000
/-! ===== the constructor of the reference ===== -/
def mo_Ai0 (tS : Nat → Int32) : Nat → Nat → Int32 := fun k => match k with
  | 40 => tS
  | _ => fun _ => 0
def mo_Fi0 : Nat → Int32 := fun k => match k with
  | 15 => -1
  | _ => 0
section IN997
variable {g : nd_G} {d : Nat} {K : nd_K} {h : nd_H}
theorem mo_Ii0 {tS : Nat → Int32} (hTS : ∀ t, t < 4 → tS t = -1) : mo_I 0 sy_0 (mo_Ai0 tS) mo_Fi0 (fun _ _ => 0) := by
  have z : ∀ (P : Nat → Prop) i, i < ([] : List Nat).length → P i := fun _ i hi => absurd hi (Nat.not_lt_zero _)
  refine ⟨⟨⟨rfl, rfl, rfl, fun i hi => absurd hi (Nat.not_lt_zero _), ?_, ?_, ?_⟩, ⟨rfl, fun i hi => absurd hi (Nat.not_lt_zero _), fun i hi => absurd hi (Nat.not_lt_zero _), fun i hi => absurd hi (Nat.not_lt_zero _)⟩, rfl, fun i hi => absurd hi (Nat.not_lt_zero _)⟩, fun i hi => ⟨fun _ => rfl, fun P e => nomatch e⟩, fun t ht => ⟨fun _ => hTS t ht, fun q e => nomatch e⟩, rfl, fun i hi => absurd hi (Nat.not_lt_zero _), rfl, rfl, ⟨0, Nat.le_refl _, rfl, fun j hj => ⟨0, Nat.le_refl _, rfl⟩⟩⟩
  · exact ⟨rfl, fun i hi => absurd hi (Nat.not_lt_zero _)⟩
  · exact ⟨rfl, fun i hi => absurd hi (Nat.not_lt_zero _)⟩
  · exact ⟨rfl, fun i hi => absurd hi (Nat.not_lt_zero _)⟩
theorem ni_X7 (hg : nd_OK g) (l0 : h.length = 102) (b0 : h[101]? = some (.inr (nX7, [.null, .null, .null, .null, .int 0, .null, .int 0, .int 0, .int 0, .int 0, .int 0, .int 0, .int 0, .int 0, .int 0, .int 0, .int 0, .int 0, .int 0, .null, .null, .null, .null, .null, .int 0, .null, .null, .null, .int 0, .int 0, .int 0, .int 0, .int 0, .int 0, .int 0, .null, .null, .int 0, .null, .null, .null, .null, .null]) : nd_C)) (hk : ∀ h2 A F B, h2.length = 122 → (∀ a, a < 101 → h2[a]? = h[a]?) → mo_W h2 A F B h2 → mo_I 0 sy_0 A F B → K (.inl none) h2) : nd_M g mX7_init d 20 147852 [.ref 101] h K := by
  refine nd_enter hg (by decide) rfl (Nat.le_of_ble_eq_true rfl) (fun X hC => ?_)
  refine nd_aload_n hC dX7_init_0 rfl rfl ?_
  refine nd_objInit hC q2714 q225 q226 (by exact Nat.le_of_ble_eq_true rfl) dX7_init_1 ?_
  refine nd_aload_n hC dX7_init_4 rfl rfl ?_
  refine nd_sipush hC (v := nI 2912) (by rfl) dX7_init_5 ?_
  refine nd_newarray hC (atype := .int) (ty := 0) .int (.inl (fun _ => 0)) q322 rfl rfl (fun _ _ => rfl) (N := 2912) rfl (nI_toInt (by omega)) (by decide) (by omega) (by omega) dX7_init_8 ?_
  rw [l0]
  have al0 : (h ++ [(.inl (0, 2912, .inl (fun _ => 0)) : nd_C)]).length = 103 := by rw [List.length_append, l0]; rfl
  have ak0 : ∀ c, c < 102 → (h ++ [(.inl (0, 2912, .inl (fun _ => 0)) : nd_C)])[c]? = h[c]? := fun c hc => List.getElem?_append_left (by rw [l0]; exact hc)
  have ab0 := (ak0 101 (by omega)).trans b0
  have an0 : (h ++ [(.inl (0, 2912, .inl (fun _ => 0)) : nd_C)])[102]? = some (.inl (0, 2912, .inl (fun _ => 0)) : nd_C) := by rw [← l0]; exact l_at_last
  refine nd_putF (ci := nX7) hC in_X7 rfl ab0 0 (by decide) tyX7 tyX7_ok (by decide +kernel) q2716 (fun _ z => z) rfl rfl rfl rfl rfl (by show 0 < 43; decide) dX7_init_10 ?_
  show nd_W _ _ _ _ _ _ _ _ _ _ ((h ++ [(.inl (0, 2912, .inl (fun _ => 0)) : nd_C)]).set 101 (.inr (nX7, [.ref 102, .null, .null, .null, .int 0, .null, .int 0, .int 0, .int 0, .int 0, .int 0, .int 0, .int 0, .int 0, .int 0, .int 0, .int 0, .int 0, .int 0, .null, .null, .null, .null, .null, .int 0, .null, .null, .null, .int 0, .int 0, .int 0, .int 0, .int 0, .int 0, .int 0, .null, .null, .int 0, .null, .null, .null, .null, .null]) : nd_C)) _ _
  generalize e1 : (h ++ [(.inl (0, 2912, .inl (fun _ => 0)) : nd_C)]).set 101 (.inr (nX7, [.ref 102, .null, .null, .null, .int 0, .null, .int 0, .int 0, .int 0, .int 0, .int 0, .int 0, .int 0, .int 0, .int 0, .int 0, .int 0, .int 0, .int 0, .null, .null, .null, .null, .null, .int 0, .null, .null, .null, .int 0, .int 0, .int 0, .int 0, .int 0, .int 0, .int 0, .null, .null, .int 0, .null, .null, .null, .null, .null]) : nd_C) = H1
  have l1 : H1.length = 103 := by rw [← e1, List.length_set]; exact al0
  have g1 : ∀ c, c ≠ 101 → H1[c]? = (h ++ [(.inl (0, 2912, .inl (fun _ => 0)) : nd_C)])[c]? := fun c hc => by rw [← e1]; exact List.getElem?_set_ne (Ne.symm hc)
  have b1 : H1[101]? = some (.inr (nX7, [.ref 102, .null, .null, .null, .int 0, .null, .int 0, .int 0, .int 0, .int 0, .int 0, .int 0, .int 0, .int 0, .int 0, .int 0, .int 0, .int 0, .int 0, .null, .null, .null, .null, .null, .int 0, .null, .null, .null, .int 0, .int 0, .int 0, .int 0, .int 0, .int 0, .int 0, .null, .null, .int 0, .null, .null, .null, .null, .null]) : nd_C) := by rw [← e1]; exact List.getElem?_set_self (by rw [al0]; omega)
  have k1 : ∀ c, c ≠ 101 → c < 102 → H1[c]? = h[c]? := fun c z1 z4 => (g1 c z1).trans (ak0 c z4)
  have f1 : H1[102]? = some (.inl (0, 2912, .inl (fun _ => 0)) : nd_C) := (g1 102 (by omega)).trans an0
  refine nd_aload_n hC dX7_init_13 rfl rfl ?_
  refine nd_sipush hC (v := nI 2912) (by rfl) dX7_init_14 ?_
  refine nd_newarray hC (atype := .int) (ty := 0) .int (.inl (fun _ => 0)) q322 rfl rfl (fun _ _ => rfl) (N := 2912) rfl (nI_toInt (by omega)) (by decide) (by omega) (by omega) dX7_init_17 ?_
  rw [l1]
  have al1 : (H1 ++ [(.inl (0, 2912, .inl (fun _ => 0)) : nd_C)]).length = 104 := by rw [List.length_append, l1]; rfl
  have ak1 : ∀ c, c < 103 → (H1 ++ [(.inl (0, 2912, .inl (fun _ => 0)) : nd_C)])[c]? = H1[c]? := fun c hc => List.getElem?_append_left (by rw [l1]; exact hc)
  have ab1 := (ak1 101 (by omega)).trans b1
  have an1 : (H1 ++ [(.inl (0, 2912, .inl (fun _ => 0)) : nd_C)])[103]? = some (.inl (0, 2912, .inl (fun _ => 0)) : nd_C) := by rw [← l1]; exact l_at_last
  refine nd_putF (ci := nX7) hC in_X7 rfl ab1 1 (by decide) tyX7 tyX7_ok (by decide +kernel) q2717 (fun _ z => z) rfl rfl rfl rfl rfl (by show 1 < 43; decide) dX7_init_19 ?_
  show nd_W _ _ _ _ _ _ _ _ _ _ ((H1 ++ [(.inl (0, 2912, .inl (fun _ => 0)) : nd_C)]).set 101 (.inr (nX7, [.ref 102, .ref 103, .null, .null, .int 0, .null, .int 0, .int 0, .int 0, .int 0, .int 0, .int 0, .int 0, .int 0, .int 0, .int 0, .int 0, .int 0, .int 0, .null, .null, .null, .null, .null, .int 0, .null, .null, .null, .int 0, .int 0, .int 0, .int 0, .int 0, .int 0, .int 0, .null, .null, .int 0, .null, .null, .null, .null, .null]) : nd_C)) _ _
  generalize e2 : (H1 ++ [(.inl (0, 2912, .inl (fun _ => 0)) : nd_C)]).set 101 (.inr (nX7, [.ref 102, .ref 103, .null, .null, .int 0, .null, .int 0, .int 0, .int 0, .int 0, .int 0, .int 0, .int 0, .int 0, .int 0, .int 0, .int 0, .int 0, .int 0, .null, .null, .null, .null, .null, .int 0, .null, .null, .null, .int 0, .int 0, .int 0, .int 0, .int 0, .int 0, .int 0, .null, .null, .int 0, .null, .null, .null, .null, .null]) : nd_C) = H2
  have l2 : H2.length = 104 := by rw [← e2, List.length_set]; exact al1
  have g2 : ∀ c, c ≠ 101 → H2[c]? = (H1 ++ [(.inl (0, 2912, .inl (fun _ => 0)) : nd_C)])[c]? := fun c hc => by rw [← e2]; exact List.getElem?_set_ne (Ne.symm hc)
  have b2 : H2[101]? = some (.inr (nX7, [.ref 102, .ref 103, .null, .null, .int 0, .null, .int 0, .int 0, .int 0, .int 0, .int 0, .int 0, .int 0, .int 0, .int 0, .int 0, .int 0, .int 0, .int 0, .null, .null, .null, .null, .null, .int 0, .null, .null, .null, .int 0, .int 0, .int 0, .int 0, .int 0, .int 0, .int 0, .null, .null, .int 0, .null, .null, .null, .null, .null]) : nd_C) := by rw [← e2]; exact List.getElem?_set_self (by rw [al1]; omega)
  have k2 : ∀ c, c ≠ 101 → c < 103 → H2[c]? = H1[c]? := fun c z1 z4 => (g2 c z1).trans (ak1 c z4)
  have f2 : H2[103]? = some (.inl (0, 2912, .inl (fun _ => 0)) : nd_C) := (g2 103 (by omega)).trans an1
  refine nd_aload_n hC dX7_init_22 rfl rfl ?_
  refine nd_sipush hC (v := nI 8736) (by rfl) dX7_init_23 ?_
  refine nd_newarray hC (atype := .int) (ty := 0) .int (.inl (fun _ => 0)) q322 rfl rfl (fun _ _ => rfl) (N := 8736) rfl (nI_toInt (by omega)) (by decide) (by omega) (by omega) dX7_init_26 ?_
  rw [l2]
  have al2 : (H2 ++ [(.inl (0, 8736, .inl (fun _ => 0)) : nd_C)]).length = 105 := by rw [List.length_append, l2]; rfl
  have ak2 : ∀ c, c < 104 → (H2 ++ [(.inl (0, 8736, .inl (fun _ => 0)) : nd_C)])[c]? = H2[c]? := fun c hc => List.getElem?_append_left (by rw [l2]; exact hc)
  have ab2 := (ak2 101 (by omega)).trans b2
  have an2 : (H2 ++ [(.inl (0, 8736, .inl (fun _ => 0)) : nd_C)])[104]? = some (.inl (0, 8736, .inl (fun _ => 0)) : nd_C) := by rw [← l2]; exact l_at_last
  refine nd_putF (ci := nX7) hC in_X7 rfl ab2 2 (by decide) tyX7 tyX7_ok (by decide +kernel) q2718 (fun _ z => z) rfl rfl rfl rfl rfl (by show 2 < 43; decide) dX7_init_28 ?_
  show nd_W _ _ _ _ _ _ _ _ _ _ ((H2 ++ [(.inl (0, 8736, .inl (fun _ => 0)) : nd_C)]).set 101 (.inr (nX7, [.ref 102, .ref 103, .ref 104, .null, .int 0, .null, .int 0, .int 0, .int 0, .int 0, .int 0, .int 0, .int 0, .int 0, .int 0, .int 0, .int 0, .int 0, .int 0, .null, .null, .null, .null, .null, .int 0, .null, .null, .null, .int 0, .int 0, .int 0, .int 0, .int 0, .int 0, .int 0, .null, .null, .int 0, .null, .null, .null, .null, .null]) : nd_C)) _ _
  generalize e3 : (H2 ++ [(.inl (0, 8736, .inl (fun _ => 0)) : nd_C)]).set 101 (.inr (nX7, [.ref 102, .ref 103, .ref 104, .null, .int 0, .null, .int 0, .int 0, .int 0, .int 0, .int 0, .int 0, .int 0, .int 0, .int 0, .int 0, .int 0, .int 0, .int 0, .null, .null, .null, .null, .null, .int 0, .null, .null, .null, .int 0, .int 0, .int 0, .int 0, .int 0, .int 0, .int 0, .null, .null, .int 0, .null, .null, .null, .null, .null]) : nd_C) = H3
  have l3 : H3.length = 105 := by rw [← e3, List.length_set]; exact al2
  have g3 : ∀ c, c ≠ 101 → H3[c]? = (H2 ++ [(.inl (0, 8736, .inl (fun _ => 0)) : nd_C)])[c]? := fun c hc => by rw [← e3]; exact List.getElem?_set_ne (Ne.symm hc)
  have b3 : H3[101]? = some (.inr (nX7, [.ref 102, .ref 103, .ref 104, .null, .int 0, .null, .int 0, .int 0, .int 0, .int 0, .int 0, .int 0, .int 0, .int 0, .int 0, .int 0, .int 0, .int 0, .int 0, .null, .null, .null, .null, .null, .int 0, .null, .null, .null, .int 0, .int 0, .int 0, .int 0, .int 0, .int 0, .int 0, .null, .null, .int 0, .null, .null, .null, .null, .null]) : nd_C) := by rw [← e3]; exact List.getElem?_set_self (by rw [al2]; omega)
  have k3 : ∀ c, c ≠ 101 → c < 104 → H3[c]? = H2[c]? := fun c z1 z4 => (g3 c z1).trans (ak2 c z4)
  have f3 : H3[104]? = some (.inl (0, 8736, .inl (fun _ => 0)) : nd_C) := (g3 104 (by omega)).trans an2
  refine nd_aload_n hC dX7_init_31 rfl rfl ?_
  refine nd_iconst hC (v := nI 3) (by rfl) dX7_init_32 ?_
  refine nd_newarray hC (atype := .boolean) (ty := 4) .boolean (.inl (fun _ => 0)) q2846 rfl rfl (fun _ _ => rfl) (N := 3) rfl (by decide) (by decide) (by omega) (by omega) dX7_init_33 ?_
  rw [l3]
  have al3 : (H3 ++ [(.inl (4, 3, .inl (fun _ => 0)) : nd_C)]).length = 106 := by rw [List.length_append, l3]; rfl
  have ak3 : ∀ c, c < 105 → (H3 ++ [(.inl (4, 3, .inl (fun _ => 0)) : nd_C)])[c]? = H3[c]? := fun c hc => List.getElem?_append_left (by rw [l3]; exact hc)
  have ab3 := (ak3 101 (by omega)).trans b3
  have an3 : (H3 ++ [(.inl (4, 3, .inl (fun _ => 0)) : nd_C)])[105]? = some (.inl (4, 3, .inl (fun _ => 0)) : nd_C) := by rw [← l3]; exact l_at_last
  refine nd_putF (ci := nX7) hC in_X7 rfl ab3 3 (by decide) tyX7 tyX7_ok (by decide +kernel) q2719 (fun _ z => z) rfl rfl rfl rfl rfl (by show 3 < 43; decide) dX7_init_35 ?_
  show nd_W _ _ _ _ _ _ _ _ _ _ ((H3 ++ [(.inl (4, 3, .inl (fun _ => 0)) : nd_C)]).set 101 (.inr (nX7, [.ref 102, .ref 103, .ref 104, .ref 105, .int 0, .null, .int 0, .int 0, .int 0, .int 0, .int 0, .int 0, .int 0, .int 0, .int 0, .int 0, .int 0, .int 0, .int 0, .null, .null, .null, .null, .null, .int 0, .null, .null, .null, .int 0, .int 0, .int 0, .int 0, .int 0, .int 0, .int 0, .null, .null, .int 0, .null, .null, .null, .null, .null]) : nd_C)) _ _
  generalize e4 : (H3 ++ [(.inl (4, 3, .inl (fun _ => 0)) : nd_C)]).set 101 (.inr (nX7, [.ref 102, .ref 103, .ref 104, .ref 105, .int 0, .null, .int 0, .int 0, .int 0, .int 0, .int 0, .int 0, .int 0, .int 0, .int 0, .int 0, .int 0, .int 0, .int 0, .null, .null, .null, .null, .null, .int 0, .null, .null, .null, .int 0, .int 0, .int 0, .int 0, .int 0, .int 0, .int 0, .null, .null, .int 0, .null, .null, .null, .null, .null]) : nd_C) = H4
  have l4 : H4.length = 106 := by rw [← e4, List.length_set]; exact al3
  have g4 : ∀ c, c ≠ 101 → H4[c]? = (H3 ++ [(.inl (4, 3, .inl (fun _ => 0)) : nd_C)])[c]? := fun c hc => by rw [← e4]; exact List.getElem?_set_ne (Ne.symm hc)
  have b4 : H4[101]? = some (.inr (nX7, [.ref 102, .ref 103, .ref 104, .ref 105, .int 0, .null, .int 0, .int 0, .int 0, .int 0, .int 0, .int 0, .int 0, .int 0, .int 0, .int 0, .int 0, .int 0, .int 0, .null, .null, .null, .null, .null, .int 0, .null, .null, .null, .int 0, .int 0, .int 0, .int 0, .int 0, .int 0, .int 0, .null, .null, .int 0, .null, .null, .null, .null, .null]) : nd_C) := by rw [← e4]; exact List.getElem?_set_self (by rw [al3]; omega)
  have k4 : ∀ c, c ≠ 101 → c < 105 → H4[c]? = H3[c]? := fun c z1 z4 => (g4 c z1).trans (ak3 c z4)
  have f4 : H4[105]? = some (.inl (4, 3, .inl (fun _ => 0)) : nd_C) := (g4 105 (by omega)).trans an3
  refine nd_aload_n hC dX7_init_38 rfl rfl ?_
  refine nd_sipush hC (v := nI 900) (by rfl) dX7_init_39 ?_
  refine nd_newarray hC (atype := .int) (ty := 0) .int (.inl (fun _ => 0)) q322 rfl rfl (fun _ _ => rfl) (N := 900) rfl (nI_toInt (by omega)) (by decide) (by omega) (by omega) dX7_init_42 ?_
  rw [l4]
  have al4 : (H4 ++ [(.inl (0, 900, .inl (fun _ => 0)) : nd_C)]).length = 107 := by rw [List.length_append, l4]; rfl
  have ak4 : ∀ c, c < 106 → (H4 ++ [(.inl (0, 900, .inl (fun _ => 0)) : nd_C)])[c]? = H4[c]? := fun c hc => List.getElem?_append_left (by rw [l4]; exact hc)
  have ab4 := (ak4 101 (by omega)).trans b4
  have an4 : (H4 ++ [(.inl (0, 900, .inl (fun _ => 0)) : nd_C)])[106]? = some (.inl (0, 900, .inl (fun _ => 0)) : nd_C) := by rw [← l4]; exact l_at_last
  refine nd_putF (ci := nX7) hC in_X7 rfl ab4 5 (by decide) tyX7 tyX7_ok (by decide +kernel) q2721 (fun _ z => z) rfl rfl rfl rfl rfl (by show 5 < 43; decide) dX7_init_44 ?_
  show nd_W _ _ _ _ _ _ _ _ _ _ ((H4 ++ [(.inl (0, 900, .inl (fun _ => 0)) : nd_C)]).set 101 (.inr (nX7, [.ref 102, .ref 103, .ref 104, .ref 105, .int 0, .ref 106, .int 0, .int 0, .int 0, .int 0, .int 0, .int 0, .int 0, .int 0, .int 0, .int 0, .int 0, .int 0, .int 0, .null, .null, .null, .null, .null, .int 0, .null, .null, .null, .int 0, .int 0, .int 0, .int 0, .int 0, .int 0, .int 0, .null, .null, .int 0, .null, .null, .null, .null, .null]) : nd_C)) _ _
  generalize e5 : (H4 ++ [(.inl (0, 900, .inl (fun _ => 0)) : nd_C)]).set 101 (.inr (nX7, [.ref 102, .ref 103, .ref 104, .ref 105, .int 0, .ref 106, .int 0, .int 0, .int 0, .int 0, .int 0, .int 0, .int 0, .int 0, .int 0, .int 0, .int 0, .int 0, .int 0, .null, .null, .null, .null, .null, .int 0, .null, .null, .null, .int 0, .int 0, .int 0, .int 0, .int 0, .int 0, .int 0, .null, .null, .int 0, .null, .null, .null, .null, .null]) : nd_C) = H5
  have l5 : H5.length = 107 := by rw [← e5, List.length_set]; exact al4
  have g5 : ∀ c, c ≠ 101 → H5[c]? = (H4 ++ [(.inl (0, 900, .inl (fun _ => 0)) : nd_C)])[c]? := fun c hc => by rw [← e5]; exact List.getElem?_set_ne (Ne.symm hc)
  have b5 : H5[101]? = some (.inr (nX7, [.ref 102, .ref 103, .ref 104, .ref 105, .int 0, .ref 106, .int 0, .int 0, .int 0, .int 0, .int 0, .int 0, .int 0, .int 0, .int 0, .int 0, .int 0, .int 0, .int 0, .null, .null, .null, .null, .null, .int 0, .null, .null, .null, .int 0, .int 0, .int 0, .int 0, .int 0, .int 0, .int 0, .null, .null, .int 0, .null, .null, .null, .null, .null]) : nd_C) := by rw [← e5]; exact List.getElem?_set_self (by rw [al4]; omega)
  have k5 : ∀ c, c ≠ 101 → c < 106 → H5[c]? = H4[c]? := fun c z1 z4 => (g5 c z1).trans (ak4 c z4)
  have f5 : H5[106]? = some (.inl (0, 900, .inl (fun _ => 0)) : nd_C) := (g5 106 (by omega)).trans an4
  refine nd_aload_n hC dX7_init_47 rfl rfl ?_
  refine nd_iconst hC (v := -1) (by rfl) dX7_init_48 ?_
  refine nd_put (ci := nX7) hC in_X7 rfl b5 15 (by decide) tyX7 tyX7_ok (by decide +kernel) q2731 (fun _ z => z) rfl rfl rfl (by show 15 < 43; decide) dX7_init_49 ?_
  show nd_W _ _ _ _ _ _ _ _ _ _ (H5.set 101 (.inr (nX7, [.ref 102, .ref 103, .ref 104, .ref 105, .int 0, .ref 106, .int 0, .int 0, .int 0, .int 0, .int 0, .int 0, .int 0, .int 0, .int 0, .int (-1), .int 0, .int 0, .int 0, .null, .null, .null, .null, .null, .int 0, .null, .null, .null, .int 0, .int 0, .int 0, .int 0, .int 0, .int 0, .int 0, .null, .null, .int 0, .null, .null, .null, .null, .null]) : nd_C)) _ _
  generalize e6 : H5.set 101 (.inr (nX7, [.ref 102, .ref 103, .ref 104, .ref 105, .int 0, .ref 106, .int 0, .int 0, .int 0, .int 0, .int 0, .int 0, .int 0, .int 0, .int 0, .int (-1), .int 0, .int 0, .int 0, .null, .null, .null, .null, .null, .int 0, .null, .null, .null, .int 0, .int 0, .int 0, .int 0, .int 0, .int 0, .int 0, .null, .null, .int 0, .null, .null, .null, .null, .null]) : nd_C) = H6
  have l6 : H6.length = 107 := by rw [← e6, List.length_set]; exact l5
  have g6 : ∀ c, c ≠ 101 → H6[c]? = H5[c]? := fun c hc => by rw [← e6]; exact List.getElem?_set_ne (Ne.symm hc)
  have b6 : H6[101]? = some (.inr (nX7, [.ref 102, .ref 103, .ref 104, .ref 105, .int 0, .ref 106, .int 0, .int 0, .int 0, .int 0, .int 0, .int 0, .int 0, .int 0, .int 0, .int (-1), .int 0, .int 0, .int 0, .null, .null, .null, .null, .null, .int 0, .null, .null, .null, .int 0, .int 0, .int 0, .int 0, .int 0, .int 0, .int 0, .null, .null, .int 0, .null, .null, .null, .null, .null]) : nd_C) := by rw [← e6]; exact List.getElem?_set_self (by rw [l5]; omega)
  have k6 : ∀ c, c ≠ 101 → c < 107 → H6[c]? = H5[c]? := fun c z1 z4 => (g6 c z1).trans (rfl)
  refine nd_aload_n hC dX7_init_52 rfl rfl ?_
  refine nd_sipush hC (v := nI 473) (by rfl) dX7_init_53 ?_
  refine nd_newarray hC (atype := .int) (ty := 0) .int (.inl (fun _ => 0)) q322 rfl rfl (fun _ _ => rfl) (N := 473) rfl (nI_toInt (by omega)) (by decide) (by omega) (by omega) dX7_init_56 ?_
  rw [l6]
  have al6 : (H6 ++ [(.inl (0, 473, .inl (fun _ => 0)) : nd_C)]).length = 108 := by rw [List.length_append, l6]; rfl
  have ak6 : ∀ c, c < 107 → (H6 ++ [(.inl (0, 473, .inl (fun _ => 0)) : nd_C)])[c]? = H6[c]? := fun c hc => List.getElem?_append_left (by rw [l6]; exact hc)
  have ab6 := (ak6 101 (by omega)).trans b6
  have an6 : (H6 ++ [(.inl (0, 473, .inl (fun _ => 0)) : nd_C)])[107]? = some (.inl (0, 473, .inl (fun _ => 0)) : nd_C) := by rw [← l6]; exact l_at_last
  refine nd_putF (ci := nX7) hC in_X7 rfl ab6 19 (by decide) tyX7 tyX7_ok (by decide +kernel) q2735 (fun _ z => z) rfl rfl rfl rfl rfl (by show 19 < 43; decide) dX7_init_58 ?_
  show nd_W _ _ _ _ _ _ _ _ _ _ ((H6 ++ [(.inl (0, 473, .inl (fun _ => 0)) : nd_C)]).set 101 (.inr (nX7, [.ref 102, .ref 103, .ref 104, .ref 105, .int 0, .ref 106, .int 0, .int 0, .int 0, .int 0, .int 0, .int 0, .int 0, .int 0, .int 0, .int (-1), .int 0, .int 0, .int 0, .ref 107, .null, .null, .null, .null, .int 0, .null, .null, .null, .int 0, .int 0, .int 0, .int 0, .int 0, .int 0, .int 0, .null, .null, .int 0, .null, .null, .null, .null, .null]) : nd_C)) _ _
  generalize e7 : (H6 ++ [(.inl (0, 473, .inl (fun _ => 0)) : nd_C)]).set 101 (.inr (nX7, [.ref 102, .ref 103, .ref 104, .ref 105, .int 0, .ref 106, .int 0, .int 0, .int 0, .int 0, .int 0, .int 0, .int 0, .int 0, .int 0, .int (-1), .int 0, .int 0, .int 0, .ref 107, .null, .null, .null, .null, .int 0, .null, .null, .null, .int 0, .int 0, .int 0, .int 0, .int 0, .int 0, .int 0, .null, .null, .int 0, .null, .null, .null, .null, .null]) : nd_C) = H7
  have l7 : H7.length = 108 := by rw [← e7, List.length_set]; exact al6
  have g7 : ∀ c, c ≠ 101 → H7[c]? = (H6 ++ [(.inl (0, 473, .inl (fun _ => 0)) : nd_C)])[c]? := fun c hc => by rw [← e7]; exact List.getElem?_set_ne (Ne.symm hc)
  have b7 : H7[101]? = some (.inr (nX7, [.ref 102, .ref 103, .ref 104, .ref 105, .int 0, .ref 106, .int 0, .int 0, .int 0, .int 0, .int 0, .int 0, .int 0, .int 0, .int 0, .int (-1), .int 0, .int 0, .int 0, .ref 107, .null, .null, .null, .null, .int 0, .null, .null, .null, .int 0, .int 0, .int 0, .int 0, .int 0, .int 0, .int 0, .null, .null, .int 0, .null, .null, .null, .null, .null]) : nd_C) := by rw [← e7]; exact List.getElem?_set_self (by rw [al6]; omega)
  have k7 : ∀ c, c ≠ 101 → c < 107 → H7[c]? = H6[c]? := fun c z1 z4 => (g7 c z1).trans (ak6 c z4)
  have f7 : H7[107]? = some (.inl (0, 473, .inl (fun _ => 0)) : nd_C) := (g7 107 (by omega)).trans an6
  refine nd_aload_n hC dX7_init_61 rfl rfl ?_
  refine nd_bipush hC (v := nI 6) (by rfl) dX7_init_62 ?_
  refine nd_newarray hC (atype := .int) (ty := 0) .int (.inl (fun _ => 0)) q322 rfl rfl (fun _ _ => rfl) (N := 6) rfl (by decide) (by decide) (by omega) (by omega) dX7_init_64 ?_
  rw [l7]
  have al7 : (H7 ++ [(.inl (0, 6, .inl (fun _ => 0)) : nd_C)]).length = 109 := by rw [List.length_append, l7]; rfl
  have ak7 : ∀ c, c < 108 → (H7 ++ [(.inl (0, 6, .inl (fun _ => 0)) : nd_C)])[c]? = H7[c]? := fun c hc => List.getElem?_append_left (by rw [l7]; exact hc)
  have ab7 := (ak7 101 (by omega)).trans b7
  have an7 : (H7 ++ [(.inl (0, 6, .inl (fun _ => 0)) : nd_C)])[108]? = some (.inl (0, 6, .inl (fun _ => 0)) : nd_C) := by rw [← l7]; exact l_at_last
  refine nd_putF (ci := nX7) hC in_X7 rfl ab7 20 (by decide) tyX7 tyX7_ok (by decide +kernel) q2736 (fun _ z => z) rfl rfl rfl rfl rfl (by show 20 < 43; decide) dX7_init_66 ?_
  show nd_W _ _ _ _ _ _ _ _ _ _ ((H7 ++ [(.inl (0, 6, .inl (fun _ => 0)) : nd_C)]).set 101 (.inr (nX7, [.ref 102, .ref 103, .ref 104, .ref 105, .int 0, .ref 106, .int 0, .int 0, .int 0, .int 0, .int 0, .int 0, .int 0, .int 0, .int 0, .int (-1), .int 0, .int 0, .int 0, .ref 107, .ref 108, .null, .null, .null, .int 0, .null, .null, .null, .int 0, .int 0, .int 0, .int 0, .int 0, .int 0, .int 0, .null, .null, .int 0, .null, .null, .null, .null, .null]) : nd_C)) _ _
  generalize e8 : (H7 ++ [(.inl (0, 6, .inl (fun _ => 0)) : nd_C)]).set 101 (.inr (nX7, [.ref 102, .ref 103, .ref 104, .ref 105, .int 0, .ref 106, .int 0, .int 0, .int 0, .int 0, .int 0, .int 0, .int 0, .int 0, .int 0, .int (-1), .int 0, .int 0, .int 0, .ref 107, .ref 108, .null, .null, .null, .int 0, .null, .null, .null, .int 0, .int 0, .int 0, .int 0, .int 0, .int 0, .int 0, .null, .null, .int 0, .null, .null, .null, .null, .null]) : nd_C) = H8
  have l8 : H8.length = 109 := by rw [← e8, List.length_set]; exact al7
  have g8 : ∀ c, c ≠ 101 → H8[c]? = (H7 ++ [(.inl (0, 6, .inl (fun _ => 0)) : nd_C)])[c]? := fun c hc => by rw [← e8]; exact List.getElem?_set_ne (Ne.symm hc)
  have b8 : H8[101]? = some (.inr (nX7, [.ref 102, .ref 103, .ref 104, .ref 105, .int 0, .ref 106, .int 0, .int 0, .int 0, .int 0, .int 0, .int 0, .int 0, .int 0, .int 0, .int (-1), .int 0, .int 0, .int 0, .ref 107, .ref 108, .null, .null, .null, .int 0, .null, .null, .null, .int 0, .int 0, .int 0, .int 0, .int 0, .int 0, .int 0, .null, .null, .int 0, .null, .null, .null, .null, .null]) : nd_C) := by rw [← e8]; exact List.getElem?_set_self (by rw [al7]; omega)
  have k8 : ∀ c, c ≠ 101 → c < 108 → H8[c]? = H7[c]? := fun c z1 z4 => (g8 c z1).trans (ak7 c z4)
  have f8 : H8[108]? = some (.inl (0, 6, .inl (fun _ => 0)) : nd_C) := (g8 108 (by omega)).trans an7
  refine nd_aload_n hC dX7_init_69 rfl rfl ?_
  refine nd_bipush hC (v := nI 64) (by rfl) dX7_init_70 ?_
  refine nd_newarray hC (atype := .int) (ty := 0) .int (.inl (fun _ => 0)) q322 rfl rfl (fun _ _ => rfl) (N := 64) rfl (by decide) (by decide) (by omega) (by omega) dX7_init_72 ?_
  rw [l8]
  have al8 : (H8 ++ [(.inl (0, 64, .inl (fun _ => 0)) : nd_C)]).length = 110 := by rw [List.length_append, l8]; rfl
  have ak8 : ∀ c, c < 109 → (H8 ++ [(.inl (0, 64, .inl (fun _ => 0)) : nd_C)])[c]? = H8[c]? := fun c hc => List.getElem?_append_left (by rw [l8]; exact hc)
  have ab8 := (ak8 101 (by omega)).trans b8
  have an8 : (H8 ++ [(.inl (0, 64, .inl (fun _ => 0)) : nd_C)])[109]? = some (.inl (0, 64, .inl (fun _ => 0)) : nd_C) := by rw [← l8]; exact l_at_last
  refine nd_putF (ci := nX7) hC in_X7 rfl ab8 21 (by decide) tyX7 tyX7_ok (by decide +kernel) q2737 (fun _ z => z) rfl rfl rfl rfl rfl (by show 21 < 43; decide) dX7_init_74 ?_
  show nd_W _ _ _ _ _ _ _ _ _ _ ((H8 ++ [(.inl (0, 64, .inl (fun _ => 0)) : nd_C)]).set 101 (.inr (nX7, [.ref 102, .ref 103, .ref 104, .ref 105, .int 0, .ref 106, .int 0, .int 0, .int 0, .int 0, .int 0, .int 0, .int 0, .int 0, .int 0, .int (-1), .int 0, .int 0, .int 0, .ref 107, .ref 108, .ref 109, .null, .null, .int 0, .null, .null, .null, .int 0, .int 0, .int 0, .int 0, .int 0, .int 0, .int 0, .null, .null, .int 0, .null, .null, .null, .null, .null]) : nd_C)) _ _
  generalize e9 : (H8 ++ [(.inl (0, 64, .inl (fun _ => 0)) : nd_C)]).set 101 (.inr (nX7, [.ref 102, .ref 103, .ref 104, .ref 105, .int 0, .ref 106, .int 0, .int 0, .int 0, .int 0, .int 0, .int 0, .int 0, .int 0, .int 0, .int (-1), .int 0, .int 0, .int 0, .ref 107, .ref 108, .ref 109, .null, .null, .int 0, .null, .null, .null, .int 0, .int 0, .int 0, .int 0, .int 0, .int 0, .int 0, .null, .null, .int 0, .null, .null, .null, .null, .null]) : nd_C) = H9
  have l9 : H9.length = 110 := by rw [← e9, List.length_set]; exact al8
  have g9 : ∀ c, c ≠ 101 → H9[c]? = (H8 ++ [(.inl (0, 64, .inl (fun _ => 0)) : nd_C)])[c]? := fun c hc => by rw [← e9]; exact List.getElem?_set_ne (Ne.symm hc)
  have b9 : H9[101]? = some (.inr (nX7, [.ref 102, .ref 103, .ref 104, .ref 105, .int 0, .ref 106, .int 0, .int 0, .int 0, .int 0, .int 0, .int 0, .int 0, .int 0, .int 0, .int (-1), .int 0, .int 0, .int 0, .ref 107, .ref 108, .ref 109, .null, .null, .int 0, .null, .null, .null, .int 0, .int 0, .int 0, .int 0, .int 0, .int 0, .int 0, .null, .null, .int 0, .null, .null, .null, .null, .null]) : nd_C) := by rw [← e9]; exact List.getElem?_set_self (by rw [al8]; omega)
  have k9 : ∀ c, c ≠ 101 → c < 109 → H9[c]? = H8[c]? := fun c z1 z4 => (g9 c z1).trans (ak8 c z4)
  have f9 : H9[109]? = some (.inl (0, 64, .inl (fun _ => 0)) : nd_C) := (g9 109 (by omega)).trans an8
  refine nd_aload_n hC dX7_init_77 rfl rfl ?_
  refine nd_bipush hC (v := nI 8) (by rfl) dX7_init_78 ?_
  refine nd_newarray hC (atype := .int) (ty := 0) .int (.inl (fun _ => 0)) q322 rfl rfl (fun _ _ => rfl) (N := 8) rfl (by decide) (by decide) (by omega) (by omega) dX7_init_80 ?_
  rw [l9]
  have al9 : (H9 ++ [(.inl (0, 8, .inl (fun _ => 0)) : nd_C)]).length = 111 := by rw [List.length_append, l9]; rfl
  have ak9 : ∀ c, c < 110 → (H9 ++ [(.inl (0, 8, .inl (fun _ => 0)) : nd_C)])[c]? = H9[c]? := fun c hc => List.getElem?_append_left (by rw [l9]; exact hc)
  have ab9 := (ak9 101 (by omega)).trans b9
  have an9 : (H9 ++ [(.inl (0, 8, .inl (fun _ => 0)) : nd_C)])[110]? = some (.inl (0, 8, .inl (fun _ => 0)) : nd_C) := by rw [← l9]; exact l_at_last
  refine nd_putF (ci := nX7) hC in_X7 rfl ab9 22 (by decide) tyX7 tyX7_ok (by decide +kernel) q2738 (fun _ z => z) rfl rfl rfl rfl rfl (by show 22 < 43; decide) dX7_init_82 ?_
  show nd_W _ _ _ _ _ _ _ _ _ _ ((H9 ++ [(.inl (0, 8, .inl (fun _ => 0)) : nd_C)]).set 101 (.inr (nX7, [.ref 102, .ref 103, .ref 104, .ref 105, .int 0, .ref 106, .int 0, .int 0, .int 0, .int 0, .int 0, .int 0, .int 0, .int 0, .int 0, .int (-1), .int 0, .int 0, .int 0, .ref 107, .ref 108, .ref 109, .ref 110, .null, .int 0, .null, .null, .null, .int 0, .int 0, .int 0, .int 0, .int 0, .int 0, .int 0, .null, .null, .int 0, .null, .null, .null, .null, .null]) : nd_C)) _ _
  generalize e10 : (H9 ++ [(.inl (0, 8, .inl (fun _ => 0)) : nd_C)]).set 101 (.inr (nX7, [.ref 102, .ref 103, .ref 104, .ref 105, .int 0, .ref 106, .int 0, .int 0, .int 0, .int 0, .int 0, .int 0, .int 0, .int 0, .int 0, .int (-1), .int 0, .int 0, .int 0, .ref 107, .ref 108, .ref 109, .ref 110, .null, .int 0, .null, .null, .null, .int 0, .int 0, .int 0, .int 0, .int 0, .int 0, .int 0, .null, .null, .int 0, .null, .null, .null, .null, .null]) : nd_C) = H10
  have l10 : H10.length = 111 := by rw [← e10, List.length_set]; exact al9
  have g10 : ∀ c, c ≠ 101 → H10[c]? = (H9 ++ [(.inl (0, 8, .inl (fun _ => 0)) : nd_C)])[c]? := fun c hc => by rw [← e10]; exact List.getElem?_set_ne (Ne.symm hc)
  have b10 : H10[101]? = some (.inr (nX7, [.ref 102, .ref 103, .ref 104, .ref 105, .int 0, .ref 106, .int 0, .int 0, .int 0, .int 0, .int 0, .int 0, .int 0, .int 0, .int 0, .int (-1), .int 0, .int 0, .int 0, .ref 107, .ref 108, .ref 109, .ref 110, .null, .int 0, .null, .null, .null, .int 0, .int 0, .int 0, .int 0, .int 0, .int 0, .int 0, .null, .null, .int 0, .null, .null, .null, .null, .null]) : nd_C) := by rw [← e10]; exact List.getElem?_set_self (by rw [al9]; omega)
  have k10 : ∀ c, c ≠ 101 → c < 110 → H10[c]? = H9[c]? := fun c z1 z4 => (g10 c z1).trans (ak9 c z4)
  have f10 : H10[110]? = some (.inl (0, 8, .inl (fun _ => 0)) : nd_C) := (g10 110 (by omega)).trans an9
  refine nd_aload_n hC dX7_init_85 rfl rfl ?_
  refine nd_bipush hC (v := nI 18) (by rfl) dX7_init_86 ?_
  refine nd_newarray hC (atype := .int) (ty := 0) .int (.inl (fun _ => 0)) q322 rfl rfl (fun _ _ => rfl) (N := 18) rfl (by decide) (by decide) (by omega) (by omega) dX7_init_88 ?_
  rw [l10]
  have al10 : (H10 ++ [(.inl (0, 18, .inl (fun _ => 0)) : nd_C)]).length = 112 := by rw [List.length_append, l10]; rfl
  have ak10 : ∀ c, c < 111 → (H10 ++ [(.inl (0, 18, .inl (fun _ => 0)) : nd_C)])[c]? = H10[c]? := fun c hc => List.getElem?_append_left (by rw [l10]; exact hc)
  have ab10 := (ak10 101 (by omega)).trans b10
  have an10 : (H10 ++ [(.inl (0, 18, .inl (fun _ => 0)) : nd_C)])[111]? = some (.inl (0, 18, .inl (fun _ => 0)) : nd_C) := by rw [← l10]; exact l_at_last
  refine nd_putF (ci := nX7) hC in_X7 rfl ab10 23 (by decide) tyX7 tyX7_ok (by decide +kernel) q2739 (fun _ z => z) rfl rfl rfl rfl rfl (by show 23 < 43; decide) dX7_init_90 ?_
  show nd_W _ _ _ _ _ _ _ _ _ _ ((H10 ++ [(.inl (0, 18, .inl (fun _ => 0)) : nd_C)]).set 101 (.inr (nX7, [.ref 102, .ref 103, .ref 104, .ref 105, .int 0, .ref 106, .int 0, .int 0, .int 0, .int 0, .int 0, .int 0, .int 0, .int 0, .int 0, .int (-1), .int 0, .int 0, .int 0, .ref 107, .ref 108, .ref 109, .ref 110, .ref 111, .int 0, .null, .null, .null, .int 0, .int 0, .int 0, .int 0, .int 0, .int 0, .int 0, .null, .null, .int 0, .null, .null, .null, .null, .null]) : nd_C)) _ _
  generalize e11 : (H10 ++ [(.inl (0, 18, .inl (fun _ => 0)) : nd_C)]).set 101 (.inr (nX7, [.ref 102, .ref 103, .ref 104, .ref 105, .int 0, .ref 106, .int 0, .int 0, .int 0, .int 0, .int 0, .int 0, .int 0, .int 0, .int 0, .int (-1), .int 0, .int 0, .int 0, .ref 107, .ref 108, .ref 109, .ref 110, .ref 111, .int 0, .null, .null, .null, .int 0, .int 0, .int 0, .int 0, .int 0, .int 0, .int 0, .null, .null, .int 0, .null, .null, .null, .null, .null]) : nd_C) = H11
  have l11 : H11.length = 112 := by rw [← e11, List.length_set]; exact al10
  have g11 : ∀ c, c ≠ 101 → H11[c]? = (H10 ++ [(.inl (0, 18, .inl (fun _ => 0)) : nd_C)])[c]? := fun c hc => by rw [← e11]; exact List.getElem?_set_ne (Ne.symm hc)
  have b11 : H11[101]? = some (.inr (nX7, [.ref 102, .ref 103, .ref 104, .ref 105, .int 0, .ref 106, .int 0, .int 0, .int 0, .int 0, .int 0, .int 0, .int 0, .int 0, .int 0, .int (-1), .int 0, .int 0, .int 0, .ref 107, .ref 108, .ref 109, .ref 110, .ref 111, .int 0, .null, .null, .null, .int 0, .int 0, .int 0, .int 0, .int 0, .int 0, .int 0, .null, .null, .int 0, .null, .null, .null, .null, .null]) : nd_C) := by rw [← e11]; exact List.getElem?_set_self (by rw [al10]; omega)
  have k11 : ∀ c, c ≠ 101 → c < 111 → H11[c]? = H10[c]? := fun c z1 z4 => (g11 c z1).trans (ak10 c z4)
  have f11 : H11[111]? = some (.inl (0, 18, .inl (fun _ => 0)) : nd_C) := (g11 111 (by omega)).trans an10
  refine nd_aload_n hC dX7_init_93 rfl rfl ?_
  refine nd_iconst hC (v := nI 5) (by rfl) dX7_init_94 ?_
  refine nd_newarray hC (atype := .int) (ty := 0) .int (.inl (fun _ => 0)) q322 rfl rfl (fun _ _ => rfl) (N := 5) rfl (by decide) (by decide) (by omega) (by omega) dX7_init_95 ?_
  rw [l11]
  have al11 : (H11 ++ [(.inl (0, 5, .inl (fun _ => 0)) : nd_C)]).length = 113 := by rw [List.length_append, l11]; rfl
  have ak11 : ∀ c, c < 112 → (H11 ++ [(.inl (0, 5, .inl (fun _ => 0)) : nd_C)])[c]? = H11[c]? := fun c hc => List.getElem?_append_left (by rw [l11]; exact hc)
  have ab11 := (ak11 101 (by omega)).trans b11
  have an11 : (H11 ++ [(.inl (0, 5, .inl (fun _ => 0)) : nd_C)])[112]? = some (.inl (0, 5, .inl (fun _ => 0)) : nd_C) := by rw [← l11]; exact l_at_last
  refine nd_putF (ci := nX7) hC in_X7 rfl ab11 25 (by decide) tyX7 tyX7_ok (by decide +kernel) q2741 (fun _ z => z) rfl rfl rfl rfl rfl (by show 25 < 43; decide) dX7_init_97 ?_
  show nd_W _ _ _ _ _ _ _ _ _ _ ((H11 ++ [(.inl (0, 5, .inl (fun _ => 0)) : nd_C)]).set 101 (.inr (nX7, [.ref 102, .ref 103, .ref 104, .ref 105, .int 0, .ref 106, .int 0, .int 0, .int 0, .int 0, .int 0, .int 0, .int 0, .int 0, .int 0, .int (-1), .int 0, .int 0, .int 0, .ref 107, .ref 108, .ref 109, .ref 110, .ref 111, .int 0, .ref 112, .null, .null, .int 0, .int 0, .int 0, .int 0, .int 0, .int 0, .int 0, .null, .null, .int 0, .null, .null, .null, .null, .null]) : nd_C)) _ _
  generalize e12 : (H11 ++ [(.inl (0, 5, .inl (fun _ => 0)) : nd_C)]).set 101 (.inr (nX7, [.ref 102, .ref 103, .ref 104, .ref 105, .int 0, .ref 106, .int 0, .int 0, .int 0, .int 0, .int 0, .int 0, .int 0, .int 0, .int 0, .int (-1), .int 0, .int 0, .int 0, .ref 107, .ref 108, .ref 109, .ref 110, .ref 111, .int 0, .ref 112, .null, .null, .int 0, .int 0, .int 0, .int 0, .int 0, .int 0, .int 0, .null, .null, .int 0, .null, .null, .null, .null, .null]) : nd_C) = H12
  have l12 : H12.length = 113 := by rw [← e12, List.length_set]; exact al11
  have g12 : ∀ c, c ≠ 101 → H12[c]? = (H11 ++ [(.inl (0, 5, .inl (fun _ => 0)) : nd_C)])[c]? := fun c hc => by rw [← e12]; exact List.getElem?_set_ne (Ne.symm hc)
  have b12 : H12[101]? = some (.inr (nX7, [.ref 102, .ref 103, .ref 104, .ref 105, .int 0, .ref 106, .int 0, .int 0, .int 0, .int 0, .int 0, .int 0, .int 0, .int 0, .int 0, .int (-1), .int 0, .int 0, .int 0, .ref 107, .ref 108, .ref 109, .ref 110, .ref 111, .int 0, .ref 112, .null, .null, .int 0, .int 0, .int 0, .int 0, .int 0, .int 0, .int 0, .null, .null, .int 0, .null, .null, .null, .null, .null]) : nd_C) := by rw [← e12]; exact List.getElem?_set_self (by rw [al11]; omega)
  have k12 : ∀ c, c ≠ 101 → c < 112 → H12[c]? = H11[c]? := fun c z1 z4 => (g12 c z1).trans (ak11 c z4)
  have f12 : H12[112]? = some (.inl (0, 5, .inl (fun _ => 0)) : nd_C) := (g12 112 (by omega)).trans an11
  refine nd_aload_n hC dX7_init_100 rfl rfl ?_
  refine nd_iconst hC (v := nI 5) (by rfl) dX7_init_101 ?_
  refine nd_newarray hC (atype := .int) (ty := 0) .int (.inl (fun _ => 0)) q322 rfl rfl (fun _ _ => rfl) (N := 5) rfl (by decide) (by decide) (by omega) (by omega) dX7_init_102 ?_
  rw [l12]
  have al12 : (H12 ++ [(.inl (0, 5, .inl (fun _ => 0)) : nd_C)]).length = 114 := by rw [List.length_append, l12]; rfl
  have ak12 : ∀ c, c < 113 → (H12 ++ [(.inl (0, 5, .inl (fun _ => 0)) : nd_C)])[c]? = H12[c]? := fun c hc => List.getElem?_append_left (by rw [l12]; exact hc)
  have ab12 := (ak12 101 (by omega)).trans b12
  have an12 : (H12 ++ [(.inl (0, 5, .inl (fun _ => 0)) : nd_C)])[113]? = some (.inl (0, 5, .inl (fun _ => 0)) : nd_C) := by rw [← l12]; exact l_at_last
  refine nd_putF (ci := nX7) hC in_X7 rfl ab12 26 (by decide) tyX7 tyX7_ok (by decide +kernel) q2742 (fun _ z => z) rfl rfl rfl rfl rfl (by show 26 < 43; decide) dX7_init_104 ?_
  show nd_W _ _ _ _ _ _ _ _ _ _ ((H12 ++ [(.inl (0, 5, .inl (fun _ => 0)) : nd_C)]).set 101 (.inr (nX7, [.ref 102, .ref 103, .ref 104, .ref 105, .int 0, .ref 106, .int 0, .int 0, .int 0, .int 0, .int 0, .int 0, .int 0, .int 0, .int 0, .int (-1), .int 0, .int 0, .int 0, .ref 107, .ref 108, .ref 109, .ref 110, .ref 111, .int 0, .ref 112, .ref 113, .null, .int 0, .int 0, .int 0, .int 0, .int 0, .int 0, .int 0, .null, .null, .int 0, .null, .null, .null, .null, .null]) : nd_C)) _ _
  generalize e13 : (H12 ++ [(.inl (0, 5, .inl (fun _ => 0)) : nd_C)]).set 101 (.inr (nX7, [.ref 102, .ref 103, .ref 104, .ref 105, .int 0, .ref 106, .int 0, .int 0, .int 0, .int 0, .int 0, .int 0, .int 0, .int 0, .int 0, .int (-1), .int 0, .int 0, .int 0, .ref 107, .ref 108, .ref 109, .ref 110, .ref 111, .int 0, .ref 112, .ref 113, .null, .int 0, .int 0, .int 0, .int 0, .int 0, .int 0, .int 0, .null, .null, .int 0, .null, .null, .null, .null, .null]) : nd_C) = H13
  have l13 : H13.length = 114 := by rw [← e13, List.length_set]; exact al12
  have g13 : ∀ c, c ≠ 101 → H13[c]? = (H12 ++ [(.inl (0, 5, .inl (fun _ => 0)) : nd_C)])[c]? := fun c hc => by rw [← e13]; exact List.getElem?_set_ne (Ne.symm hc)
  have b13 : H13[101]? = some (.inr (nX7, [.ref 102, .ref 103, .ref 104, .ref 105, .int 0, .ref 106, .int 0, .int 0, .int 0, .int 0, .int 0, .int 0, .int 0, .int 0, .int 0, .int (-1), .int 0, .int 0, .int 0, .ref 107, .ref 108, .ref 109, .ref 110, .ref 111, .int 0, .ref 112, .ref 113, .null, .int 0, .int 0, .int 0, .int 0, .int 0, .int 0, .int 0, .null, .null, .int 0, .null, .null, .null, .null, .null]) : nd_C) := by rw [← e13]; exact List.getElem?_set_self (by rw [al12]; omega)
  have k13 : ∀ c, c ≠ 101 → c < 113 → H13[c]? = H12[c]? := fun c z1 z4 => (g13 c z1).trans (ak12 c z4)
  have f13 : H13[113]? = some (.inl (0, 5, .inl (fun _ => 0)) : nd_C) := (g13 113 (by omega)).trans an12
  refine nd_aload_n hC dX7_init_107 rfl rfl ?_
  refine nd_iconst hC (v := nI 4) (by rfl) dX7_init_108 ?_
  refine nd_newarray hC (atype := .int) (ty := 0) .int (.inl (fun _ => 0)) q322 rfl rfl (fun _ _ => rfl) (N := 4) rfl (by decide) (by decide) (by omega) (by omega) dX7_init_109 ?_
  rw [l13]
  have al13 : (H13 ++ [(.inl (0, 4, .inl (fun _ => 0)) : nd_C)]).length = 115 := by rw [List.length_append, l13]; rfl
  have ak13 : ∀ c, c < 114 → (H13 ++ [(.inl (0, 4, .inl (fun _ => 0)) : nd_C)])[c]? = H13[c]? := fun c hc => List.getElem?_append_left (by rw [l13]; exact hc)
  have ab13 := (ak13 101 (by omega)).trans b13
  have an13 : (H13 ++ [(.inl (0, 4, .inl (fun _ => 0)) : nd_C)])[114]? = some (.inl (0, 4, .inl (fun _ => 0)) : nd_C) := by rw [← l13]; exact l_at_last
  refine nd_putF (ci := nX7) hC in_X7 rfl ab13 27 (by decide) tyX7 tyX7_ok (by decide +kernel) q2743 (fun _ z => z) rfl rfl rfl rfl rfl (by show 27 < 43; decide) dX7_init_111 ?_
  show nd_W _ _ _ _ _ _ _ _ _ _ ((H13 ++ [(.inl (0, 4, .inl (fun _ => 0)) : nd_C)]).set 101 (.inr (nX7, [.ref 102, .ref 103, .ref 104, .ref 105, .int 0, .ref 106, .int 0, .int 0, .int 0, .int 0, .int 0, .int 0, .int 0, .int 0, .int 0, .int (-1), .int 0, .int 0, .int 0, .ref 107, .ref 108, .ref 109, .ref 110, .ref 111, .int 0, .ref 112, .ref 113, .ref 114, .int 0, .int 0, .int 0, .int 0, .int 0, .int 0, .int 0, .null, .null, .int 0, .null, .null, .null, .null, .null]) : nd_C)) _ _
  generalize e14 : (H13 ++ [(.inl (0, 4, .inl (fun _ => 0)) : nd_C)]).set 101 (.inr (nX7, [.ref 102, .ref 103, .ref 104, .ref 105, .int 0, .ref 106, .int 0, .int 0, .int 0, .int 0, .int 0, .int 0, .int 0, .int 0, .int 0, .int (-1), .int 0, .int 0, .int 0, .ref 107, .ref 108, .ref 109, .ref 110, .ref 111, .int 0, .ref 112, .ref 113, .ref 114, .int 0, .int 0, .int 0, .int 0, .int 0, .int 0, .int 0, .null, .null, .int 0, .null, .null, .null, .null, .null]) : nd_C) = H14
  have l14 : H14.length = 115 := by rw [← e14, List.length_set]; exact al13
  have g14 : ∀ c, c ≠ 101 → H14[c]? = (H13 ++ [(.inl (0, 4, .inl (fun _ => 0)) : nd_C)])[c]? := fun c hc => by rw [← e14]; exact List.getElem?_set_ne (Ne.symm hc)
  have b14 : H14[101]? = some (.inr (nX7, [.ref 102, .ref 103, .ref 104, .ref 105, .int 0, .ref 106, .int 0, .int 0, .int 0, .int 0, .int 0, .int 0, .int 0, .int 0, .int 0, .int (-1), .int 0, .int 0, .int 0, .ref 107, .ref 108, .ref 109, .ref 110, .ref 111, .int 0, .ref 112, .ref 113, .ref 114, .int 0, .int 0, .int 0, .int 0, .int 0, .int 0, .int 0, .null, .null, .int 0, .null, .null, .null, .null, .null]) : nd_C) := by rw [← e14]; exact List.getElem?_set_self (by rw [al13]; omega)
  have k14 : ∀ c, c ≠ 101 → c < 114 → H14[c]? = H13[c]? := fun c z1 z4 => (g14 c z1).trans (ak13 c z4)
  have f14 : H14[114]? = some (.inl (0, 4, .inl (fun _ => 0)) : nd_C) := (g14 114 (by omega)).trans an13
  refine nd_aload_n hC dX7_init_114 rfl rfl ?_
  refine nd_ldcI hC q2715 dX7_init_115 ?_
  refine nd_v_eq (y := .int (nI 65536)) (by rfl) ?_
  refine nd_newarray hC (atype := .long) (ty := 1) .long (.inr (.inl (fun _ => 0))) q427 rfl rfl (fun _ _ => rfl) (N := 65536) rfl (nI_toInt (by omega)) (by decide) (by omega) (by omega) dX7_init_117 ?_
  rw [l14]
  have al14 : (H14 ++ [(.inl (1, 65536, .inr (.inl (fun _ => 0))) : nd_C)]).length = 116 := by rw [List.length_append, l14]; rfl
  have ak14 : ∀ c, c < 115 → (H14 ++ [(.inl (1, 65536, .inr (.inl (fun _ => 0))) : nd_C)])[c]? = H14[c]? := fun c hc => List.getElem?_append_left (by rw [l14]; exact hc)
  have ab14 := (ak14 101 (by omega)).trans b14
  have an14 : (H14 ++ [(.inl (1, 65536, .inr (.inl (fun _ => 0))) : nd_C)])[115]? = some (.inl (1, 65536, .inr (.inl (fun _ => 0))) : nd_C) := by rw [← l14]; exact l_at_last
  refine nd_putF (ci := nX7) hC in_X7 rfl ab14 35 (by decide) tyX7 tyX7_ok (by decide +kernel) q2751 (fun _ z => z) rfl rfl rfl rfl rfl (by show 35 < 43; decide) dX7_init_119 ?_
  show nd_W _ _ _ _ _ _ _ _ _ _ ((H14 ++ [(.inl (1, 65536, .inr (.inl (fun _ => 0))) : nd_C)]).set 101 (.inr (nX7, [.ref 102, .ref 103, .ref 104, .ref 105, .int 0, .ref 106, .int 0, .int 0, .int 0, .int 0, .int 0, .int 0, .int 0, .int 0, .int 0, .int (-1), .int 0, .int 0, .int 0, .ref 107, .ref 108, .ref 109, .ref 110, .ref 111, .int 0, .ref 112, .ref 113, .ref 114, .int 0, .int 0, .int 0, .int 0, .int 0, .int 0, .int 0, .ref 115, .null, .int 0, .null, .null, .null, .null, .null]) : nd_C)) _ _
  generalize e15 : (H14 ++ [(.inl (1, 65536, .inr (.inl (fun _ => 0))) : nd_C)]).set 101 (.inr (nX7, [.ref 102, .ref 103, .ref 104, .ref 105, .int 0, .ref 106, .int 0, .int 0, .int 0, .int 0, .int 0, .int 0, .int 0, .int 0, .int 0, .int (-1), .int 0, .int 0, .int 0, .ref 107, .ref 108, .ref 109, .ref 110, .ref 111, .int 0, .ref 112, .ref 113, .ref 114, .int 0, .int 0, .int 0, .int 0, .int 0, .int 0, .int 0, .ref 115, .null, .int 0, .null, .null, .null, .null, .null]) : nd_C) = H15
  have l15 : H15.length = 116 := by rw [← e15, List.length_set]; exact al14
  have g15 : ∀ c, c ≠ 101 → H15[c]? = (H14 ++ [(.inl (1, 65536, .inr (.inl (fun _ => 0))) : nd_C)])[c]? := fun c hc => by rw [← e15]; exact List.getElem?_set_ne (Ne.symm hc)
  have b15 : H15[101]? = some (.inr (nX7, [.ref 102, .ref 103, .ref 104, .ref 105, .int 0, .ref 106, .int 0, .int 0, .int 0, .int 0, .int 0, .int 0, .int 0, .int 0, .int 0, .int (-1), .int 0, .int 0, .int 0, .ref 107, .ref 108, .ref 109, .ref 110, .ref 111, .int 0, .ref 112, .ref 113, .ref 114, .int 0, .int 0, .int 0, .int 0, .int 0, .int 0, .int 0, .ref 115, .null, .int 0, .null, .null, .null, .null, .null]) : nd_C) := by rw [← e15]; exact List.getElem?_set_self (by rw [al14]; omega)
  have k15 : ∀ c, c ≠ 101 → c < 115 → H15[c]? = H14[c]? := fun c z1 z4 => (g15 c z1).trans (ak14 c z4)
  have f15 : H15[115]? = some (.inl (1, 65536, .inr (.inl (fun _ => 0))) : nd_C) := (g15 115 (by omega)).trans an14
  refine nd_aload_n hC dX7_init_122 rfl rfl ?_
  refine nd_ldcI hC q2715 dX7_init_123 ?_
  refine nd_v_eq (y := .int (nI 65536)) (by rfl) ?_
  refine nd_newarray hC (atype := .int) (ty := 0) .int (.inl (fun _ => 0)) q322 rfl rfl (fun _ _ => rfl) (N := 65536) rfl (nI_toInt (by omega)) (by decide) (by omega) (by omega) dX7_init_125 ?_
  rw [l15]
  have al15 : (H15 ++ [(.inl (0, 65536, .inl (fun _ => 0)) : nd_C)]).length = 117 := by rw [List.length_append, l15]; rfl
  have ak15 : ∀ c, c < 116 → (H15 ++ [(.inl (0, 65536, .inl (fun _ => 0)) : nd_C)])[c]? = H15[c]? := fun c hc => List.getElem?_append_left (by rw [l15]; exact hc)
  have ab15 := (ak15 101 (by omega)).trans b15
  have an15 : (H15 ++ [(.inl (0, 65536, .inl (fun _ => 0)) : nd_C)])[116]? = some (.inl (0, 65536, .inl (fun _ => 0)) : nd_C) := by rw [← l15]; exact l_at_last
  refine nd_putF (ci := nX7) hC in_X7 rfl ab15 36 (by decide) tyX7 tyX7_ok (by decide +kernel) q2752 (fun _ z => z) rfl rfl rfl rfl rfl (by show 36 < 43; decide) dX7_init_127 ?_
  show nd_W _ _ _ _ _ _ _ _ _ _ ((H15 ++ [(.inl (0, 65536, .inl (fun _ => 0)) : nd_C)]).set 101 (.inr (nX7, [.ref 102, .ref 103, .ref 104, .ref 105, .int 0, .ref 106, .int 0, .int 0, .int 0, .int 0, .int 0, .int 0, .int 0, .int 0, .int 0, .int (-1), .int 0, .int 0, .int 0, .ref 107, .ref 108, .ref 109, .ref 110, .ref 111, .int 0, .ref 112, .ref 113, .ref 114, .int 0, .int 0, .int 0, .int 0, .int 0, .int 0, .int 0, .ref 115, .ref 116, .int 0, .null, .null, .null, .null, .null]) : nd_C)) _ _
  generalize e16 : (H15 ++ [(.inl (0, 65536, .inl (fun _ => 0)) : nd_C)]).set 101 (.inr (nX7, [.ref 102, .ref 103, .ref 104, .ref 105, .int 0, .ref 106, .int 0, .int 0, .int 0, .int 0, .int 0, .int 0, .int 0, .int 0, .int 0, .int (-1), .int 0, .int 0, .int 0, .ref 107, .ref 108, .ref 109, .ref 110, .ref 111, .int 0, .ref 112, .ref 113, .ref 114, .int 0, .int 0, .int 0, .int 0, .int 0, .int 0, .int 0, .ref 115, .ref 116, .int 0, .null, .null, .null, .null, .null]) : nd_C) = H16
  have l16 : H16.length = 117 := by rw [← e16, List.length_set]; exact al15
  have g16 : ∀ c, c ≠ 101 → H16[c]? = (H15 ++ [(.inl (0, 65536, .inl (fun _ => 0)) : nd_C)])[c]? := fun c hc => by rw [← e16]; exact List.getElem?_set_ne (Ne.symm hc)
  have b16 : H16[101]? = some (.inr (nX7, [.ref 102, .ref 103, .ref 104, .ref 105, .int 0, .ref 106, .int 0, .int 0, .int 0, .int 0, .int 0, .int 0, .int 0, .int 0, .int 0, .int (-1), .int 0, .int 0, .int 0, .ref 107, .ref 108, .ref 109, .ref 110, .ref 111, .int 0, .ref 112, .ref 113, .ref 114, .int 0, .int 0, .int 0, .int 0, .int 0, .int 0, .int 0, .ref 115, .ref 116, .int 0, .null, .null, .null, .null, .null]) : nd_C) := by rw [← e16]; exact List.getElem?_set_self (by rw [al15]; omega)
  have k16 : ∀ c, c ≠ 101 → c < 116 → H16[c]? = H15[c]? := fun c z1 z4 => (g16 c z1).trans (ak15 c z4)
  have f16 : H16[116]? = some (.inl (0, 65536, .inl (fun _ => 0)) : nd_C) := (g16 116 (by omega)).trans an15
  refine nd_aload_n hC dX7_init_130 rfl rfl ?_
  refine nd_bipush hC (v := nI 6) (by rfl) dX7_init_131 ?_
  refine nd_newarray hC (atype := .int) (ty := 0) .int (.inl (fun _ => 0)) q322 rfl rfl (fun _ _ => rfl) (N := 6) rfl (by decide) (by decide) (by omega) (by omega) dX7_init_133 ?_
  rw [l16]
  have al16 : (H16 ++ [(.inl (0, 6, .inl (fun _ => 0)) : nd_C)]).length = 118 := by rw [List.length_append, l16]; rfl
  have ak16 : ∀ c, c < 117 → (H16 ++ [(.inl (0, 6, .inl (fun _ => 0)) : nd_C)])[c]? = H16[c]? := fun c hc => List.getElem?_append_left (by rw [l16]; exact hc)
  have ab16 := (ak16 101 (by omega)).trans b16
  have an16 : (H16 ++ [(.inl (0, 6, .inl (fun _ => 0)) : nd_C)])[117]? = some (.inl (0, 6, .inl (fun _ => 0)) : nd_C) := by rw [← l16]; exact l_at_last
  refine nd_putF (ci := nX7) hC in_X7 rfl ab16 38 (by decide) tyX7 tyX7_ok (by decide +kernel) q2754 (fun _ z => z) rfl rfl rfl rfl rfl (by show 38 < 43; decide) dX7_init_135 ?_
  show nd_W _ _ _ _ _ _ _ _ _ _ ((H16 ++ [(.inl (0, 6, .inl (fun _ => 0)) : nd_C)]).set 101 (.inr (nX7, [.ref 102, .ref 103, .ref 104, .ref 105, .int 0, .ref 106, .int 0, .int 0, .int 0, .int 0, .int 0, .int 0, .int 0, .int 0, .int 0, .int (-1), .int 0, .int 0, .int 0, .ref 107, .ref 108, .ref 109, .ref 110, .ref 111, .int 0, .ref 112, .ref 113, .ref 114, .int 0, .int 0, .int 0, .int 0, .int 0, .int 0, .int 0, .ref 115, .ref 116, .int 0, .ref 117, .null, .null, .null, .null]) : nd_C)) _ _
  generalize e17 : (H16 ++ [(.inl (0, 6, .inl (fun _ => 0)) : nd_C)]).set 101 (.inr (nX7, [.ref 102, .ref 103, .ref 104, .ref 105, .int 0, .ref 106, .int 0, .int 0, .int 0, .int 0, .int 0, .int 0, .int 0, .int 0, .int 0, .int (-1), .int 0, .int 0, .int 0, .ref 107, .ref 108, .ref 109, .ref 110, .ref 111, .int 0, .ref 112, .ref 113, .ref 114, .int 0, .int 0, .int 0, .int 0, .int 0, .int 0, .int 0, .ref 115, .ref 116, .int 0, .ref 117, .null, .null, .null, .null]) : nd_C) = H17
  have l17 : H17.length = 118 := by rw [← e17, List.length_set]; exact al16
  have g17 : ∀ c, c ≠ 101 → H17[c]? = (H16 ++ [(.inl (0, 6, .inl (fun _ => 0)) : nd_C)])[c]? := fun c hc => by rw [← e17]; exact List.getElem?_set_ne (Ne.symm hc)
  have b17 : H17[101]? = some (.inr (nX7, [.ref 102, .ref 103, .ref 104, .ref 105, .int 0, .ref 106, .int 0, .int 0, .int 0, .int 0, .int 0, .int 0, .int 0, .int 0, .int 0, .int (-1), .int 0, .int 0, .int 0, .ref 107, .ref 108, .ref 109, .ref 110, .ref 111, .int 0, .ref 112, .ref 113, .ref 114, .int 0, .int 0, .int 0, .int 0, .int 0, .int 0, .int 0, .ref 115, .ref 116, .int 0, .ref 117, .null, .null, .null, .null]) : nd_C) := by rw [← e17]; exact List.getElem?_set_self (by rw [al16]; omega)
  have k17 : ∀ c, c ≠ 101 → c < 117 → H17[c]? = H16[c]? := fun c z1 z4 => (g17 c z1).trans (ak16 c z4)
  have f17 : H17[117]? = some (.inl (0, 6, .inl (fun _ => 0)) : nd_C) := (g17 117 (by omega)).trans an16
  refine nd_aload_n hC dX7_init_138 rfl rfl ?_
  refine nd_sipush hC (v := nI 600) (by rfl) dX7_init_139 ?_
  refine nd_newarray hC (atype := .int) (ty := 0) .int (.inl (fun _ => 0)) q322 rfl rfl (fun _ _ => rfl) (N := 600) rfl (nI_toInt (by omega)) (by decide) (by omega) (by omega) dX7_init_142 ?_
  rw [l17]
  have al17 : (H17 ++ [(.inl (0, 600, .inl (fun _ => 0)) : nd_C)]).length = 119 := by rw [List.length_append, l17]; rfl
  have ak17 : ∀ c, c < 118 → (H17 ++ [(.inl (0, 600, .inl (fun _ => 0)) : nd_C)])[c]? = H17[c]? := fun c hc => List.getElem?_append_left (by rw [l17]; exact hc)
  have ab17 := (ak17 101 (by omega)).trans b17
  have an17 : (H17 ++ [(.inl (0, 600, .inl (fun _ => 0)) : nd_C)])[118]? = some (.inl (0, 600, .inl (fun _ => 0)) : nd_C) := by rw [← l17]; exact l_at_last
  refine nd_putF (ci := nX7) hC in_X7 rfl ab17 39 (by decide) tyX7 tyX7_ok (by decide +kernel) q2755 (fun _ z => z) rfl rfl rfl rfl rfl (by show 39 < 43; decide) dX7_init_144 ?_
  show nd_W _ _ _ _ _ _ _ _ _ _ ((H17 ++ [(.inl (0, 600, .inl (fun _ => 0)) : nd_C)]).set 101 (.inr (nX7, [.ref 102, .ref 103, .ref 104, .ref 105, .int 0, .ref 106, .int 0, .int 0, .int 0, .int 0, .int 0, .int 0, .int 0, .int 0, .int 0, .int (-1), .int 0, .int 0, .int 0, .ref 107, .ref 108, .ref 109, .ref 110, .ref 111, .int 0, .ref 112, .ref 113, .ref 114, .int 0, .int 0, .int 0, .int 0, .int 0, .int 0, .int 0, .ref 115, .ref 116, .int 0, .ref 117, .ref 118, .null, .null, .null]) : nd_C)) _ _
  generalize e18 : (H17 ++ [(.inl (0, 600, .inl (fun _ => 0)) : nd_C)]).set 101 (.inr (nX7, [.ref 102, .ref 103, .ref 104, .ref 105, .int 0, .ref 106, .int 0, .int 0, .int 0, .int 0, .int 0, .int 0, .int 0, .int 0, .int 0, .int (-1), .int 0, .int 0, .int 0, .ref 107, .ref 108, .ref 109, .ref 110, .ref 111, .int 0, .ref 112, .ref 113, .ref 114, .int 0, .int 0, .int 0, .int 0, .int 0, .int 0, .int 0, .ref 115, .ref 116, .int 0, .ref 117, .ref 118, .null, .null, .null]) : nd_C) = H18
  have l18 : H18.length = 119 := by rw [← e18, List.length_set]; exact al17
  have g18 : ∀ c, c ≠ 101 → H18[c]? = (H17 ++ [(.inl (0, 600, .inl (fun _ => 0)) : nd_C)])[c]? := fun c hc => by rw [← e18]; exact List.getElem?_set_ne (Ne.symm hc)
  have b18 : H18[101]? = some (.inr (nX7, [.ref 102, .ref 103, .ref 104, .ref 105, .int 0, .ref 106, .int 0, .int 0, .int 0, .int 0, .int 0, .int 0, .int 0, .int 0, .int 0, .int (-1), .int 0, .int 0, .int 0, .ref 107, .ref 108, .ref 109, .ref 110, .ref 111, .int 0, .ref 112, .ref 113, .ref 114, .int 0, .int 0, .int 0, .int 0, .int 0, .int 0, .int 0, .ref 115, .ref 116, .int 0, .ref 117, .ref 118, .null, .null, .null]) : nd_C) := by rw [← e18]; exact List.getElem?_set_self (by rw [al17]; omega)
  have k18 : ∀ c, c ≠ 101 → c < 118 → H18[c]? = H17[c]? := fun c z1 z4 => (g18 c z1).trans (ak17 c z4)
  have f18 : H18[118]? = some (.inl (0, 600, .inl (fun _ => 0)) : nd_C) := (g18 118 (by omega)).trans an17
  refine nd_aload_n hC dX7_init_147 rfl rfl ?_
  refine nd_iconst hC (v := nI 4) (by rfl) dX7_init_148 ?_
  refine nd_newarray hC (atype := .int) (ty := 0) .int (.inl (fun _ => 0)) q322 rfl rfl (fun _ _ => rfl) (N := 4) rfl (by decide) (by decide) (by omega) (by omega) dX7_init_149 ?_
  rw [l18]
  refine nd_dup hC (by rfl) dX7_init_151 ?_
  refine nd_iconst hC (v := nI 0) (by rfl) dX7_init_152 ?_
  refine nd_iconst hC (v := -1) (by rfl) dX7_init_153 ?_
  refine nd_iastoreN (j := 0) (n := 4) hC (by rw [← l18]; exact l_at_last) (by omega) (by omega) dX7_init_154 ?_
  rw [show (H18 ++ [(.inl (0, 4, .inl (fun _ => 0)) : nd_C)]).set 119 (.inl (0, 4, .inl (upd (fun _ => 0) 0 (-1)))) = H18 ++ [(.inl (0, 4, .inl (upd (fun _ => 0) 0 (-1))) : nd_C)] from by rw [← l18]; exact l_set_last]
  refine nd_dup hC (by rfl) dX7_init_155 ?_
  refine nd_iconst hC (v := nI 1) (by rfl) dX7_init_156 ?_
  refine nd_iconst hC (v := -1) (by rfl) dX7_init_157 ?_
  refine nd_iastoreN (j := 1) (n := 4) hC (by rw [← l18]; exact l_at_last) (by omega) (by omega) dX7_init_158 ?_
  rw [show (H18 ++ [(.inl (0, 4, .inl (upd (fun _ => 0) 0 (-1))) : nd_C)]).set 119 (.inl (0, 4, .inl (upd (upd (fun _ => 0) 0 (-1)) 1 (-1)))) = H18 ++ [(.inl (0, 4, .inl (upd (upd (fun _ => 0) 0 (-1)) 1 (-1))) : nd_C)] from by rw [← l18]; exact l_set_last]
  refine nd_dup hC (by rfl) dX7_init_159 ?_
  refine nd_iconst hC (v := nI 2) (by rfl) dX7_init_160 ?_
  refine nd_iconst hC (v := -1) (by rfl) dX7_init_161 ?_
  refine nd_iastoreN (j := 2) (n := 4) hC (by rw [← l18]; exact l_at_last) (by omega) (by omega) dX7_init_162 ?_
  rw [show (H18 ++ [(.inl (0, 4, .inl (upd (upd (fun _ => 0) 0 (-1)) 1 (-1))) : nd_C)]).set 119 (.inl (0, 4, .inl (upd (upd (upd (fun _ => 0) 0 (-1)) 1 (-1)) 2 (-1)))) = H18 ++ [(.inl (0, 4, .inl (upd (upd (upd (fun _ => 0) 0 (-1)) 1 (-1)) 2 (-1))) : nd_C)] from by rw [← l18]; exact l_set_last]
  refine nd_dup hC (by rfl) dX7_init_163 ?_
  refine nd_iconst hC (v := nI 3) (by rfl) dX7_init_164 ?_
  refine nd_iconst hC (v := -1) (by rfl) dX7_init_165 ?_
  refine nd_iastoreN (j := 3) (n := 4) hC (by rw [← l18]; exact l_at_last) (by omega) (by omega) dX7_init_166 ?_
  rw [show (H18 ++ [(.inl (0, 4, .inl (upd (upd (upd (fun _ => 0) 0 (-1)) 1 (-1)) 2 (-1))) : nd_C)]).set 119 (.inl (0, 4, .inl (upd (upd (upd (upd (fun _ => 0) 0 (-1)) 1 (-1)) 2 (-1)) 3 (-1)))) = H18 ++ [(.inl (0, 4, .inl (upd (upd (upd (upd (fun _ => 0) 0 (-1)) 1 (-1)) 2 (-1)) 3 (-1))) : nd_C)] from by rw [← l18]; exact l_set_last]
  generalize eTS : (upd (upd (upd (upd (fun _ => 0) 0 (-1)) 1 (-1)) 2 (-1)) 3 (-1)) = tS
  have hTS : ∀ t, t < 4 → tS t = -1 := fun t ht => by
    rw [← eTS]
    match t, ht with
    | 0, _ => rfl
    | 1, _ => rfl
    | 2, _ => rfl
    | 3, _ => rfl
  have al18 : (H18 ++ [(.inl (0, 4, .inl tS) : nd_C)]).length = 120 := by rw [List.length_append, l18]; rfl
  have ak18 : ∀ c, c < 119 → (H18 ++ [(.inl (0, 4, .inl tS) : nd_C)])[c]? = H18[c]? := fun c hc => List.getElem?_append_left (by rw [l18]; exact hc)
  have ab18 := (ak18 101 (by omega)).trans b18
  have an18 : (H18 ++ [(.inl (0, 4, .inl tS) : nd_C)])[119]? = some (.inl (0, 4, .inl tS) : nd_C) := by rw [← l18]; exact l_at_last
  refine nd_putF (ci := nX7) hC in_X7 rfl ab18 40 (by decide) tyX7 tyX7_ok (by decide +kernel) q2756 (fun _ z => z) rfl rfl rfl rfl rfl (by show 40 < 43; decide) dX7_init_167 ?_
  show nd_W _ _ _ _ _ _ _ _ _ _ ((H18 ++ [(.inl (0, 4, .inl tS) : nd_C)]).set 101 (.inr (nX7, [.ref 102, .ref 103, .ref 104, .ref 105, .int 0, .ref 106, .int 0, .int 0, .int 0, .int 0, .int 0, .int 0, .int 0, .int 0, .int 0, .int (-1), .int 0, .int 0, .int 0, .ref 107, .ref 108, .ref 109, .ref 110, .ref 111, .int 0, .ref 112, .ref 113, .ref 114, .int 0, .int 0, .int 0, .int 0, .int 0, .int 0, .int 0, .ref 115, .ref 116, .int 0, .ref 117, .ref 118, .ref 119, .null, .null]) : nd_C)) _ _
  generalize e19 : (H18 ++ [(.inl (0, 4, .inl tS) : nd_C)]).set 101 (.inr (nX7, [.ref 102, .ref 103, .ref 104, .ref 105, .int 0, .ref 106, .int 0, .int 0, .int 0, .int 0, .int 0, .int 0, .int 0, .int 0, .int 0, .int (-1), .int 0, .int 0, .int 0, .ref 107, .ref 108, .ref 109, .ref 110, .ref 111, .int 0, .ref 112, .ref 113, .ref 114, .int 0, .int 0, .int 0, .int 0, .int 0, .int 0, .int 0, .ref 115, .ref 116, .int 0, .ref 117, .ref 118, .ref 119, .null, .null]) : nd_C) = H19
  have l19 : H19.length = 120 := by rw [← e19, List.length_set]; exact al18
  have g19 : ∀ c, c ≠ 101 → H19[c]? = (H18 ++ [(.inl (0, 4, .inl tS) : nd_C)])[c]? := fun c hc => by rw [← e19]; exact List.getElem?_set_ne (Ne.symm hc)
  have b19 : H19[101]? = some (.inr (nX7, [.ref 102, .ref 103, .ref 104, .ref 105, .int 0, .ref 106, .int 0, .int 0, .int 0, .int 0, .int 0, .int 0, .int 0, .int 0, .int 0, .int (-1), .int 0, .int 0, .int 0, .ref 107, .ref 108, .ref 109, .ref 110, .ref 111, .int 0, .ref 112, .ref 113, .ref 114, .int 0, .int 0, .int 0, .int 0, .int 0, .int 0, .int 0, .ref 115, .ref 116, .int 0, .ref 117, .ref 118, .ref 119, .null, .null]) : nd_C) := by rw [← e19]; exact List.getElem?_set_self (by rw [al18]; omega)
  have k19 : ∀ c, c ≠ 101 → c < 119 → H19[c]? = H18[c]? := fun c z1 z4 => (g19 c z1).trans (ak18 c z4)
  have f19 : H19[119]? = some (.inl (0, 4, .inl tS) : nd_C) := (g19 119 (by omega)).trans an18
  refine nd_aload_n hC dX7_init_170 rfl rfl ?_
  refine nd_iconst hC (v := nI 4) (by rfl) dX7_init_171 ?_
  refine nd_newarray hC (atype := .int) (ty := 0) .int (.inl (fun _ => 0)) q322 rfl rfl (fun _ _ => rfl) (N := 4) rfl (by decide) (by decide) (by omega) (by omega) dX7_init_172 ?_
  rw [l19]
  have al19 : (H19 ++ [(.inl (0, 4, .inl (fun _ => 0)) : nd_C)]).length = 121 := by rw [List.length_append, l19]; rfl
  have ak19 : ∀ c, c < 120 → (H19 ++ [(.inl (0, 4, .inl (fun _ => 0)) : nd_C)])[c]? = H19[c]? := fun c hc => List.getElem?_append_left (by rw [l19]; exact hc)
  have ab19 := (ak19 101 (by omega)).trans b19
  have an19 : (H19 ++ [(.inl (0, 4, .inl (fun _ => 0)) : nd_C)])[120]? = some (.inl (0, 4, .inl (fun _ => 0)) : nd_C) := by rw [← l19]; exact l_at_last
  refine nd_putF (ci := nX7) hC in_X7 rfl ab19 41 (by decide) tyX7 tyX7_ok (by decide +kernel) q2757 (fun _ z => z) rfl rfl rfl rfl rfl (by show 41 < 43; decide) dX7_init_174 ?_
  show nd_W _ _ _ _ _ _ _ _ _ _ ((H19 ++ [(.inl (0, 4, .inl (fun _ => 0)) : nd_C)]).set 101 (.inr (nX7, [.ref 102, .ref 103, .ref 104, .ref 105, .int 0, .ref 106, .int 0, .int 0, .int 0, .int 0, .int 0, .int 0, .int 0, .int 0, .int 0, .int (-1), .int 0, .int 0, .int 0, .ref 107, .ref 108, .ref 109, .ref 110, .ref 111, .int 0, .ref 112, .ref 113, .ref 114, .int 0, .int 0, .int 0, .int 0, .int 0, .int 0, .int 0, .ref 115, .ref 116, .int 0, .ref 117, .ref 118, .ref 119, .ref 120, .null]) : nd_C)) _ _
  generalize e20 : (H19 ++ [(.inl (0, 4, .inl (fun _ => 0)) : nd_C)]).set 101 (.inr (nX7, [.ref 102, .ref 103, .ref 104, .ref 105, .int 0, .ref 106, .int 0, .int 0, .int 0, .int 0, .int 0, .int 0, .int 0, .int 0, .int 0, .int (-1), .int 0, .int 0, .int 0, .ref 107, .ref 108, .ref 109, .ref 110, .ref 111, .int 0, .ref 112, .ref 113, .ref 114, .int 0, .int 0, .int 0, .int 0, .int 0, .int 0, .int 0, .ref 115, .ref 116, .int 0, .ref 117, .ref 118, .ref 119, .ref 120, .null]) : nd_C) = H20
  have l20 : H20.length = 121 := by rw [← e20, List.length_set]; exact al19
  have g20 : ∀ c, c ≠ 101 → H20[c]? = (H19 ++ [(.inl (0, 4, .inl (fun _ => 0)) : nd_C)])[c]? := fun c hc => by rw [← e20]; exact List.getElem?_set_ne (Ne.symm hc)
  have b20 : H20[101]? = some (.inr (nX7, [.ref 102, .ref 103, .ref 104, .ref 105, .int 0, .ref 106, .int 0, .int 0, .int 0, .int 0, .int 0, .int 0, .int 0, .int 0, .int 0, .int (-1), .int 0, .int 0, .int 0, .ref 107, .ref 108, .ref 109, .ref 110, .ref 111, .int 0, .ref 112, .ref 113, .ref 114, .int 0, .int 0, .int 0, .int 0, .int 0, .int 0, .int 0, .ref 115, .ref 116, .int 0, .ref 117, .ref 118, .ref 119, .ref 120, .null]) : nd_C) := by rw [← e20]; exact List.getElem?_set_self (by rw [al19]; omega)
  have k20 : ∀ c, c ≠ 101 → c < 120 → H20[c]? = H19[c]? := fun c z1 z4 => (g20 c z1).trans (ak19 c z4)
  have f20 : H20[120]? = some (.inl (0, 4, .inl (fun _ => 0)) : nd_C) := (g20 120 (by omega)).trans an19
  refine nd_aload_n hC dX7_init_177 rfl rfl ?_
  refine nd_bipush hC (v := nI 120) (by rfl) dX7_init_178 ?_
  refine nd_newarray hC (atype := .long) (ty := 1) .long (.inr (.inl (fun _ => 0))) q427 rfl rfl (fun _ _ => rfl) (N := 120) rfl (nI_toInt (by omega)) (by decide) (by omega) (by omega) dX7_init_180 ?_
  rw [l20]
  have al20 : (H20 ++ [(.inl (1, 120, .inr (.inl (fun _ => 0))) : nd_C)]).length = 122 := by rw [List.length_append, l20]; rfl
  have ak20 : ∀ c, c < 121 → (H20 ++ [(.inl (1, 120, .inr (.inl (fun _ => 0))) : nd_C)])[c]? = H20[c]? := fun c hc => List.getElem?_append_left (by rw [l20]; exact hc)
  have ab20 := (ak20 101 (by omega)).trans b20
  have an20 : (H20 ++ [(.inl (1, 120, .inr (.inl (fun _ => 0))) : nd_C)])[121]? = some (.inl (1, 120, .inr (.inl (fun _ => 0))) : nd_C) := by rw [← l20]; exact l_at_last
  refine nd_putF (ci := nX7) hC in_X7 rfl ab20 42 (by decide) tyX7 tyX7_ok (by decide +kernel) q2758 (fun _ z => z) rfl rfl rfl rfl rfl (by show 42 < 43; decide) dX7_init_182 ?_
  show nd_W _ _ _ _ _ _ _ _ _ _ ((H20 ++ [(.inl (1, 120, .inr (.inl (fun _ => 0))) : nd_C)]).set 101 (.inr (nX7, [.ref 102, .ref 103, .ref 104, .ref 105, .int 0, .ref 106, .int 0, .int 0, .int 0, .int 0, .int 0, .int 0, .int 0, .int 0, .int 0, .int (-1), .int 0, .int 0, .int 0, .ref 107, .ref 108, .ref 109, .ref 110, .ref 111, .int 0, .ref 112, .ref 113, .ref 114, .int 0, .int 0, .int 0, .int 0, .int 0, .int 0, .int 0, .ref 115, .ref 116, .int 0, .ref 117, .ref 118, .ref 119, .ref 120, .ref 121]) : nd_C)) _ _
  generalize e21 : (H20 ++ [(.inl (1, 120, .inr (.inl (fun _ => 0))) : nd_C)]).set 101 (.inr (nX7, [.ref 102, .ref 103, .ref 104, .ref 105, .int 0, .ref 106, .int 0, .int 0, .int 0, .int 0, .int 0, .int 0, .int 0, .int 0, .int 0, .int (-1), .int 0, .int 0, .int 0, .ref 107, .ref 108, .ref 109, .ref 110, .ref 111, .int 0, .ref 112, .ref 113, .ref 114, .int 0, .int 0, .int 0, .int 0, .int 0, .int 0, .int 0, .ref 115, .ref 116, .int 0, .ref 117, .ref 118, .ref 119, .ref 120, .ref 121]) : nd_C) = H21
  have l21 : H21.length = 122 := by rw [← e21, List.length_set]; exact al20
  have g21 : ∀ c, c ≠ 101 → H21[c]? = (H20 ++ [(.inl (1, 120, .inr (.inl (fun _ => 0))) : nd_C)])[c]? := fun c hc => by rw [← e21]; exact List.getElem?_set_ne (Ne.symm hc)
  have b21 : H21[101]? = some (.inr (nX7, [.ref 102, .ref 103, .ref 104, .ref 105, .int 0, .ref 106, .int 0, .int 0, .int 0, .int 0, .int 0, .int 0, .int 0, .int 0, .int 0, .int (-1), .int 0, .int 0, .int 0, .ref 107, .ref 108, .ref 109, .ref 110, .ref 111, .int 0, .ref 112, .ref 113, .ref 114, .int 0, .int 0, .int 0, .int 0, .int 0, .int 0, .int 0, .ref 115, .ref 116, .int 0, .ref 117, .ref 118, .ref 119, .ref 120, .ref 121]) : nd_C) := by rw [← e21]; exact List.getElem?_set_self (by rw [al20]; omega)
  have k21 : ∀ c, c ≠ 101 → c < 121 → H21[c]? = H20[c]? := fun c z1 z4 => (g21 c z1).trans (ak20 c z4)
  have f21 : H21[121]? = some (.inl (1, 120, .inr (.inl (fun _ => 0))) : nd_C) := (g21 121 (by omega)).trans an20
  have K21 : ∀ c, c ≠ 101 → c < 122 → H21[c]? = H21[c]? := fun _ _ _ => rfl
  have K20 : ∀ c, c ≠ 101 → c < 121 → H21[c]? = H20[c]? := fun c z1 z4 => (K21 c z1 (by omega)).trans (k21 c z1 z4)
  have K19 : ∀ c, c ≠ 101 → c < 120 → H21[c]? = H19[c]? := fun c z1 z4 => (K20 c z1 (by omega)).trans (k20 c z1 z4)
  have K18 : ∀ c, c ≠ 101 → c < 119 → H21[c]? = H18[c]? := fun c z1 z4 => (K19 c z1 (by omega)).trans (k19 c z1 z4)
  have K17 : ∀ c, c ≠ 101 → c < 118 → H21[c]? = H17[c]? := fun c z1 z4 => (K18 c z1 (by omega)).trans (k18 c z1 z4)
  have K16 : ∀ c, c ≠ 101 → c < 117 → H21[c]? = H16[c]? := fun c z1 z4 => (K17 c z1 (by omega)).trans (k17 c z1 z4)
  have K15 : ∀ c, c ≠ 101 → c < 116 → H21[c]? = H15[c]? := fun c z1 z4 => (K16 c z1 (by omega)).trans (k16 c z1 z4)
  have K14 : ∀ c, c ≠ 101 → c < 115 → H21[c]? = H14[c]? := fun c z1 z4 => (K15 c z1 (by omega)).trans (k15 c z1 z4)
  have K13 : ∀ c, c ≠ 101 → c < 114 → H21[c]? = H13[c]? := fun c z1 z4 => (K14 c z1 (by omega)).trans (k14 c z1 z4)
  have K12 : ∀ c, c ≠ 101 → c < 113 → H21[c]? = H12[c]? := fun c z1 z4 => (K13 c z1 (by omega)).trans (k13 c z1 z4)
  have K11 : ∀ c, c ≠ 101 → c < 112 → H21[c]? = H11[c]? := fun c z1 z4 => (K12 c z1 (by omega)).trans (k12 c z1 z4)
  have K10 : ∀ c, c ≠ 101 → c < 111 → H21[c]? = H10[c]? := fun c z1 z4 => (K11 c z1 (by omega)).trans (k11 c z1 z4)
  have K9 : ∀ c, c ≠ 101 → c < 110 → H21[c]? = H9[c]? := fun c z1 z4 => (K10 c z1 (by omega)).trans (k10 c z1 z4)
  have K8 : ∀ c, c ≠ 101 → c < 109 → H21[c]? = H8[c]? := fun c z1 z4 => (K9 c z1 (by omega)).trans (k9 c z1 z4)
  have K7 : ∀ c, c ≠ 101 → c < 108 → H21[c]? = H7[c]? := fun c z1 z4 => (K8 c z1 (by omega)).trans (k8 c z1 z4)
  have K6 : ∀ c, c ≠ 101 → c < 107 → H21[c]? = H6[c]? := fun c z1 z4 => (K7 c z1 (by omega)).trans (k7 c z1 z4)
  have K5 : ∀ c, c ≠ 101 → c < 107 → H21[c]? = H5[c]? := fun c z1 z4 => (K6 c z1 (by omega)).trans (k6 c z1 z4)
  have K4 : ∀ c, c ≠ 101 → c < 106 → H21[c]? = H4[c]? := fun c z1 z4 => (K5 c z1 (by omega)).trans (k5 c z1 z4)
  have K3 : ∀ c, c ≠ 101 → c < 105 → H21[c]? = H3[c]? := fun c z1 z4 => (K4 c z1 (by omega)).trans (k4 c z1 z4)
  have K2 : ∀ c, c ≠ 101 → c < 104 → H21[c]? = H2[c]? := fun c z1 z4 => (K3 c z1 (by omega)).trans (k3 c z1 z4)
  have K1 : ∀ c, c ≠ 101 → c < 103 → H21[c]? = H1[c]? := fun c z1 z4 => (K2 c z1 (by omega)).trans (k2 c z1 z4)
  have K0 : ∀ c, c ≠ 101 → c < 102 → H21[c]? = h[c]? := fun c z1 z4 => (K1 c z1 (by omega)).trans (k1 c z1 z4)
  have y0 : H21[102]? = some (.inl (0, 2912, .inl (fun _ => 0)) : nd_C) := (K1 102 (by omega) (by omega)).trans f1
  have y1 : H21[103]? = some (.inl (0, 2912, .inl (fun _ => 0)) : nd_C) := (K2 103 (by omega) (by omega)).trans f2
  have y2 : H21[104]? = some (.inl (0, 8736, .inl (fun _ => 0)) : nd_C) := (K3 104 (by omega) (by omega)).trans f3
  have y3 : H21[105]? = some (.inl (4, 3, .inl (fun _ => 0)) : nd_C) := (K4 105 (by omega) (by omega)).trans f4
  have y5 : H21[106]? = some (.inl (0, 900, .inl (fun _ => 0)) : nd_C) := (K5 106 (by omega) (by omega)).trans f5
  have y19 : H21[107]? = some (.inl (0, 473, .inl (fun _ => 0)) : nd_C) := (K7 107 (by omega) (by omega)).trans f7
  have y20 : H21[108]? = some (.inl (0, 6, .inl (fun _ => 0)) : nd_C) := (K8 108 (by omega) (by omega)).trans f8
  have y21 : H21[109]? = some (.inl (0, 64, .inl (fun _ => 0)) : nd_C) := (K9 109 (by omega) (by omega)).trans f9
  have y22 : H21[110]? = some (.inl (0, 8, .inl (fun _ => 0)) : nd_C) := (K10 110 (by omega) (by omega)).trans f10
  have y23 : H21[111]? = some (.inl (0, 18, .inl (fun _ => 0)) : nd_C) := (K11 111 (by omega) (by omega)).trans f11
  have y25 : H21[112]? = some (.inl (0, 5, .inl (fun _ => 0)) : nd_C) := (K12 112 (by omega) (by omega)).trans f12
  have y26 : H21[113]? = some (.inl (0, 5, .inl (fun _ => 0)) : nd_C) := (K13 113 (by omega) (by omega)).trans f13
  have y27 : H21[114]? = some (.inl (0, 4, .inl (fun _ => 0)) : nd_C) := (K14 114 (by omega) (by omega)).trans f14
  have y35 : H21[115]? = some (.inl (1, 65536, .inr (.inl (fun _ => 0))) : nd_C) := (K15 115 (by omega) (by omega)).trans f15
  have y36 : H21[116]? = some (.inl (0, 65536, .inl (fun _ => 0)) : nd_C) := (K16 116 (by omega) (by omega)).trans f16
  have y38 : H21[117]? = some (.inl (0, 6, .inl (fun _ => 0)) : nd_C) := (K17 117 (by omega) (by omega)).trans f17
  have y39 : H21[118]? = some (.inl (0, 600, .inl (fun _ => 0)) : nd_C) := (K18 118 (by omega) (by omega)).trans f18
  have y40 : H21[119]? = some (.inl (0, 4, .inl tS) : nd_C) := (K19 119 (by omega) (by omega)).trans f19
  have y41 : H21[120]? = some (.inl (0, 4, .inl (fun _ => 0)) : nd_C) := (K20 120 (by omega) (by omega)).trans f20
  have y42 : H21[121]? = some (.inl (1, 120, .inr (.inl (fun _ => 0))) : nd_C) := (K21 121 (by omega) (by omega)).trans f21
  refine nd_return hC rfl (by omega) (by omega) dX7_init_185 (hk H21 (mo_Ai0 tS) mo_Fi0 (fun _ _ => 0) l21 (fun a ha => K0 a (by omega) (by omega)) ⟨⟨rfl, fun _ _ => rfl⟩, b21, fun k hk => ?_, fun k hk => ?_⟩ (mo_Ii0 hTS))
  · have hd := mo_dom (Or.inl hk)
    match k, hd, hk with
    | 0, _, _ => exact y0
    | 1, _, _ => exact y1
    | 2, _, _ => exact y2
    | 3, _, _ => exact y3
    | 4, _, hk => exact absurd hk (by decide)
    | 5, _, _ => exact y5
    | 6, _, hk => exact absurd hk (by decide)
    | 7, _, hk => exact absurd hk (by decide)
    | 8, _, hk => exact absurd hk (by decide)
    | 9, _, hk => exact absurd hk (by decide)
    | 10, _, hk => exact absurd hk (by decide)
    | 11, _, hk => exact absurd hk (by decide)
    | 12, _, hk => exact absurd hk (by decide)
    | 13, _, hk => exact absurd hk (by decide)
    | 14, _, hk => exact absurd hk (by decide)
    | 15, _, hk => exact absurd hk (by decide)
    | 16, _, hk => exact absurd hk (by decide)
    | 17, _, hk => exact absurd hk (by decide)
    | 18, _, hk => exact absurd hk (by decide)
    | 19, _, _ => exact y19
    | 20, _, _ => exact y20
    | 21, _, _ => exact y21
    | 22, _, _ => exact y22
    | 23, _, _ => exact y23
    | 24, _, hk => exact absurd hk (by decide)
    | 25, _, _ => exact y25
    | 26, _, _ => exact y26
    | 27, _, _ => exact y27
    | 28, _, hk => exact absurd hk (by decide)
    | 29, _, hk => exact absurd hk (by decide)
    | 30, _, hk => exact absurd hk (by decide)
    | 31, _, hk => exact absurd hk (by decide)
    | 32, _, hk => exact absurd hk (by decide)
    | 33, _, hk => exact absurd hk (by decide)
    | 34, _, hk => exact absurd hk (by decide)
    | 35, _, hk => exact absurd hk (by decide)
    | 36, _, _ => exact y36
    | 37, _, hk => exact absurd hk (by decide)
    | 38, _, _ => exact y38
    | 39, _, _ => exact y39
    | 40, _, _ => exact y40
    | 41, _, _ => exact y41
    | 42, _, hk => exact absurd hk (by decide)
  · have hd := mo_dom (Or.inr hk)
    match k, hd, hk with
    | 0, _, hk => exact absurd hk (by decide)
    | 1, _, hk => exact absurd hk (by decide)
    | 2, _, hk => exact absurd hk (by decide)
    | 3, _, hk => exact absurd hk (by decide)
    | 4, _, hk => exact absurd hk (by decide)
    | 5, _, hk => exact absurd hk (by decide)
    | 6, _, hk => exact absurd hk (by decide)
    | 7, _, hk => exact absurd hk (by decide)
    | 8, _, hk => exact absurd hk (by decide)
    | 9, _, hk => exact absurd hk (by decide)
    | 10, _, hk => exact absurd hk (by decide)
    | 11, _, hk => exact absurd hk (by decide)
    | 12, _, hk => exact absurd hk (by decide)
    | 13, _, hk => exact absurd hk (by decide)
    | 14, _, hk => exact absurd hk (by decide)
    | 15, _, hk => exact absurd hk (by decide)
    | 16, _, hk => exact absurd hk (by decide)
    | 17, _, hk => exact absurd hk (by decide)
    | 18, _, hk => exact absurd hk (by decide)
    | 19, _, hk => exact absurd hk (by decide)
    | 20, _, hk => exact absurd hk (by decide)
    | 21, _, hk => exact absurd hk (by decide)
    | 22, _, hk => exact absurd hk (by decide)
    | 23, _, hk => exact absurd hk (by decide)
    | 24, _, hk => exact absurd hk (by decide)
    | 25, _, hk => exact absurd hk (by decide)
    | 26, _, hk => exact absurd hk (by decide)
    | 27, _, hk => exact absurd hk (by decide)
    | 28, _, hk => exact absurd hk (by decide)
    | 29, _, hk => exact absurd hk (by decide)
    | 30, _, hk => exact absurd hk (by decide)
    | 31, _, hk => exact absurd hk (by decide)
    | 32, _, hk => exact absurd hk (by decide)
    | 33, _, hk => exact absurd hk (by decide)
    | 34, _, hk => exact absurd hk (by decide)
    | 35, _, _ => exact y35
    | 36, _, hk => exact absurd hk (by decide)
    | 37, _, hk => exact absurd hk (by decide)
    | 38, _, hk => exact absurd hk (by decide)
    | 39, _, hk => exact absurd hk (by decide)
    | 40, _, hk => exact absurd hk (by decide)
    | 41, _, hk => exact absurd hk (by decide)
    | 42, _, _ => exact y42
end IN997

