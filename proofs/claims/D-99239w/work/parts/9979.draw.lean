set_option maxRecDepth 100000
/-! ===== numbers drawn ===== -/
section CP79
variable {g : nd_G} {mm : nd_Mt} {d mc ms : Nat} {K : nd_K} {X : nd_X} {pc : Nat} {lv : List (Option Value)} {st : List Value} {h : nd_H} {cs ss : Nat} {tp fkd fat x : Int32}
/-- only NapkinDeeds itself may have changed -/
def x0_f (h h2 : nd_H) : Prop := h2.length = h.length ∧ ∀ a, a ≠ 0 → h2[a]? = h[a]?
theorem x0_f.trans {h h2 h3 : nd_H} (a : x0_f h h2) (b : x0_f h2 h3) : x0_f h h3 := ⟨b.1.trans a.1, fun c z => (b.2 c z).trans (a.2 c z)⟩
theorem cx_putX (hC : nd_Cx g mm X) {v : Int32} (hO : cx_O h tp fkd fat x) (hm : mm.1.cls = "NapkinDeeds") (hd : decode mm.2.1 pc = .ok (.putfield 353, 3)) (kk : ∀ h2, x0_f h h2 → cx_O h2 tp fkd fat v → nd_W g mm d mc ms K X (pc + 3) lv st h2 cs ss) : nd_W g mm d mc ms K X pc lv (.int v :: .ref 0 :: st) h cs ss :=
  nd_put (ci := nX1) hC in_X1 rfl hO 11 (by decide) tyX1 tyX1_ok (by decide +kernel) (by rw [hm]; exact q397) (fun _ z => z) rfl rfl rfl (by show 11 < 13; decide) hd (kk (h.set 0 _) ⟨List.length_set, fun a ha => List.getElem?_set_ne (Ne.symm ha)⟩ (List.getElem?_set_self (nd_get_lt hO)))
theorem cx_draw (hg : nd_OK g) (hO : cx_O h tp fkd fat x) {m : Nat} (h1 : 1 ≤ m) (h2 : m ≤ 100) (hk : ∀ h2, x0_f h h2 → cx_O h2 tp fkd fat (dr_s x) → K (.inl (some (.int (nI (dr_v x % m))))) h2) : nd_M g mX1_draw d 0 0 [.ref 0, .int (nI m)] h K := by
  have hv := dr_v_lt x
  have hO1 := hO
  unfold cx_O at hO1
  refine nd_enter hg (by decide) rfl (Nat.le_of_ble_eq_true rfl) (fun X hC => ?_)
  refine nd_aload_n hC dX1_draw_0 rfl rfl ?_
  refine nd_ldcwI hC q2119 dX1_draw_1 ?_
  refine nd_v_eq (y := .int (nI 1103515245)) (by rfl) ?_
  refine nd_aload_n hC dX1_draw_4 rfl rfl ?_
  refine nd_get (ci := nX1) hC in_X1 rfl hO1 11 (by decide) q397 (fun _ z => z) rfl dX1_draw_5 ?_
  first | with_reducible refine nd_imulN hC dX1_draw_8 ?_ | refine nd_imul hC dX1_draw_8 ?_
  refine nd_sipush hC (v := nI 12345) (by rfl) dX1_draw_9 ?_
  first | with_reducible refine nd_iaddN hC dX1_draw_12 ?_ | refine nd_iadd hC dX1_draw_12 ?_
  refine cx_putX hC hO rfl dX1_draw_13 (fun h2 f2 hO2 => ?_)
  have hO3 := hO2
  unfold cx_O at hO3
  refine nd_aload_n hC dX1_draw_16 rfl rfl ?_
  refine nd_get (ci := nX1) hC in_X1 rfl hO3 11 (by decide) q397 (fun _ z => z) rfl dX1_draw_17 ?_
  refine nd_bipush hC (v := nI 16) (by rfl) dX1_draw_20 ?_
  refine nd_iushr hC dX1_draw_22 ?_
  show nd_W _ _ _ _ _ _ _ _ _ (.int ((dr_s x).toUInt32 >>> ((nI 16).toUInt32 &&& Int32.toUInt32 31)).toInt32 :: _) _ _ _
  rw [dr_ushr]
  show nd_W _ _ _ _ _ _ _ _ _ (.int (nI (dr_v x)) :: _) _ _ _
  refine nd_iload_n hC dX1_draw_23 rfl ?_
  first | with_reducible refine nd_iremN hC (by omega) (by omega) (by omega) dX1_draw_24 ?_ | refine nd_irem hC (by decide) dX1_draw_24 ?_
  refine nd_ireturn hC rfl (by first | rfl | exact nd_b_nar _) (by omega) (by omega) dX1_draw_25 ((hk h2 f2 hO2))
theorem cx_drawn (hg : nd_OK g) (hd : 1 ≤ d) (hO : cx_O h tp fkd fat x) (hk : ∀ h2, x0_f h h2 → cx_O h2 tp fkd fat (dr_deed x).2 → K (.inl (some (.int (nI (dr_deed x).1)))) h2) : nd_M g mX1_drawn d 0 0 [.ref 0] h K := by
  unfold dr_deed at hk
  simp only [] at hk
  have b0 : dr_v x % 4 < 4 := Nat.mod_lt _ (by decide)
  have b6 : dr_v (dr_s x) % 6 < 6 := Nat.mod_lt _ (by decide)
  have b5 : dr_v (dr_s x) % 5 < 5 := Nat.mod_lt _ (by decide)
  have b100 : dr_v (dr_s (dr_s x)) % 100 < 100 := Nat.mod_lt _ (by decide)
  have b4 : dr_v (dr_s (dr_s x)) % 4 < 4 := Nat.mod_lt _ (by decide)
  have hO1 := hO
  unfold cx_O at hO1
  refine nd_enter hg (by decide) rfl (Nat.le_of_ble_eq_true rfl) (fun X hC => ?_)
  refine nd_aload_n hC dX1_drawn_0 rfl rfl ?_
  refine nd_iconst hC (v := nI 4) (by rfl) dX1_drawn_1 ?_
  refine nd_callV (mm2 := mX1_draw) (As := [_]) (mc2 := 0) (ms2 := 0) (d2 := d - 1) hC rfl lkX1_356 ⟨rfl, lmX1_draw⟩ (hO1) rfl (Nat.le_of_ble_eq_true rfl) (by omega) rfl (by exact Nat.le_of_ble_eq_true rfl) (by omega) (by omega) dX1_drawn_2 rfl ((cx_draw hg hO (by omega) (by omega) ?_))
  intro h2 f2 hO2
  have hO3 := hO2
  unfold cx_O at hO3
  refine nd_istore_n hC dX1_drawn_5 (Nat.le_of_ble_eq_true rfl) ?_
  refine nd_iload_n hC dX1_drawn_6 rfl ?_
  refine nd_iconst hC (v := nI 2) (by rfl) dX1_drawn_7 ?_
  first | with_reducible refine nd_icmp_neN hC (tgt := 14) (by omega) (by omega) dX1_drawn_8 (by decide) (fun hc => ?_) (fun hc => ?_) | refine nd_icmp_ne hC (tgt := 14) dX1_drawn_8 (by decide) (fun hc => ?_) (fun hc => ?_)
  · rw [if_neg (by omega)] at hk
    refine nd_iload_n hC dX1_drawn_14 rfl ?_
    refine nd_iconst hC (v := nI 3) (by rfl) dX1_drawn_15 ?_
    first | with_reducible refine nd_icmp_neN hC (tgt := 42) (by omega) (by omega) dX1_drawn_16 (by decide) (fun hc2 => ?_) (fun hc2 => ?_) | refine nd_icmp_ne hC (tgt := 42) dX1_drawn_16 (by decide) (fun hc2 => ?_) (fun hc2 => ?_)
    · rw [if_neg (by omega)] at hk
      refine nd_iconst hC (v := nI 1) (by rfl) dX1_drawn_42 ?_
      refine nd_aload_n hC dX1_drawn_43 rfl rfl ?_
      refine nd_iconst hC (v := nI 5) (by rfl) dX1_drawn_44 ?_
      refine nd_callV (mm2 := mX1_draw) (As := [_]) (mc2 := 0) (ms2 := 0) (d2 := d - 1) hC rfl lkX1_356 ⟨rfl, lmX1_draw⟩ (hO3) rfl (Nat.le_of_ble_eq_true rfl) (by omega) rfl (by exact Nat.le_of_ble_eq_true rfl) (by omega) (by omega) dX1_drawn_45 rfl ((cx_draw hg hO2 (by omega) (by omega) ?_))
      intro h3 f3 hO4
      have hO5 := hO4
      unfold cx_O at hO5
      first | with_reducible refine nd_iaddN hC dX1_drawn_48 ?_ | refine nd_iadd hC dX1_drawn_48 ?_
      refine nd_istore_n hC dX1_drawn_49 (Nat.le_of_ble_eq_true rfl) ?_
      refine nd_bipush hC (v := nI 10) (by rfl) dX1_drawn_50 ?_
      refine nd_iload_n hC dX1_drawn_52 rfl ?_
      first | with_reducible refine nd_imulN hC dX1_drawn_53 ?_ | refine nd_imul hC dX1_drawn_53 ?_
      refine nd_aload_n hC dX1_drawn_54 rfl rfl ?_
      refine nd_iconst hC (v := nI 4) (by rfl) dX1_drawn_55 ?_
      refine nd_callV (mm2 := mX1_draw) (As := [_]) (mc2 := 0) (ms2 := 0) (d2 := d - 1) hC rfl lkX1_356 ⟨rfl, lmX1_draw⟩ (hO5) rfl (Nat.le_of_ble_eq_true rfl) (by omega) rfl (by exact Nat.le_of_ble_eq_true rfl) (by omega) (by omega) dX1_drawn_56 rfl ((cx_draw hg hO4 (by omega) (by omega) ?_))
      intro h4 f4 hO6
      first | with_reducible refine nd_iaddN hC dX1_drawn_59 ?_ | refine nd_iadd hC dX1_drawn_59 ?_
      refine nd_ireturn hC rfl (by first | rfl | exact nd_b_nar _) (by omega) (by omega) dX1_drawn_60 ((hk h4 (f2.trans (f3.trans f4)) hO6))
    · rw [if_pos (by omega)] at hk
      refine nd_aload_n hC dX1_drawn_19 rfl rfl ?_
      refine nd_bipush hC (v := nI 6) (by rfl) dX1_drawn_20 ?_
      refine nd_callV (mm2 := mX1_draw) (As := [_]) (mc2 := 0) (ms2 := 0) (d2 := d - 1) hC rfl lkX1_356 ⟨rfl, lmX1_draw⟩ (hO3) rfl (Nat.le_of_ble_eq_true rfl) (by omega) rfl (by exact Nat.le_of_ble_eq_true rfl) (by omega) (by omega) dX1_drawn_22 rfl ((cx_draw hg hO2 (by omega) (by omega) ?_))
      intro h3 f3 hO4
      have hO5 := hO4
      unfold cx_O at hO5
      refine nd_istore_n hC dX1_drawn_25 (Nat.le_of_ble_eq_true rfl) ?_
      refine nd_sipush hC (v := nI 1000) (by rfl) dX1_drawn_26 ?_
      refine nd_bipush hC (v := nI 100) (by rfl) dX1_drawn_29 ?_
      refine nd_iload_n hC dX1_drawn_31 rfl ?_
      first | with_reducible refine nd_imulN hC dX1_drawn_32 ?_ | refine nd_imul hC dX1_drawn_32 ?_
      first | with_reducible refine nd_iaddN hC dX1_drawn_33 ?_ | refine nd_iadd hC dX1_drawn_33 ?_
      refine nd_aload_n hC dX1_drawn_34 rfl rfl ?_
      refine nd_bipush hC (v := nI 100) (by rfl) dX1_drawn_35 ?_
      refine nd_callV (mm2 := mX1_draw) (As := [_]) (mc2 := 0) (ms2 := 0) (d2 := d - 1) hC rfl lkX1_356 ⟨rfl, lmX1_draw⟩ (hO5) rfl (Nat.le_of_ble_eq_true rfl) (by omega) rfl (by exact Nat.le_of_ble_eq_true rfl) (by omega) (by omega) dX1_drawn_37 rfl ((cx_draw hg hO4 (by omega) (by omega) ?_))
      intro h4 f4 hO6
      first | with_reducible refine nd_iaddN hC dX1_drawn_40 ?_ | refine nd_iadd hC dX1_drawn_40 ?_
      refine nd_ireturn hC rfl (by first | rfl | exact nd_b_nar _) (by omega) (by omega) dX1_drawn_41 ((hk h4 (f2.trans (f3.trans f4)) hO6))
  · rw [if_pos (by omega)] at hk
    refine nd_bipush hC (v := nI 100) (by rfl) dX1_drawn_11 ?_
    refine nd_ireturn hC rfl (by first | rfl | exact nd_b_nar _) (by omega) (by omega) dX1_drawn_13 ((hk h2 f2 hO2))
end CP79

