set_option maxRecDepth 100000
section CP81
variable {g : nd_G} {d : Nat} {K : nd_K} {h : nd_H} {o : Nat → Nat} {nap : Nat} {ds : List Nat} {gi : Nat → Value} {dss : Nat → List Nat} {S : sy_S}
theorem cp_evening (hg : nd_OK g) (hd : 9 ≤ d) (x y : Int32) : cp_ok g mX1_evening d 290 1500 [.int x, .int y] (ex1 eIAE) (mp_i (op_evening x y)) := by
  intro S h K hS hI hl123 hk0 hk1
  obtain ⟨hs, o, nap, ds, gi, dss, hK⟩ := hI
  obtain ⟨⟨x0, hO⟩, h17, hkk, -⟩ := id hK
  unfold cx_O at hO
  have hok := sy_l_ok hS
  have hwd := lk_width hok
  have hn : sy_n S ≤ 6 := hS.1.1.1
  have h5 := sy_len5 hS
  obtain ⟨sfr, sbk, sfo, smn, hSt, hcv⟩ := id hkk.2.1
  obtain ⟨hSt1, hSt2, hSt3, hSt4⟩ := id hSt
  have hcv : cs_v sfr sbk sfo smn (sy_c S) := hcv
  have hsv : sv_ok (sy_n S) (sy_c S) := hS.1.2.1
  unfold mp_i op_evening at hk0 hk1
  refine nd_enter hg (by decide) rfl (Nat.le_of_ble_eq_true rfl) (fun X hC => ?_)
  refine nd_iload_n hC dX1_evening_0 rfl ?_
  first | with_reducible refine nd_i2lN hC (by omega) dX1_evening_1 ?_ | refine nd_i2l hC dX1_evening_1 ?_
  refine nd_lconst hC (v := lN 1) (by rfl) dX1_evening_2 ?_
  refine nd_ldc2 hC q2110 dX1_evening_3 ?_
  refine nd_v_eq (y := .long (lN 30)) (by rfl) ?_
  refine nd_callS (mm2 := mX1_isIn) (As := [_, _, _]) (mc2 := 0) (ms2 := 0) (d2 := d - 1) hC rfl lkX1_106 lmX1_isIn (Nat.le_of_ble_eq_true rfl) (by omega) rfl (by exact Nat.le_of_ble_eq_true rfl) (by omega) (by omega) dX1_evening_6 rfl ((ci_isIn hg ?_))
  have e : (decide (lN 1 ≤ y.toInt64) && decide (y.toInt64 ≤ lN 30)) = op_in y 1 30 := by
    unfold op_in
    rw [Bool.eq_iff_iff, Bool.and_eq_true, nd_lle, nd_lle, nd_tl, lN_toInt (by decide), lN_toInt (by decide), decide_eq_true_iff]
    omega
  rw [e]
  refine nd_callS (mm2 := mX1_needs) (As := [_]) (mc2 := 1) (ms2 := 6) (d2 := d - 1) hC rfl lkX1_110 lmX1_needs (Nat.le_of_ble_eq_true rfl) (by omega) rfl (by exact Nat.le_of_ble_eq_true rfl) (by omega) (by omega) dX1_evening_9 rfl ((ci_needs hg (fun hc => ?_) (fun hc n => ?_)))
  · rw [if_pos hc] at hk0
    have hy : y.toInt ≤ 30 ∧ 1 ≤ y.toInt := by
      unfold op_in at hc
      rw [decide_eq_true_iff] at hc
      omega
    obtain ⟨k, hk9, rfl⟩ := op_nat (x := y) (by rw [Int32.le_iff_toInt_le, Int32.toInt_zero]; omega)
    rw [nI_toInt hk9] at hy
    rw [nI_cl hk9] at hk0
    refine nd_aload_n hC dX1_evening_12 rfl rfl ?_
    refine nd_iload_n hC dX1_evening_13 rfl ?_
    refine cx_putX (tp := nI (sy_b S).length) (fkd := nI (sy_fk S)) (fat := sy_fp S) (x := x0) hC hO rfl dX1_evening_14 (fun h2 f2 hX2 => ?_)
    refine nd_iconst hC (v := nI 0) (by rfl) dX1_evening_17 ?_
    refine nd_istore_n hC dX1_evening_18 (Nat.le_of_ble_eq_true rfl) ?_
    refine nd_iconst hC (v := nI 0) (by rfl) dX1_evening_19 ?_
    refine nd_istore hC dX1_evening_20 (Nat.le_of_ble_eq_true rfl) ?_
    exact cx_ev hg hC (by omega) (by omega) k 0 0 x S h2 _ _ none hS ⟨f2.sc hs, o, nap, ds, gi, dss, hK.x0 f2 hX2⟩ hX2 (by rw [f2.1]; exact hl123) f2.fr (by omega) (by omega) (by omega) (by omega) (fun h3 a b => hk0 rfl h3 a b)
  · rw [if_neg (by rw [hc]; decide)] at hk1
    exact nd_out hC rfl (by omega) (by omega) (hk1 (Nat.succ_ne_zero _) _ _ ⟨hs.app, o, nap, ds, gi, dss, hK.f cw_f.rfl.app⟩ (cw_f.rfl.app.fr hl123))
end CP81

