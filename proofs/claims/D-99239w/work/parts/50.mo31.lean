set_option maxRecDepth 100000
/-! ===== operations: deeds ===== -/
def op_fold (x y : Int32) (S : sy_S) : sy_R := if 1 ≤ x.toInt ∧ x.toInt < (sy_l S).length ∧ 0 ≤ y.toInt ∧ y.toInt ≤ 3 then (0, nI (sy_l (sy_dd S (10 * x.toInt + y.toInt))).length, sy_dd S (10 * x.toInt + y.toInt)) else (0, -1, S)
def op_unfold (S : sy_S) : sy_R := if (sy_c S).1.length = 0 then (1, nI 0, S) else (0, nI (sy_l (sy_dd S 100)).length, sy_dd S 100)
def op_shake (S : sy_S) : sy_R := if (sy_c S).1.length = 0 then (1, nI 0, S) else (0, nI (sy_c S).1.length, sy_dd S 200)
def op_amend (x y z : Int32) (S : sy_S) : sy_R := if op_in x 0 ((sy_n S : Int) - 1) = true then (if (op_in y 0 1 && op_in z 0 99) = true then (0, (if y = 0 then sv_fr (sy_c S) x.toNatClampNeg else sv_bk (sy_c S) x.toNatClampNeg), sy_dd S (1000 * (y.toInt + 1) + 100 * x.toInt + z.toInt)) else (2, nI 0, S)) else (1, nI 0, S)
def op_undo (x : Int32) (S : sy_S) : sy_R := if op_in x 1 10 = true ∧ x.toInt ≤ (sy_d S).length then (0, nI ((sy_d S).length - x.toNatClampNeg), sy_set S (sy_N S, (sy_d S).getD ((sy_d S).length - x.toNatClampNeg) ([], [], []), (sy_d S).take ((sy_d S).length - x.toNatClampNeg))) else (1, nI 0, S)
theorem sy_dd_ok {S : sy_S} {z : Int} (hS : sy_ok S) (h : dd_why (sy_p S) z = 0) : sy_ok (sy_dd S z) := by
  have hk := sy_kp_ok hS
  exact ⟨⟨hk.1, dd_ok hS.1 h, hk.2.2⟩, hS.2⟩
theorem dd_why_fold {S : sy_S} {x y : Nat} (h1 : 1 ≤ x) (h2 : x < (sy_l S).length) (h6 : x ≤ 6) (h3 : y ≤ 3) : dd_why (sy_p S) (10 * (x : Int) + y) = 0 := by
  unfold dd_why
  have hc : 1 ≤ (10 * (x : Int) + y) / 10 ∧ (10 * (x : Int) + y) / 10 < (lk_run (lk_flat (nk_n (sy_p S).1)) (sy_p S).2.1.1).length ∧ (10 * (x : Int) + y) % 10 ≤ 3 := by
    refine ⟨by omega, ?_, by omega⟩
    show _ < ((sy_l S).length : Int)
    omega
  rw [if_neg (by omega), if_pos (by omega), if_pos hc]
theorem dd_why_un {S : sy_S} {z : Int} (hz : z = 100 ∨ z = 200) (h : (sy_c S).1.length ≠ 0) : dd_why (sy_p S) z = 0 := by
  unfold dd_why
  rw [if_neg (by omega), if_neg (by omega), if_pos hz, if_neg h]
theorem dd_why_mark {S : sy_S} {x y z : Nat} (h1 : x < sy_n S) (h6 : sy_n S ≤ 6) (hy : y ≤ 1) (hz : z ≤ 99) : dd_why (sy_p S) (1000 * ((y : Int) + 1) + 100 * x + z) = 0 := by
  unfold dd_why
  rw [if_neg (by omega), if_neg (by omega), if_neg (by omega), if_pos (by omega), if_pos (by show _ < (sy_n S : Int); omega)]
section MO31
variable {g : nd_G} {d : Nat} {K : nd_K} {h h0 : nd_H} {A : Nat → Nat → Int32} {F : Nat → Int32} {B : Nat → Nat → Int64} {f : Nat → Int32}
theorem mo_fs.at {k : Nat → Int32} {P : sy_P} (h : mo_kn k P) : k 7 = nI P.2.1.1.length := h.2.1.1
theorem mp_fold (hg : nd_OK g) (hd : 5 ≤ d) (x y : Int32) : mp_ok g h0 mX7_fold d [.int x, .int y] (mp_i (op_fold x y)) := by
  intro tt S A F B h K ht hI hS hw hk
  have h5 := sy_len5 hS
  have hok := sy_l_ok hS
  have hwd := lk_width hok
  have hn : sy_n S ≤ 6 := hS.1.1.1
  have l1 : (sy_c S).2.1.length = sy_n S := hS.1.2.1.2.1
  have l2 : (sy_c S).2.2.length = sy_n S := hS.1.2.1.2.2.1
  unfold mp_i op_fold at hk
  refine nd_enter hg (by decide) rfl (Nat.le_of_ble_eq_true rfl) (fun X hC => ?_)
  refine nd_aload_n hC dX7_fold_0 rfl rfl ?_
  refine nd_iconst hC (v := nI 0) (by rfl) dX7_fold_1 ?_
  refine mo_put_thrown hC hw rfl dX7_fold_2 (fun h hw => ?_)
  refine nd_aload_n hC dX7_fold_5 rfl rfl ?_
  refine nd_aload_n hC dX7_fold_6 rfl rfl ?_
  refine mo_callV (As := []) (d2 := d - 1) hC hw rfl lkX7_343 lyX7_343 (Nat.le_of_ble_eq_true rfl) (by omega) rfl (by exact Nat.le_of_ble_eq_true rfl) (Nat.zero_le _) (Nat.zero_le _) dX7_fold_7 rfl ((sp_now hg (by omega) hI.th hS hw ?_))
  intro A2 h2 hl kA hI2 hw
  refine nd_iload_n hC dX7_fold_10 rfl ?_
  first | with_reducible refine nd_i2lN hC (by omega) dX7_fold_11 ?_ | refine nd_i2l hC dX7_fold_11 ?_
  refine nd_iload_n hC dX7_fold_12 rfl ?_
  first | with_reducible refine nd_i2lN hC (by omega) dX7_fold_13 ?_ | refine nd_i2l hC dX7_fold_13 ?_
  refine mo_callV (As := [_, _, _]) (d2 := d - 1) hC hw rfl lkX7_358 lyX7_358 (Nat.le_of_ble_eq_true rfl) (by omega) rfl (by exact Nat.le_of_ble_eq_true rfl) (Nat.zero_le _) (Nat.zero_le _) dX7_fold_14 rfl ((sp_isFold hg (by omega) hw (by omega) hl.1 (by omega) ?_))
  rw [nd_tl, nd_tl]
  first | with_reducible refine nd_if_neB hC (tgt := 22) dX7_fold_17 (by decide) (fun hc => ?_) (fun hc => ?_) | with_reducible refine nd_if_neN hC (tgt := 22) (by omega) dX7_fold_17 (by decide) (fun hc => ?_) (fun hc => ?_) | refine nd_if_ne hC (tgt := 22) dX7_fold_17 (by decide) (fun hc => ?_) (fun hc => ?_)
  · have hc := of_decide_eq_true hc
    rw [if_pos hc] at hk
    obtain ⟨a, ha, rfl⟩ : ∃ a : Nat, a ≤ 6 ∧ x = nI a := ⟨x.toInt.toNat, by omega, by rw [← Int32.toInt_inj, nI_toInt (by omega)]; omega⟩
    obtain ⟨b, hb, rfl⟩ : ∃ b : Nat, b ≤ 3 ∧ y = nI b := ⟨y.toInt.toNat, by omega, by rw [← Int32.toInt_inj, nI_toInt (by omega)]; omega⟩
    rw [nI_toInt (by omega), nI_toInt (by omega)] at hc
    rw [nI_toInt (by omega), nI_toInt (by omega)] at hk
    have hy : dd_why (sy_p S) (10 * (a : Int) + b) = 0 := dd_why_fold (by omega) (by omega) ha hb
    have hy2 : dd_why (sy_kp S) (10 * (a : Int) + b) = 0 := hy
    have hS2 := sy_set_ok hS (sy_kp_ok hS)
    have hS3 := sy_dd_ok hS hy
    have h55 := sy_len5 hS3
    have ez : (10 * (a : Int) + b).toNat = 10 * a + b := by omega
    have edo : dd_do (sy_c S) (10 * (a : Int) + b) = ((sy_c S).1 ++ [10 * a + b], (sy_c S).2.1, (sy_c S).2.2) := by
      unfold dd_do; rw [if_neg (by omega), if_pos (by omega), ez]
    have h4 : (sy_c S).1.length ≤ 4 := by
      have : (dd_do (sy_c S) (10 * (a : Int) + b)).1.length ≤ 5 := h55
      rw [edo] at this
      simp only [List.length_append, List.length_singleton] at this
      omega
    refine nd_aload_n hC dX7_fold_22 rfl rfl ?_
    refine mo_callV (As := []) (d2 := d - 1) hC hw rfl lkX7_362 lyX7_362 (Nat.le_of_ble_eq_true rfl) (by omega) rfl (by exact Nat.le_of_ble_eq_true rfl) (Nat.zero_le _) (Nat.zero_le _) dX7_fold_23 rfl ((sp_keepsS hg hI2 hS hw ?_))
    intro f2 h2 hkn hI3 hw
    refine nd_aload_n hC dX7_fold_26 rfl rfl ?_
    refine nd_bipush hC (v := nI 10) (by rfl) dX7_fold_27 ?_
    refine nd_iload_n hC dX7_fold_29 rfl ?_
    first | with_reducible refine nd_imulN hC dX7_fold_30 ?_ | refine nd_imul hC dX7_fold_30 ?_
    refine nd_iload_n hC dX7_fold_31 rfl ?_
    first | with_reducible refine nd_iaddN hC dX7_fold_32 ?_ | refine nd_iadd hC dX7_fold_32 ?_
    refine mo_callV (As := [_]) (d2 := d - 1) hC hw rfl lkX7_365 lyX7_365 (Nat.le_of_ble_eq_true rfl) (by omega) rfl (by exact Nat.le_of_ble_eq_true rfl) (Nat.zero_le _) (Nat.zero_le _) dX7_fold_33 rfl ((sp_addsFold hg hw (show (va_up A2 0 f2) 0 7 = nI (sy_c S).1.length by rw [va_up_s]; exact hkn.2.1.1) h4 ?_))
    intro h3 hw
    have hI4 : mo_I tt (sy_dd S (10 * (a : Int) + b)) (va_up (va_up A2 0 f2) 0 (upd (upd ((va_up A2 0 f2) 0) (8 + (sy_c S).1.length) (nI (10 * a + b))) 7 (nI ((sy_c S).1.length + 1)))) (va_up F 4 (nI 0)) B := by
      unfold sy_dd
      rw [edo]
      refine hI3.st hS2 (fun i hi => by rw [upd_n (by omega), upd_n (by omega)]) ?_
      rw [va_up_s]
      exact mo_sv_fold hkn.2.1 h4 (by show (sy_c S).2.1.length ≤ 6; omega) (by show (sy_c S).2.2.length ≤ 6; omega)
    refine nd_aload_n hC dX7_fold_36 rfl rfl ?_
    refine nd_aload_n hC dX7_fold_37 rfl rfl ?_
    refine mo_callV (As := []) (d2 := d - 1) hC hw rfl lkX7_343 lyX7_343 (Nat.le_of_ble_eq_true rfl) (by omega) rfl (by exact Nat.le_of_ble_eq_true rfl) (Nat.zero_le _) (Nat.zero_le _) dX7_fold_38 rfl ((sp_now hg (by omega) hI4 hS3 hw ?_))
    intro A5 h5 hl5 kA5 hI5 hw
    refine mo_callV (As := [_]) (d2 := d - 1) hC hw rfl lkX7_256 lyX7_256 (Nat.le_of_ble_eq_true rfl) (by omega) rfl (by exact Nat.le_of_ble_eq_true rfl) (Nat.zero_le _) (Nat.zero_le _) dX7_fold_41 rfl ((sp_columnsAt hg hw (by omega) ?_))
    rw [hl5.1]
    refine nd_ireturn hC rfl (by first | rfl | exact nd_b_nar _) (by omega) (by omega) dX7_fold_44 ((hk _ _ _ _ (hI5.t (by omega)) (va_up_s _ _ _) hw))
  · have hc := of_decide_eq_false hc
    rw [if_neg hc] at hk
    refine nd_iconst hC (v := -1) (by rfl) dX7_fold_20 ?_
    refine nd_ireturn hC rfl (by first | rfl | exact nd_b_nar _) (by omega) (by omega) dX7_fold_21 ((hk _ _ _ _ (hI2.t (by omega)) (va_up_s _ _ _) hw))
theorem mp_unfold (hg : nd_OK g) (hd : 5 ≤ d) : mp_ok g h0 mX7_unfold d [] (mp_i op_unfold) := by
  intro tt S A F B h K ht hI hS hw hk
  have h5 := sy_len5 hS
  have hn : sy_n S ≤ 6 := hS.1.1.1
  unfold mp_i op_unfold at hk
  refine nd_enter hg (by decide) rfl (Nat.le_of_ble_eq_true rfl) (fun X hC => ?_)
  refine nd_aload_n hC dX7_unfold_0 rfl rfl ?_
  refine nd_aload_n hC dX7_unfold_1 rfl rfl ?_
  refine mo_get_known hC hw rfl dX7_unfold_2 ?_
  refine nd_bipush hC (v := nI 7) (by rfl) dX7_unfold_5 ?_
  refine nd_ialoadN hC hw.known (by omega) (by decide) dX7_unfold_7 ?_
  rw [hI.fs.1]
  first | with_reducible refine nd_if_neB hC (tgt := 15) dX7_unfold_8 (by decide) (fun hc => ?_) (fun hc => ?_) | with_reducible refine nd_if_neN hC (tgt := 15) (by omega) dX7_unfold_8 (by decide) (fun hc => ?_) (fun hc => ?_) | refine nd_if_ne hC (tgt := 15) dX7_unfold_8 (by decide) (fun hc => ?_) (fun hc => ?_)
  · rw [if_neg hc] at hk
    refine nd_iconst hC (v := nI 0) (by rfl) dX7_unfold_15 ?_
    refine mo_put_thrown hC hw rfl dX7_unfold_16 (fun h hw => ?_)
    refine nd_aload_n hC dX7_unfold_19 rfl rfl ?_
    refine mo_get_thrown hC hw rfl dX7_unfold_20 ?_
    rw [va_up_s]
    have hS2 := sy_set_ok hS (sy_kp_ok hS)
    have hS3 := sy_dd_ok hS (dd_why_un (Or.inl rfl) hc)
    have h55 := sy_len5 hS3
    have hld : (sy_c S).1.dropLast.length = (sy_c S).1.length - 1 := List.length_dropLast ..
    refine nd_if_le hC (tgt := 28) dX7_unfold_23 (by decide) (fun hq => ?_) (fun hq => ?_)
    · refine nd_aload_n hC dX7_unfold_28 rfl rfl ?_
      refine mo_callV (As := []) (d2 := d - 1) hC hw rfl lkX7_362 lyX7_362 (Nat.le_of_ble_eq_true rfl) (by omega) rfl (by exact Nat.le_of_ble_eq_true rfl) (Nat.zero_le _) (Nat.zero_le _) dX7_unfold_29 rfl ((sp_keepsS hg hI.th hS hw ?_))
      intro f2 h2 hkn hI3 hw
      refine nd_aload_n hC dX7_unfold_32 rfl rfl ?_
      refine mo_get_known hC hw rfl dX7_unfold_33 ?_
      refine nd_bipush hC (v := nI 7) (by rfl) dX7_unfold_36 ?_
      refine nd_dup2_11 hC (by rfl) (by rfl) dX7_unfold_38 ?_
      refine nd_ialoadN hC hw.known (by omega) (by decide) dX7_unfold_39 ?_
      rw [va_up_s, show f2 7 = nI (sy_c S).1.length from hkn.2.1.1]
      refine nd_iconst hC (v := nI 1) (by rfl) dX7_unfold_40 ?_
      first | with_reducible refine nd_isubN hC (by omega) dX7_unfold_41 ?_ | refine nd_isub hC dX7_unfold_41 ?_
      refine mo_ast_known hC hw (by omega) dX7_unfold_42 (fun h hw => ?_)
      try simp only [va_up_up, va_up_s] at hw
      have hI4 : mo_I tt (sy_dd S 100) (va_up (va_up A 0 f2) 0 (upd f2 7 (nI ((sy_c S).1.length - 1)))) (va_up F 4 (nI 0)) B := by
        refine hI3.st hS2 (fun i hi => by rw [upd_n (by omega), va_up_s]) ?_
        rw [← hld]
        exact mo_sv_less hkn.2.1 (fun i hi => sv_getD_dl hi) (by show (sy_c S).1.dropLast.length ≤ (sy_c S).1.length; omega)
      rw [va_up_up] at hI4
      refine nd_aload_n hC dX7_unfold_43 rfl rfl ?_
      refine nd_aload_n hC dX7_unfold_44 rfl rfl ?_
      refine mo_callV (As := []) (d2 := d - 1) hC hw rfl lkX7_343 lyX7_343 (Nat.le_of_ble_eq_true rfl) (by omega) rfl (by exact Nat.le_of_ble_eq_true rfl) (Nat.zero_le _) (Nat.zero_le _) dX7_unfold_45 rfl ((sp_now hg (by omega) hI4 hS3 hw ?_))
      intro A5 h5 hl5 kA5 hI5 hw
      refine mo_callV (As := [_]) (d2 := d - 1) hC hw rfl lkX7_256 lyX7_256 (Nat.le_of_ble_eq_true rfl) (by omega) rfl (by exact Nat.le_of_ble_eq_true rfl) (Nat.zero_le _) (Nat.zero_le _) dX7_unfold_48 rfl ((sp_columnsAt hg hw (by omega) ?_))
      rw [hl5.1]
      refine nd_ireturn hC rfl (by first | rfl | exact nd_b_nar _) (by omega) (by omega) dX7_unfold_51 ((hk _ _ _ _ (hI5.t (by omega)) (va_up_s _ _ _) hw))
    · exact absurd hq (by decide)
  · rw [if_pos hc] at hk
    refine nd_iconst hC (v := nI 1) (by rfl) dX7_unfold_11 ?_
    refine nd_goto hC (tgt := 16) dX7_unfold_12 (by decide) ?_
    refine mo_put_thrown hC hw rfl dX7_unfold_16 (fun h hw => ?_)
    refine nd_aload_n hC dX7_unfold_19 rfl rfl ?_
    refine mo_get_thrown hC hw rfl dX7_unfold_20 ?_
    rw [va_up_s]
    refine nd_if_le hC (tgt := 28) dX7_unfold_23 (by decide) (fun hq => ?_) (fun hq => ?_)
    · exact absurd hq (by decide)
    · refine nd_iconst hC (v := nI 0) (by rfl) dX7_unfold_26 ?_
      refine nd_ireturn hC rfl (by first | rfl | exact nd_b_nar _) (by omega) (by omega) dX7_unfold_27 ((hk _ _ _ _ (hI.th.t (by omega)) (va_up_s _ _ _) hw))
theorem mp_shake (hg : nd_OK g) (hd : 1 ≤ d) : mp_ok g h0 mX7_shake d [] (mp_i op_shake) := by
  intro tt S A F B h K ht hI hS hw hk
  have h5 := sy_len5 hS
  unfold mp_i op_shake at hk
  refine nd_enter hg (by decide) rfl (Nat.le_of_ble_eq_true rfl) (fun X hC => ?_)
  refine nd_aload_n hC dX7_shake_0 rfl rfl ?_
  refine nd_aload_n hC dX7_shake_1 rfl rfl ?_
  refine mo_get_known hC hw rfl dX7_shake_2 ?_
  refine nd_bipush hC (v := nI 7) (by rfl) dX7_shake_5 ?_
  refine nd_ialoadN hC hw.known (by omega) (by decide) dX7_shake_7 ?_
  rw [hI.fs.1]
  first | with_reducible refine nd_if_neB hC (tgt := 15) dX7_shake_8 (by decide) (fun hc => ?_) (fun hc => ?_) | with_reducible refine nd_if_neN hC (tgt := 15) (by omega) dX7_shake_8 (by decide) (fun hc => ?_) (fun hc => ?_) | refine nd_if_ne hC (tgt := 15) dX7_shake_8 (by decide) (fun hc => ?_) (fun hc => ?_)
  · rw [if_neg hc] at hk
    refine nd_iconst hC (v := nI 0) (by rfl) dX7_shake_15 ?_
    refine mo_put_thrown hC hw rfl dX7_shake_16 (fun h hw => ?_)
    refine nd_aload_n hC dX7_shake_19 rfl rfl ?_
    refine mo_get_thrown hC hw rfl dX7_shake_20 ?_
    rw [va_up_s]
    have hS2 := sy_set_ok hS (sy_kp_ok hS)
    refine nd_if_le hC (tgt := 28) dX7_shake_23 (by decide) (fun hq => ?_) (fun hq => ?_)
    · refine nd_aload_n hC dX7_shake_28 rfl rfl ?_
      refine mo_callV (As := []) (d2 := d - 1) hC hw rfl lkX7_362 lyX7_362 (Nat.le_of_ble_eq_true rfl) (by omega) rfl (by exact Nat.le_of_ble_eq_true rfl) (Nat.zero_le _) (Nat.zero_le _) dX7_shake_29 rfl ((sp_keepsS hg hI.th hS hw ?_))
      intro f2 h2 hkn hI3 hw
      refine nd_aload_n hC dX7_shake_32 rfl rfl ?_
      refine mo_get_known hC hw rfl dX7_shake_33 ?_
      refine nd_bipush hC (v := nI 7) (by rfl) dX7_shake_36 ?_
      refine nd_ialoadN hC hw.known (by omega) (by decide) dX7_shake_38 ?_
      rw [va_up_s, show f2 7 = nI (sy_c S).1.length from hkn.2.1.1]
      refine nd_istore_n hC dX7_shake_39 (Nat.le_of_ble_eq_true rfl) ?_
      refine nd_aload_n hC dX7_shake_40 rfl rfl ?_
      refine mo_get_known hC hw rfl dX7_shake_41 ?_
      refine nd_bipush hC (v := nI 7) (by rfl) dX7_shake_44 ?_
      refine nd_iconst hC (v := nI 0) (by rfl) dX7_shake_46 ?_
      refine mo_ast_known hC hw (by omega) dX7_shake_47 (fun h hw => ?_)
      try simp only [va_up_up, va_up_s] at hw
      refine nd_iload_n hC dX7_shake_48 rfl ?_
      have hI4 : mo_I tt (sy_dd S 200) (va_up (va_up A 0 f2) 0 (upd f2 7 (nI 0))) (va_up F 4 (nI 0)) B := by
        refine hI3.st hS2 (fun i hi => by rw [upd_n (by omega), va_up_s]) ?_
        exact mo_sv_less (fs := []) hkn.2.1 (fun i hi => absurd hi (Nat.not_lt_zero _)) (Nat.zero_le _)
      rw [va_up_up] at hI4
      refine nd_ireturn hC rfl (by first | rfl | exact nd_b_nar _) (by omega) (by omega) dX7_shake_49 ((hk _ _ _ _ (hI4.t (by omega)) (va_up_s _ _ _) hw))
    · exact absurd hq (by decide)
  · rw [if_pos hc] at hk
    refine nd_iconst hC (v := nI 1) (by rfl) dX7_shake_11 ?_
    refine nd_goto hC (tgt := 16) dX7_shake_12 (by decide) ?_
    refine mo_put_thrown hC hw rfl dX7_shake_16 (fun h hw => ?_)
    refine nd_aload_n hC dX7_shake_19 rfl rfl ?_
    refine mo_get_thrown hC hw rfl dX7_shake_20 ?_
    rw [va_up_s]
    refine nd_if_le hC (tgt := 28) dX7_shake_23 (by decide) (fun hq => ?_) (fun hq => ?_)
    · exact absurd hq (by decide)
    · refine nd_iconst hC (v := nI 0) (by rfl) dX7_shake_26 ?_
      refine nd_ireturn hC rfl (by first | rfl | exact nd_b_nar _) (by omega) (by omega) dX7_shake_27 ((hk _ _ _ _ (hI.th.t (by omega)) (va_up_s _ _ _) hw))
theorem mp_amend (hg : nd_OK g) (hd : 2 ≤ d) (x y z : Int32) : mp_ok g h0 mX7_amend d [.int x, .int y, .int z] (mp_i (op_amend x y z)) := by
  intro tt S A F B h K ht hI hS hw hk
  have h5 := sy_len5 hS
  have hn : sy_n S ≤ 6 := hS.1.1.1
  have l1 : (sy_c S).2.1.length = sy_n S := hS.1.2.1.2.1
  have l2 : (sy_c S).2.2.length = sy_n S := hS.1.2.1.2.2.1
  unfold mp_i op_amend at hk
  have JE : ∀ e : Nat, 1 ≤ e → e ≤ 2 → (∀ A2 F2 B2 h2, mo_I (tt + 4) S A2 F2 B2 → F2 4 = nI e → mo_W h0 A2 F2 B2 h2 → K (.inl (some (.int (nI 0)))) h2) → ∀ X, nd_Cx g mX7_amend X → nd_W g mX7_amend d 0 0 K X 41 [some (.ref 101), some (.int x), some (.int y), some (.int z), none] [.int (nI e), .ref 101] h 0 0 := by
    intro e e1 e3 hk X hC
    refine mo_put_thrown hC hw rfl dX7_amend_41 (fun h hw => ?_)
    refine nd_aload_n hC dX7_amend_44 rfl rfl ?_
    refine mo_get_thrown hC hw rfl dX7_amend_45 ?_
    rw [va_up_s]
    refine nd_if_le hC (tgt := 53) dX7_amend_48 (by decide) (fun hq => ?_) (fun hq => ?_)
    · exact absurd hq (nI_gt0 e1 (by omega))
    · refine nd_iconst hC (v := nI 0) (by rfl) dX7_amend_51 ?_
      refine nd_ireturn hC rfl (by first | rfl | exact nd_b_nar _) (by omega) (by omega) dX7_amend_52 ((hk A _ B _ (hI.th.t (by omega)) (va_up_s _ _ _) hw))
  refine nd_enter hg (by decide) rfl (Nat.le_of_ble_eq_true rfl) (fun X hC => ?_)
  refine nd_aload_n hC dX7_amend_0 rfl rfl ?_
  refine nd_aload_n hC dX7_amend_1 rfl rfl ?_
  refine nd_iload_n hC dX7_amend_2 rfl ?_
  first | with_reducible refine nd_i2lN hC (by omega) dX7_amend_3 ?_ | refine nd_i2l hC dX7_amend_3 ?_
  refine mo_callV (As := [_]) (d2 := d - 1) hC hw rfl lkX7_337 lyX7_337 (Nat.le_of_ble_eq_true rfl) (by omega) rfl (by exact Nat.le_of_ble_eq_true rfl) (Nat.zero_le _) (Nat.zero_le _) dX7_amend_4 rfl ((sp_isCell hg (by omega) hw hI.n hn ?_))
  have e : decide (0 ≤ x.toInt64.toInt ∧ x.toInt64.toInt < (sy_n S : Nat)) = op_in x 0 ((sy_n S : Int) - 1) := by
    unfold op_in
    rw [nd_tl, Bool.eq_iff_iff, decide_eq_true_iff, decide_eq_true_iff]
    omega
  rw [e]
  first | with_reducible refine nd_if_neB hC (tgt := 14) dX7_amend_7 (by decide) (fun hc => ?_) (fun hc => ?_) | with_reducible refine nd_if_neN hC (tgt := 14) (by omega) dX7_amend_7 (by decide) (fun hc => ?_) (fun hc => ?_) | refine nd_if_ne hC (tgt := 14) dX7_amend_7 (by decide) (fun hc => ?_) (fun hc => ?_)
  · rw [if_pos hc] at hk
    obtain ⟨a, ha, rfl⟩ := op_in_nat hc
    refine nd_iload_n hC dX7_amend_14 rfl ?_
    first | with_reducible refine nd_i2lN hC (by omega) dX7_amend_15 ?_ | refine nd_i2l hC dX7_amend_15 ?_
    refine nd_lconst hC (v := lN 0) (by rfl) dX7_amend_16 ?_
    refine nd_lconst hC (v := lN 1) (by rfl) dX7_amend_17 ?_
    refine mo_callS (As := [_, _, _]) (d2 := d - 1) hC rfl lkX7_138 lyX7_138 (Nat.le_of_ble_eq_true rfl) (by omega) rfl (by exact Nat.le_of_ble_eq_true rfl) (Nat.zero_le _) (Nat.zero_le _) dX7_amend_18 rfl ((sp_within hg ?_))
    have e : (decide (lN 0 ≤ y.toInt64) && decide (y.toInt64 ≤ lN 1)) = op_in y 0 1 := by
      unfold op_in
      rw [Bool.eq_iff_iff, Bool.and_eq_true, nd_lle, nd_lle, nd_tl, lN_toInt (by decide), lN_toInt (by decide), decide_eq_true_iff]
      omega
    rw [e]
    first | with_reducible refine nd_if_eqB hC (tgt := 40) dX7_amend_21 (by decide) (fun hy => ?_) (fun hy => ?_) | with_reducible refine nd_if_eqN hC (tgt := 40) (by omega) dX7_amend_21 (by decide) (fun hy => ?_) (fun hy => ?_) | refine nd_if_eq hC (tgt := 40) dX7_amend_21 (by decide) (fun hy => ?_) (fun hy => ?_)
    · rw [hy, Bool.false_and, if_neg (by decide)] at hk
      refine nd_iconst hC (v := nI 2) (by rfl) dX7_amend_40 ?_
      exact JE 2 (by omega) (by omega) hk X hC
    · rw [hy, Bool.true_and] at hk
      refine nd_iload_n hC dX7_amend_24 rfl ?_
      first | with_reducible refine nd_i2lN hC (by omega) dX7_amend_25 ?_ | refine nd_i2l hC dX7_amend_25 ?_
      refine nd_lconst hC (v := lN 0) (by rfl) dX7_amend_26 ?_
      refine nd_ldc2 hC q3171 dX7_amend_27 ?_
      refine nd_v_eq (y := .long (lN 99)) (by rfl) ?_
      refine mo_callS (As := [_, _, _]) (d2 := d - 1) hC rfl lkX7_138 lyX7_138 (Nat.le_of_ble_eq_true rfl) (by omega) rfl (by exact Nat.le_of_ble_eq_true rfl) (Nat.zero_le _) (Nat.zero_le _) dX7_amend_30 rfl ((sp_within hg ?_))
      have e : (decide (lN 0 ≤ z.toInt64) && decide (z.toInt64 ≤ lN 99)) = op_in z 0 99 := by
        unfold op_in
        rw [Bool.eq_iff_iff, Bool.and_eq_true, nd_lle, nd_lle, nd_tl, lN_toInt (by decide), lN_toInt (by decide), decide_eq_true_iff]
        omega
      rw [e]
      first | with_reducible refine nd_if_eqB hC (tgt := 40) dX7_amend_33 (by decide) (fun hz => ?_) (fun hz => ?_) | with_reducible refine nd_if_eqN hC (tgt := 40) (by omega) dX7_amend_33 (by decide) (fun hz => ?_) (fun hz => ?_) | refine nd_if_eq hC (tgt := 40) dX7_amend_33 (by decide) (fun hz => ?_) (fun hz => ?_)
      · rw [if_neg (by rw [hz]; decide)] at hk
        refine nd_iconst hC (v := nI 2) (by rfl) dX7_amend_40 ?_
        exact JE 2 (by omega) (by omega) hk X hC
      · rw [if_pos hz] at hk
        obtain ⟨b, hb, rfl⟩ := op_in_nat hy
        obtain ⟨c, hc9, rfl⟩ := op_in_nat hz
        rw [nI_toInt (by omega), nI_toInt (by omega), nI_toInt (by omega), nI_cl (by omega)] at hk
        have hS2 := sy_set_ok hS (sy_kp_ok hS)
        have ez : (1000 * ((b : Int) + 1) + 100 * a + c).toNat = 1000 * (b + 1) + 100 * a + c := by omega
        have em : (1000 * (b + 1) + 100 * a + c) % 1000 / 100 = a := by omega
        have eh : (1000 * (b + 1) + 100 * a + c) % 100 = c := by omega
        refine nd_iconst hC (v := nI 0) (by rfl) dX7_amend_36 ?_
        refine nd_goto hC (tgt := 41) dX7_amend_37 (by decide) ?_
        refine mo_put_thrown hC hw rfl dX7_amend_41 (fun h hw => ?_)
        refine nd_aload_n hC dX7_amend_44 rfl rfl ?_
        refine mo_get_thrown hC hw rfl dX7_amend_45 ?_
        rw [va_up_s]
        refine nd_if_le hC (tgt := 53) dX7_amend_48 (by decide) (fun hq => ?_) (fun hq => ?_)
        · refine nd_aload_n hC dX7_amend_53 rfl rfl ?_
          refine mo_callV (As := []) (d2 := d - 1) hC hw rfl lkX7_362 lyX7_362 (Nat.le_of_ble_eq_true rfl) (by omega) rfl (by exact Nat.le_of_ble_eq_true rfl) (Nat.zero_le _) (Nat.zero_le _) dX7_amend_54 rfl ((sp_keepsS hg hI.th hS hw ?_))
          intro f2 h2 hkn hI3 hw
          refine nd_aload_n hC dX7_amend_57 rfl rfl ?_
          refine mo_get_known hC hw rfl dX7_amend_58 ?_
          refine nd_bipush hC (v := nI 13) (by rfl) dX7_amend_61 ?_
          refine nd_bipush hC (v := nI 6) (by rfl) dX7_amend_63 ?_
          refine nd_iload_n hC dX7_amend_65 rfl ?_
          first | with_reducible refine nd_imulN hC dX7_amend_66 ?_ | refine nd_imul hC dX7_amend_66 ?_
          first | with_reducible refine nd_iaddN hC dX7_amend_67 ?_ | refine nd_iadd hC dX7_amend_67 ?_
          refine nd_iload_n hC dX7_amend_68 rfl ?_
          first | with_reducible refine nd_iaddN hC dX7_amend_69 ?_ | refine nd_iadd hC dX7_amend_69 ?_
          refine nd_ialoadN hC hw.known (by omega) (by decide) dX7_amend_70 ?_
          rw [va_up_s]
          refine nd_istore hC dX7_amend_71 (Nat.le_of_ble_eq_true rfl) ?_
          refine nd_aload_n hC dX7_amend_73 rfl rfl ?_
          refine mo_get_known hC hw rfl dX7_amend_74 ?_
          refine nd_bipush hC (v := nI 13) (by rfl) dX7_amend_77 ?_
          refine nd_bipush hC (v := nI 6) (by rfl) dX7_amend_79 ?_
          refine nd_iload_n hC dX7_amend_81 rfl ?_
          first | with_reducible refine nd_imulN hC dX7_amend_82 ?_ | refine nd_imul hC dX7_amend_82 ?_
          first | with_reducible refine nd_iaddN hC dX7_amend_83 ?_ | refine nd_iadd hC dX7_amend_83 ?_
          refine nd_iload_n hC dX7_amend_84 rfl ?_
          first | with_reducible refine nd_iaddN hC dX7_amend_85 ?_ | refine nd_iadd hC dX7_amend_85 ?_
          refine nd_iload_n hC dX7_amend_86 rfl ?_
          refine mo_ast_known hC hw (by omega) dX7_amend_87 (fun h hw => ?_)
          try simp only [va_up_up, va_up_s] at hw
          refine nd_iload hC dX7_amend_88 rfl ?_
          obtain rfl | rfl : b = 0 ∨ b = 1 := by omega
          · have e0 : f2 (13 + 6 * 0 + a) = sv_fr (sy_c S) a := hkn.2.1.2.2.1 a (by show a < (sy_c S).2.1.length; omega)
            rw [e0]
            rw [if_pos (show nI 0 = (0 : Int32) from rfl)] at hk
            have hI4 : mo_I tt (sy_dd S (1000 * (((0 : Nat) : Int) + 1) + 100 * (a : Int) + c)) (va_up (va_up A 0 f2) 0 (upd f2 (13 + a) (nI c))) (va_up F 4 (nI 0)) B := by
              refine hI3.st hS2 (fun i hi => by rw [upd_n (by omega), va_up_s]) ?_
              unfold dd_do
              rw [if_neg (by omega), if_neg (by omega), if_neg (by omega), if_neg (by omega), if_pos (by omega), ez, em, eh]
              exact mo_sv_fr hkn.2.1 h5 (by show (sy_c S).2.1.length ≤ 6; omega) (by show (sy_c S).2.2.length ≤ 6; omega) (by show a < (sy_c S).2.1.length; omega)
            rw [va_up_up] at hI4
            refine nd_ireturn hC rfl (by first | rfl | exact nd_b_nar _) (by omega) (by omega) dX7_amend_90 ((hk _ _ _ _ (hI4.t (by omega)) (va_up_s _ _ _) hw))
          · have e0 : f2 (13 + 6 * 1 + a) = sv_bk (sy_c S) a := hkn.2.1.2.2.2 a (by show a < (sy_c S).2.2.length; omega)
            rw [e0]
            rw [if_neg (by decide)] at hk
            have hI4 : mo_I tt (sy_dd S (1000 * (((1 : Nat) : Int) + 1) + 100 * (a : Int) + c)) (va_up (va_up A 0 f2) 0 (upd f2 (19 + a) (nI c))) (va_up F 4 (nI 0)) B := by
              refine hI3.st hS2 (fun i hi => by rw [upd_n (by omega), va_up_s]) ?_
              unfold dd_do
              rw [if_neg (by omega), if_neg (by omega), if_neg (by omega), if_neg (by omega), if_neg (by omega), ez, em, eh]
              exact mo_sv_bk hkn.2.1 h5 (by show (sy_c S).2.1.length ≤ 6; omega) (by show (sy_c S).2.2.length ≤ 6; omega) (by show a < (sy_c S).2.2.length; omega)
            rw [va_up_up] at hI4
            refine nd_ireturn hC rfl (by first | rfl | exact nd_b_nar _) (by omega) (by omega) dX7_amend_90 ((hk _ _ _ _ (hI4.t (by omega)) (va_up_s _ _ _) hw))
        · exact absurd hq (by decide)
  · rw [if_neg (by rw [hc]; decide)] at hk
    refine nd_iconst hC (v := nI 1) (by rfl) dX7_amend_10 ?_
    refine nd_goto hC (tgt := 41) dX7_amend_11 (by decide) ?_
    exact JE 1 (by omega) (by omega) hk X hC
end MO31

