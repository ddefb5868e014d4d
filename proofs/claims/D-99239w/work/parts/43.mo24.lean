set_option maxRecDepth 100000
/-! ===== count ===== -/
def cn_v (S : sy_S) : Nat → Int32
  | 0 => nI (nk_ln (sy_N S))
  | 1 => nI (sy_n S)
  | 2 => nI (nk_w (sy_N S)).length
  | 3 => nI (sy_l S).length
  | 4 => nI (lk_hi (sy_l S) (sy_l S).length)
  | 5 => nI (sy_c S).1.length
  | 6 => lk_tops (sv_fr (sy_c S)) (sv_bk (sy_c S)) (sy_l S)
  | 7 => lk_unders (sv_fr (sy_c S)) (sv_bk (sy_c S)) (sy_l S)
  | 8 => lk_all (sv_fr (sy_c S)) (sv_bk (sy_c S)) (sy_n S) - lk_tops (sv_fr (sy_c S)) (sv_bk (sy_c S)) (sy_l S) - lk_unders (sv_fr (sy_c S)) (sv_bk (sy_c S)) (sy_l S)
  | 9 => nI (sy_d S).length
  | _ => nI (sy_b S).length
def op_count (x : Int32) (S : sy_S) : sy_R := (0, if op_in x 0 10 = true then cn_v S x.toNatClampNeg else -1, S)
section MO24
variable {g : nd_G} {d : Nat} {K : nd_K} {h h0 : nd_H} {A : Nat → Nat → Int32} {F : Nat → Int32} {B : Nat → Nat → Int64} {f : Nat → Int32}
theorem mp_count (hg : nd_OK g) (hd : 5 ≤ d) (x : Int32) : mp_ok g h0 mX7_count d [.int x] (mp_i (op_count x)) := by
  intro tt S A F B h K ht hI hS hw hk
  have h5 := sy_len5 hS
  have hok := sy_l_ok hS
  have hwd := lk_width hok
  have hn : sy_n S ≤ 6 := hS.1.1.1
  unfold mp_i op_count at hk
  refine nd_enter hg (by decide) rfl (Nat.le_of_ble_eq_true rfl) (fun X hC => ?_)
  refine nd_aload_n hC dX7_count_0 rfl rfl ?_
  refine nd_iconst hC (v := nI 0) (by rfl) dX7_count_1 ?_
  refine mo_put_thrown hC hw rfl dX7_count_2 (fun h hw => ?_)
  refine nd_aload_n hC dX7_count_5 rfl rfl ?_
  refine mo_callV (As := []) (d2 := d - 1) hC hw rfl lkX7_343 lyX7_343 (Nat.le_of_ble_eq_true rfl) (by omega) rfl (by exact Nat.le_of_ble_eq_true rfl) (Nat.zero_le _) (Nat.zero_le _) dX7_count_6 rfl ((sp_now hg (by omega) hI.th hS hw ?_))
  intro A2 h2 hl kA hI2 hw
  refine nd_istore_n hC dX7_count_9 (Nat.le_of_ble_eq_true rfl) ?_
  refine nd_iload_n hC dX7_count_10 rfl ?_
  by_cases hc : op_in x 0 10 = true
  · rw [if_pos hc] at hk
    obtain ⟨k, hk1, rfl⟩ := op_in_nat hc
    rw [nI_cl (by omega)] at hk
    obtain rfl | rfl | rfl | rfl | rfl | rfl | rfl | rfl | rfl | rfl | rfl : k = 0 ∨ k = 1 ∨ k = 2 ∨ k = 3 ∨ k = 4 ∨ k = 5 ∨ k = 6 ∨ k = 7 ∨ k = 8 ∨ k = 9 ∨ k = 10 := by omega
    · refine nd_tableIn hC (tgt := 68) dX7_count_11 (by decide) (by decide) (by rfl) (by decide) ?_
      refine nd_aload_n hC dX7_count_68 rfl rfl ?_
      refine mo_get_known hC hw rfl dX7_count_69 ?_
      refine nd_iconst hC (v := nI 0) (by rfl) dX7_count_72 ?_
      refine nd_ialoadN hC hw.known (by omega) (by decide) dX7_count_73 ?_
      rw [hI2.1.1.1]
      refine nd_ireturn hC rfl (by first | rfl | exact nd_b_nar _) (by omega) (by omega) dX7_count_74 ((hk A2 _ _ _ (hI2.t (by omega)) (va_up_s _ _ _) hw))
    · refine nd_tableIn hC (tgt := 75) dX7_count_11 (by decide) (by decide) (by rfl) (by decide) ?_
      refine nd_aload_n hC dX7_count_75 rfl rfl ?_
      refine mo_callV (As := []) (d2 := d - 1) hC hw rfl lkX7_253 lyX7_253 (Nat.le_of_ble_eq_true rfl) (by omega) rfl (by exact Nat.le_of_ble_eq_true rfl) (Nat.zero_le _) (Nat.zero_le _) dX7_count_76 rfl ((sp_cells hg hw ?_))
      rw [hI2.n]
      refine nd_ireturn hC rfl (by first | rfl | exact nd_b_nar _) (by omega) (by omega) dX7_count_79 ((hk A2 _ _ _ (hI2.t (by omega)) (va_up_s _ _ _) hw))
    · refine nd_tableIn hC (tgt := 80) dX7_count_11 (by decide) (by decide) (by rfl) (by decide) ?_
      refine nd_aload_n hC dX7_count_80 rfl rfl ?_
      refine mo_get_known hC hw rfl dX7_count_81 ?_
      refine nd_iconst hC (v := nI 2) (by rfl) dX7_count_84 ?_
      refine nd_ialoadN hC hw.known (by omega) (by decide) dX7_count_85 ?_
      rw [hI2.gn]
      refine nd_ireturn hC rfl (by first | rfl | exact nd_b_nar _) (by omega) (by omega) dX7_count_86 ((hk A2 _ _ _ (hI2.t (by omega)) (va_up_s _ _ _) hw))
    · refine nd_tableIn hC (tgt := 87) dX7_count_11 (by decide) (by decide) (by rfl) (by decide) ?_
      refine nd_aload_n hC dX7_count_87 rfl rfl ?_
      refine nd_iload_n hC dX7_count_88 rfl ?_
      refine mo_callV (As := [_]) (d2 := d - 1) hC hw rfl lkX7_256 lyX7_256 (Nat.le_of_ble_eq_true rfl) (by omega) rfl (by exact Nat.le_of_ble_eq_true rfl) (Nat.zero_le _) (Nat.zero_le _) dX7_count_89 rfl ((sp_columnsAt hg hw (by omega) ?_))
      rw [hl.1]
      refine nd_ireturn hC rfl (by first | rfl | exact nd_b_nar _) (by omega) (by omega) dX7_count_92 ((hk A2 _ _ _ (hI2.t (by omega)) (va_up_s _ _ _) hw))
    · refine nd_tableIn hC (tgt := 93) dX7_count_11 (by decide) (by decide) (by rfl) (by decide) ?_
      refine nd_aload_n hC dX7_count_93 rfl rfl ?_
      refine nd_iload_n hC dX7_count_94 rfl ?_
      refine mo_callV (As := [_]) (d2 := d - 1) hC hw rfl lkX7_325 lyX7_325 (Nat.le_of_ble_eq_true rfl) (by omega) rfl (by exact Nat.le_of_ble_eq_true rfl) (Nat.zero_le _) (Nat.zero_le _) dX7_count_95 rfl ((sp_highestAt hg (by omega) hw (by omega) hl hok hn ?_))
      refine nd_ireturn hC rfl (by first | rfl | exact nd_b_nar _) (by omega) (by omega) dX7_count_98 ((hk A2 _ _ _ (hI2.t (by omega)) (va_up_s _ _ _) hw))
    · refine nd_tableIn hC (tgt := 99) dX7_count_11 (by decide) (by decide) (by rfl) (by decide) ?_
      refine nd_aload_n hC dX7_count_99 rfl rfl ?_
      refine mo_get_known hC hw rfl dX7_count_100 ?_
      refine nd_bipush hC (v := nI 7) (by rfl) dX7_count_103 ?_
      refine nd_ialoadN hC hw.known (by omega) (by decide) dX7_count_105 ?_
      rw [hI2.fs.1]
      refine nd_ireturn hC rfl (by first | rfl | exact nd_b_nar _) (by omega) (by omega) dX7_count_106 ((hk A2 _ _ _ (hI2.t (by omega)) (va_up_s _ _ _) hw))
    · refine nd_tableIn hC (tgt := 107) dX7_count_11 (by decide) (by decide) (by rfl) (by decide) ?_
      refine nd_aload_n hC dX7_count_107 rfl rfl ?_
      refine nd_iload_n hC dX7_count_108 rfl ?_
      refine mo_callV (As := [_]) (d2 := d - 1) hC hw rfl lkX7_293 lyX7_293 (Nat.le_of_ble_eq_true rfl) (by omega) rfl (by exact Nat.le_of_ble_eq_true rfl) (Nat.zero_le _) (Nat.zero_le _) dX7_count_109 rfl ((sp_topAt hg (by omega) hw (by omega) hl hok hn ?_))
      rw [lk_tops_congr hok hn (hI2.fr hS) (hI2.bk hS)]
      refine nd_ireturn hC rfl (by first | rfl | exact nd_b_nar _) (by omega) (by omega) dX7_count_112 ((hk A2 _ _ _ (hI2.t (by omega)) (va_up_s _ _ _) hw))
    · refine nd_tableIn hC (tgt := 113) dX7_count_11 (by decide) (by decide) (by rfl) (by decide) ?_
      refine nd_aload_n hC dX7_count_113 rfl rfl ?_
      refine nd_iload_n hC dX7_count_114 rfl ?_
      refine mo_callV (As := [_]) (d2 := d - 1) hC hw rfl lkX7_296 lyX7_296 (Nat.le_of_ble_eq_true rfl) (by omega) rfl (by exact Nat.le_of_ble_eq_true rfl) (Nat.zero_le _) (Nat.zero_le _) dX7_count_115 rfl ((sp_underAt hg (by omega) hw (by omega) hl hok hn ?_))
      rw [lk_unders_congr hok hn (hI2.fr hS) (hI2.bk hS)]
      refine nd_ireturn hC rfl (by first | rfl | exact nd_b_nar _) (by omega) (by omega) dX7_count_118 ((hk A2 _ _ _ (hI2.t (by omega)) (va_up_s _ _ _) hw))
    · refine nd_tableIn hC (tgt := 119) dX7_count_11 (by decide) (by decide) (by rfl) (by decide) ?_
      refine nd_aload_n hC dX7_count_119 rfl rfl ?_
      refine nd_iload_n hC dX7_count_120 rfl ?_
      refine mo_callV (As := [_]) (d2 := d - 1) hC hw rfl lkX7_328 lyX7_328 (Nat.le_of_ble_eq_true rfl) (by omega) rfl (by exact Nat.le_of_ble_eq_true rfl) (Nat.zero_le _) (Nat.zero_le _) dX7_count_121 rfl ((sp_hiddenAt hg (by omega) hw (by omega) hI2.n hl hok hn ?_))
      rw [lk_tops_congr hok hn (hI2.fr hS) (hI2.bk hS), lk_unders_congr hok hn (hI2.fr hS) (hI2.bk hS), lk_all_congr (hI2.fr hS) (hI2.bk hS)]
      refine nd_ireturn hC rfl (by first | rfl | exact nd_b_nar _) (by omega) (by omega) dX7_count_124 ((hk A2 _ _ _ (hI2.t (by omega)) (va_up_s _ _ _) hw))
    · refine nd_tableIn hC (tgt := 125) dX7_count_11 (by decide) (by decide) (by rfl) (by decide) ?_
      refine nd_aload_n hC dX7_count_125 rfl rfl ?_
      refine mo_get_known hC hw rfl dX7_count_126 ?_
      refine nd_bipush hC (v := nI 6) (by rfl) dX7_count_129 ?_
      refine nd_ialoadN hC hw.known (by omega) (by decide) dX7_count_131 ?_
      rw [hI2.1.2.2.1]
      refine nd_ireturn hC rfl (by first | rfl | exact nd_b_nar _) (by omega) (by omega) dX7_count_132 ((hk A2 _ _ _ (hI2.t (by omega)) (va_up_s _ _ _) hw))
    · refine nd_tableIn hC (tgt := 133) dX7_count_11 (by decide) (by decide) (by rfl) (by decide) ?_
      refine nd_aload_n hC dX7_count_133 rfl rfl ?_
      refine mo_get_taped hC hw rfl dX7_count_134 ?_
      rw [hI2.2.2.2.1]
      refine nd_ireturn hC rfl (by first | rfl | exact nd_b_nar _) (by omega) (by omega) dX7_count_137 ((hk A2 _ _ _ (hI2.t (by omega)) (va_up_s _ _ _) hw))
  · rw [if_neg hc] at hk
    refine nd_tableOut hC (tgt := 138) dX7_count_11 ?_ (by decide) ?_
    · unfold op_in at hc
      rw [decide_eq_true_iff] at hc
      omega
    · refine nd_iconst hC (v := -1) (by rfl) dX7_count_138 ?_
      refine nd_ireturn hC rfl (by first | rfl | exact nd_b_nar _) (by omega) (by omega) dX7_count_139 ((hk A2 _ _ _ (hI2.t (by omega)) (va_up_s _ _ _) hw))
end MO24

