set_option maxRecDepth 100000
theorem lN_of_toInt {v : Int64} {w : Nat} (h : v.toInt = (w : Int)) (hw : w < 2 ^ 31) : v = lN w := by
  rw [← Int64.toInt_inj, lN_toInt hw]; exact h
theorem l_eq_neg1 {v : Int64} : v = -1 ↔ v.toInt = -1 := by
  rw [← Int64.toInt_inj]; exact Iff.rfl
theorem l_eq_lN {v : Int64} {w : Nat} (hw : w < 2 ^ 31) : v = lN w ↔ v.toInt = (w : Int) := by
  rw [← Int64.toInt_inj, lN_toInt hw]
section MO29
variable {g : nd_G} {d : Nat} {K : nd_K} {h h0 : nd_H} {A : Nat → Nat → Int32} {F : Nat → Int32} {B : Nat → Nat → Int64} {f : Nat → Int32}
theorem sp_whyTold (hg : nd_OK g) (hd : 4 ≤ d) {tt : Nat} {S : sy_S} (hI : mo_I tt S A F B) (hS : sy_ok S) (hw : mo_W h0 A F B h) (v : Int64) (hk : ∀ A2 h2, mo_k A A2 → mo_I tt S A2 F B → A2 23 = A 23 → mo_W h0 A2 F B h2 → K (.inl (some (.int (nI (dd_why (sy_p S) v.toInt))))) h2) : nd_M g mX7_whyTold d 0 0 [.ref 101, .long v] h K := by
  have h5 := sy_len5 hS
  have hok := sy_l_ok hS
  have hwd := lk_width hok
  have hn : sy_n S ≤ 6 := hS.1.1.1
  have hk0 := hk A h mo_k.rfl hI rfl hw
  unfold dd_why at hk hk0
  refine nd_enter hg (by decide) rfl (Nat.le_of_ble_eq_true rfl) (fun X hC => ?_)
  refine nd_lload_n hC dX7_whyTold_0 rfl ?_
  refine nd_ldc2 hC q3196 dX7_whyTold_1 ?_
  refine nd_lcmp_ne hC (tgt := 10) dX7_whyTold_4 dX7_whyTold_5 (by decide) (fun hc => ?_) (fun hc => ?_)
  · rw [l_eq_neg1] at hc
    rw [if_neg hc] at hk hk0
    refine nd_lload_n hC dX7_whyTold_10 rfl ?_
    refine nd_lconst hC (v := lN 0) (by rfl) dX7_whyTold_11 ?_
    refine nd_ldc2 hC q3171 dX7_whyTold_12 ?_
    refine nd_v_eq (y := .long (lN 99)) (by rfl) ?_
    refine mo_callS (As := [_, _, _]) (d2 := d - 1) hC rfl lkX7_138 lyX7_138 (Nat.le_of_ble_eq_true rfl) (by omega) rfl (by exact Nat.le_of_ble_eq_true rfl) (Nat.zero_le _) (Nat.zero_le _) dX7_whyTold_15 rfl ((sp_within hg ?_))
    have e : (decide (lN 0 ≤ v) && decide (v ≤ lN 99)) = decide (0 ≤ v.toInt ∧ v.toInt ≤ 99) := by
      rw [Bool.eq_iff_iff, Bool.and_eq_true, nd_lle, nd_lle, lN_toInt (by omega), lN_toInt (by omega), decide_eq_true_iff]
      omega
    rw [e]
    first | with_reducible refine nd_if_eqB hC (tgt := 48) dX7_whyTold_18 (by decide) (fun hc2 => ?_) (fun hc2 => ?_) | with_reducible refine nd_if_eqN hC (tgt := 48) (by omega) dX7_whyTold_18 (by decide) (fun hc2 => ?_) (fun hc2 => ?_) | refine nd_if_eq hC (tgt := 48) dX7_whyTold_18 (by decide) (fun hc2 => ?_) (fun hc2 => ?_)
    · have hc2 := of_decide_eq_false hc2
      rw [if_neg hc2] at hk hk0
      have J1 : (v.toInt = 100 ∨ v.toInt = 200) → nd_W g mX7_whyTold d 0 0 K X 64 [some (.ref 101), some (.long v), none] [] h 0 0 := by
        intro q
        rw [if_pos q] at hk0
        refine nd_aload_n hC dX7_whyTold_64 rfl rfl ?_
        refine mo_get_known hC hw rfl dX7_whyTold_65 ?_
        refine nd_bipush hC (v := nI 7) (by rfl) dX7_whyTold_68 ?_
        refine nd_ialoadN hC hw.known (by omega) (by decide) dX7_whyTold_70 ?_
        rw [hI.fs.1]
        first | with_reducible refine nd_if_neB hC (tgt := 78) dX7_whyTold_71 (by decide) (fun hq => ?_) (fun hq => ?_) | with_reducible refine nd_if_neN hC (tgt := 78) (by omega) dX7_whyTold_71 (by decide) (fun hq => ?_) (fun hq => ?_) | refine nd_if_ne hC (tgt := 78) dX7_whyTold_71 (by decide) (fun hq => ?_) (fun hq => ?_)
        · rw [if_neg hq] at hk0
          refine nd_iconst hC (v := nI 0) (by rfl) dX7_whyTold_78 ?_
          refine nd_ireturn hC rfl (by first | rfl | exact nd_b_nar _) (by omega) (by omega) dX7_whyTold_79 (hk0)
        · rw [if_pos hq] at hk0
          refine nd_iconst hC (v := nI 2) (by rfl) dX7_whyTold_74 ?_
          refine nd_goto hC (tgt := 79) dX7_whyTold_75 (by decide) ?_
          refine nd_ireturn hC rfl (by first | rfl | exact nd_b_nar _) (by omega) (by omega) dX7_whyTold_79 (hk0)
      refine nd_lload_n hC dX7_whyTold_48 rfl ?_
      refine nd_ldc2 hC q3197 dX7_whyTold_49 ?_
      refine nd_v_eq (y := .long (lN 100)) (by rfl) ?_
      refine nd_lcmp_eq hC (tgt := 64) dX7_whyTold_52 dX7_whyTold_53 (by decide) (fun hc3 => ?_) (fun hc3 => ?_)
      · exact J1 (Or.inl (by rw [l_eq_lN (by omega)] at hc3; exact hc3))
      · rw [l_eq_lN (by omega)] at hc3
        refine nd_lload_n hC dX7_whyTold_56 rfl ?_
        refine nd_ldc2 hC q3198 dX7_whyTold_57 ?_
        refine nd_v_eq (y := .long (lN 200)) (by rfl) ?_
        refine nd_lcmp_ne hC (tgt := 80) dX7_whyTold_60 dX7_whyTold_61 (by decide) (fun hc4 => ?_) (fun hc4 => ?_)
        · rw [l_eq_lN (by omega)] at hc4
          rw [if_neg (by omega)] at hk0
          have JC : ((1000 ≤ v.toInt ∧ v.toInt ≤ 1599) ∨ (2000 ≤ v.toInt ∧ v.toInt ≤ 2599)) → nd_W g mX7_whyTold d 0 0 K X 106 [some (.ref 101), some (.long v), none] [] h 0 0 := by
            intro q
            rw [if_pos q] at hk0
            obtain ⟨w, hw1⟩ : ∃ w : Nat, v.toInt = (w : Int) := ⟨v.toInt.toNat, by omega⟩
            have hwv := lN_of_toInt hw1 (by omega)
            subst hwv
            rw [hw1] at hk0 q
            refine nd_aload_n hC dX7_whyTold_106 rfl rfl ?_
            refine nd_lload_n hC dX7_whyTold_107 rfl ?_
            refine nd_ldc2 hC q3199 dX7_whyTold_108 ?_
            refine nd_v_eq (y := .long (lN 1000)) (by rfl) ?_
            refine nd_lrem hC (by decide) dX7_whyTold_111 ?_
            rw [pk_lRem (by omega) (by omega) (by omega)]
            refine nd_ldc2 hC q3197 dX7_whyTold_112 ?_
            refine nd_v_eq (y := .long (lN 100)) (by rfl) ?_
            refine nd_ldiv hC (by decide) dX7_whyTold_115 ?_
            rw [pk_lDiv (by omega) (by omega) (by omega)]
            refine mo_callV (As := [_]) (d2 := d - 1) hC hw rfl lkX7_337 lyX7_337 (Nat.le_of_ble_eq_true rfl) (by omega) rfl (by exact Nat.le_of_ble_eq_true rfl) (Nat.zero_le _) (Nat.zero_le _) dX7_whyTold_116 rfl ((sp_isCell hg (by omega) hw hI.n hn ?_))
            rw [lN_toInt (by omega)]
            first | with_reducible refine nd_if_eqB hC (tgt := 126) dX7_whyTold_119 (by decide) (fun hq => ?_) (fun hq => ?_) | with_reducible refine nd_if_eqN hC (tgt := 126) (by omega) dX7_whyTold_119 (by decide) (fun hq => ?_) (fun hq => ?_) | refine nd_if_eq hC (tgt := 126) dX7_whyTold_119 (by decide) (fun hq => ?_) (fun hq => ?_)
            · have hq := of_decide_eq_false hq
              rw [if_neg (by show ¬ ((w : Int) % 1000 / 100 < (sy_n S : Int)); omega)] at hk0
              refine nd_iconst hC (v := nI 1) (by rfl) dX7_whyTold_126 ?_
              refine nd_goto hC (tgt := 131) dX7_whyTold_127 (by decide) ?_
              refine nd_ireturn hC rfl (by first | rfl | exact nd_b_nar _) (by omega) (by omega) dX7_whyTold_131 (hk0)
            · have hq := of_decide_eq_true hq
              rw [if_pos (by show ((w : Int) % 1000 / 100 < (sy_n S : Int)); omega)] at hk0
              refine nd_iconst hC (v := nI 0) (by rfl) dX7_whyTold_122 ?_
              refine nd_goto hC (tgt := 131) dX7_whyTold_123 (by decide) ?_
              refine nd_ireturn hC rfl (by first | rfl | exact nd_b_nar _) (by omega) (by omega) dX7_whyTold_131 (hk0)
          refine nd_lload_n hC dX7_whyTold_80 rfl ?_
          refine nd_ldc2 hC q3199 dX7_whyTold_81 ?_
          refine nd_v_eq (y := .long (lN 1000)) (by rfl) ?_
          refine nd_ldc2 hC q3200 dX7_whyTold_84 ?_
          refine nd_v_eq (y := .long (lN 1599)) (by rfl) ?_
          refine mo_callS (As := [_, _, _]) (d2 := d - 1) hC rfl lkX7_138 lyX7_138 (Nat.le_of_ble_eq_true rfl) (by omega) rfl (by exact Nat.le_of_ble_eq_true rfl) (Nat.zero_le _) (Nat.zero_le _) dX7_whyTold_87 rfl ((sp_within hg ?_))
          have e : (decide (lN 1000 ≤ v) && decide (v ≤ lN 1599)) = decide (1000 ≤ v.toInt ∧ v.toInt ≤ 1599) := by
            rw [Bool.eq_iff_iff, Bool.and_eq_true, nd_lle, nd_lle, lN_toInt (by omega), lN_toInt (by omega), decide_eq_true_iff]
            omega
          rw [e]
          first | with_reducible refine nd_if_neB hC (tgt := 106) dX7_whyTold_90 (by decide) (fun hq => ?_) (fun hq => ?_) | with_reducible refine nd_if_neN hC (tgt := 106) (by omega) dX7_whyTold_90 (by decide) (fun hq => ?_) (fun hq => ?_) | refine nd_if_ne hC (tgt := 106) dX7_whyTold_90 (by decide) (fun hq => ?_) (fun hq => ?_)
          · exact JC (Or.inl (of_decide_eq_true hq))
          · have hq := of_decide_eq_false hq
            refine nd_lload_n hC dX7_whyTold_93 rfl ?_
            refine nd_ldc2 hC q3201 dX7_whyTold_94 ?_
            refine nd_v_eq (y := .long (lN 2000)) (by rfl) ?_
            refine nd_ldc2 hC q3202 dX7_whyTold_97 ?_
            refine nd_v_eq (y := .long (lN 2599)) (by rfl) ?_
            refine mo_callS (As := [_, _, _]) (d2 := d - 1) hC rfl lkX7_138 lyX7_138 (Nat.le_of_ble_eq_true rfl) (by omega) rfl (by exact Nat.le_of_ble_eq_true rfl) (Nat.zero_le _) (Nat.zero_le _) dX7_whyTold_100 rfl ((sp_within hg ?_))
            have e : (decide (lN 2000 ≤ v) && decide (v ≤ lN 2599)) = decide (2000 ≤ v.toInt ∧ v.toInt ≤ 2599) := by
              rw [Bool.eq_iff_iff, Bool.and_eq_true, nd_lle, nd_lle, lN_toInt (by omega), lN_toInt (by omega), decide_eq_true_iff]
              omega
            rw [e]
            first | with_reducible refine nd_if_eqB hC (tgt := 130) dX7_whyTold_103 (by decide) (fun hq2 => ?_) (fun hq2 => ?_) | with_reducible refine nd_if_eqN hC (tgt := 130) (by omega) dX7_whyTold_103 (by decide) (fun hq2 => ?_) (fun hq2 => ?_) | refine nd_if_eq hC (tgt := 130) dX7_whyTold_103 (by decide) (fun hq2 => ?_) (fun hq2 => ?_)
            · have hq2 := of_decide_eq_false hq2
              rw [if_neg (by omega)] at hk0
              refine nd_iconst hC (v := nI 1) (by rfl) dX7_whyTold_130 ?_
              refine nd_ireturn hC rfl (by first | rfl | exact nd_b_nar _) (by omega) (by omega) dX7_whyTold_131 (hk0)
            · have hq2 := of_decide_eq_true hq2
              exact JC (Or.inr hq2)
        · exact J1 (Or.inr (by rw [l_eq_lN (by omega)] at hc4; exact hc4))
    · have hc2 := of_decide_eq_true hc2
      rw [if_pos hc2] at hk hk0
      obtain ⟨w, hw1⟩ : ∃ w : Nat, v.toInt = (w : Int) := ⟨v.toInt.toNat, by omega⟩
      have hwv := lN_of_toInt hw1 (by omega)
      subst hwv
      rw [hw1] at hk hc2
      refine nd_aload_n hC dX7_whyTold_21 rfl rfl ?_
      refine nd_aload_n hC dX7_whyTold_22 rfl rfl ?_
      refine mo_callV (As := []) (d2 := d - 1) hC hw rfl lkX7_343 lyX7_343 (Nat.le_of_ble_eq_true rfl) (by omega) rfl (by exact Nat.le_of_ble_eq_true rfl) (Nat.zero_le _) (Nat.zero_le _) dX7_whyTold_23 rfl ((sp_now hg (by omega) hI hS hw ?_))
      intro A2 h2 hl kA hI2 hw
      have hk2 := hk A2 h2 kA hI2 (kA 23 rfl) hw
      refine nd_lload_n hC dX7_whyTold_26 rfl ?_
      refine nd_ldc2 hC q3176 dX7_whyTold_27 ?_
      refine nd_v_eq (y := .long (lN 10)) (by rfl) ?_
      refine nd_ldiv hC (by decide) dX7_whyTold_30 ?_
      rw [pk_lDiv (by omega) (by omega) (by omega)]
      refine nd_lload_n hC dX7_whyTold_31 rfl ?_
      refine nd_ldc2 hC q3176 dX7_whyTold_32 ?_
      refine nd_v_eq (y := .long (lN 10)) (by rfl) ?_
      refine nd_lrem hC (by decide) dX7_whyTold_35 ?_
      rw [pk_lRem (by omega) (by omega) (by omega)]
      refine mo_callV (As := [_, _, _]) (d2 := d - 1) hC hw rfl lkX7_358 lyX7_358 (Nat.le_of_ble_eq_true rfl) (by omega) rfl (by exact Nat.le_of_ble_eq_true rfl) (Nat.zero_le _) (Nat.zero_le _) dX7_whyTold_36 rfl ((sp_isFold hg (by omega) hw (by omega) hl.1 (by omega) ?_))
      rw [lN_toInt (by omega), lN_toInt (by omega)]
      first | with_reducible refine nd_if_eqB hC (tgt := 46) dX7_whyTold_39 (by decide) (fun hq => ?_) (fun hq => ?_) | with_reducible refine nd_if_eqN hC (tgt := 46) (by omega) dX7_whyTold_39 (by decide) (fun hq => ?_) (fun hq => ?_) | refine nd_if_eq hC (tgt := 46) dX7_whyTold_39 (by decide) (fun hq => ?_) (fun hq => ?_)
      · have hq := of_decide_eq_false hq
        rw [if_neg (by show ¬ (1 ≤ (w : Int) / 10 ∧ (w : Int) / 10 < ((sy_l S).length : Nat) ∧ (w : Int) % 10 ≤ 3); omega)] at hk2
        refine nd_iconst hC (v := nI 1) (by rfl) dX7_whyTold_46 ?_
        refine nd_ireturn hC rfl (by first | rfl | exact nd_b_nar _) (by omega) (by omega) dX7_whyTold_47 (hk2)
      · have hq := of_decide_eq_true hq
        rw [if_pos (by show (1 ≤ (w : Int) / 10 ∧ (w : Int) / 10 < ((sy_l S).length : Nat) ∧ (w : Int) % 10 ≤ 3); omega)] at hk2
        refine nd_iconst hC (v := nI 0) (by rfl) dX7_whyTold_42 ?_
        refine nd_goto hC (tgt := 47) dX7_whyTold_43 (by decide) ?_
        refine nd_ireturn hC rfl (by first | rfl | exact nd_b_nar _) (by omega) (by omega) dX7_whyTold_47 (hk2)
  · rw [l_eq_neg1] at hc
    rw [if_pos hc] at hk0
    refine nd_iconst hC (v := nI 0) (by rfl) dX7_whyTold_8 ?_
    refine nd_ireturn hC rfl (by first | rfl | exact nd_b_nar _) (by omega) (by omega) dX7_whyTold_9 (hk0)
end MO29

