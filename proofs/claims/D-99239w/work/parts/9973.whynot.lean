set_option maxRecDepth 100000
/-! ===== whyNot ===== -/
section CP73
variable {g : nd_G} {d : Nat} {K : nd_K} {h : nd_H} {o : Nat → Nat} {nap : Nat} {ds : List Nat} {gi : Nat → Value} {dss : Nat → List Nat} {S : sy_S}
theorem cx_whyNot (hg : nd_OK g) (hd : 6 ≤ d) (hS : sy_ok S) (hs : cw_S h) (hK : cw_K o nap ds gi dss S h) {a : Nat} {s : sv} {dd : List sv} (ha : a = 1 ∨ a = 9) (hs0 : cs_st h a nap s) (hv : sv_ok (sy_n S) s) (v : Int64) (hk : ∀ h2, ck_fr 72 18 h h2 → cw_f h h2 → cw_S h2 → cw_K o nap ds gi dss S h2 → K (.inl (some (.int (nI (dd_why (sy_N S, s, dd) v.toInt))))) h2) : nd_M g mX1_whyNot d 0 0 [.ref 0, .ref a, .long v] h K := by
  obtain ⟨⟨x0, hO⟩, h17, hkk, -, -, -, -, -, -, -, a12⟩ := id hK
  unfold cx_O at hO
  obtain ⟨fr, bk, fo, mn, ⟨s1, s2, s3, s4⟩, v1, -⟩ := id hs0
  subst v1
  obtain ⟨fa, b1, b2, b3, b4, b5, b6, m, ed, n1, n2, n3, n4⟩ := hkk.1.c
  have hn : sy_n S ≤ 6 := hS.1.1.1
  have h5 := lk_val_le hn hv.1
  have hk0 := hk h ck_fr.rfl cw_f.rfl hs hK
  unfold dd_why at hk hk0
  refine nd_enter hg (by decide) rfl (Nat.le_of_ble_eq_true rfl) (fun X hC => ?_)
  refine nd_lload_n hC dX1_whyNot_0 rfl ?_
  refine nd_ldc2 hC q900 dX1_whyNot_1 ?_
  refine nd_lcmp_ne hC (tgt := 10) dX1_whyNot_4 dX1_whyNot_5 (by decide) (fun hc => ?_) (fun hc => ?_)
  · rw [l_eq_neg1] at hc
    rw [if_neg hc] at hk hk0
    refine nd_lload_n hC dX1_whyNot_10 rfl ?_
    refine nd_lconst hC (v := lN 0) (by rfl) dX1_whyNot_11 ?_
    refine nd_ldc2 hC q2057 dX1_whyNot_12 ?_
    refine nd_v_eq (y := .long (lN 99)) (by rfl) ?_
    refine nd_callS (mm2 := mX1_isIn) (As := [_, _, _]) (mc2 := 0) (ms2 := 0) (d2 := d - 1) hC rfl lkX1_106 lmX1_isIn (Nat.le_of_ble_eq_true rfl) (by omega) rfl (by exact Nat.le_of_ble_eq_true rfl) (by omega) (by omega) dX1_whyNot_15 rfl ((ci_isIn hg ?_))
    have e : (decide (lN 0 ≤ v) && decide (v ≤ lN 99)) = decide (0 ≤ v.toInt ∧ v.toInt ≤ 99) := by
      rw [Bool.eq_iff_iff, Bool.and_eq_true, nd_lle, nd_lle, lN_toInt (by omega), lN_toInt (by omega), decide_eq_true_iff]
      omega
    rw [e]
    first | with_reducible refine nd_if_eqB hC (tgt := 37) dX1_whyNot_18 (by decide) (fun hc2 => ?_) (fun hc2 => ?_) | with_reducible refine nd_if_eqN hC (tgt := 37) (by omega) dX1_whyNot_18 (by decide) (fun hc2 => ?_) (fun hc2 => ?_) | refine nd_if_eq hC (tgt := 37) dX1_whyNot_18 (by decide) (fun hc2 => ?_) (fun hc2 => ?_)
    · have hc2 := of_decide_eq_false hc2
      rw [if_neg hc2] at hk hk0
      have J1 : (v.toInt = 100 ∨ v.toInt = 200) → nd_W g mX1_whyNot d 0 0 K X 53 [some (.ref 0), some (.ref a), some (.long v), none, none] [] h 0 0 := by
        intro q
        rw [if_pos q] at hk0
        refine nd_aload_n hC dX1_whyNot_53 rfl rfl ?_
        refine nd_getN (ci := nX2) hC in_X2 rfl s1 4 (by decide) q310 (fun _ z => z) rfl dX1_whyNot_54 ?_
        refine nd_if_le hC (tgt := 64) dX1_whyNot_57 (by decide) (fun hq => ?_) (fun hq => ?_)
        · have hz : s.1.length = 0 := by
            rw [Int32.le_iff_toInt_le, nI_toInt (by omega), Int32.toInt_zero] at hq
            omega
          rw [if_pos hz] at hk0
          refine nd_iconst hC (v := nI 2) (by rfl) dX1_whyNot_64 ?_
          refine nd_ireturn hC rfl (by first | rfl | exact nd_b_nar _) (by omega) (by omega) dX1_whyNot_65 (hk0)
        · have hz : ¬ s.1.length = 0 := by
            rw [Int32.le_iff_toInt_le, nI_toInt (by omega), Int32.toInt_zero] at hq
            omega
          rw [if_neg hz] at hk0
          refine nd_iconst hC (v := nI 0) (by rfl) dX1_whyNot_60 ?_
          refine nd_goto hC (tgt := 65) dX1_whyNot_61 (by decide) ?_
          refine nd_ireturn hC rfl (by first | rfl | exact nd_b_nar _) (by omega) (by omega) dX1_whyNot_65 (hk0)
      refine nd_lload_n hC dX1_whyNot_37 rfl ?_
      refine nd_ldc2 hC q2087 dX1_whyNot_38 ?_
      refine nd_v_eq (y := .long (lN 100)) (by rfl) ?_
      refine nd_lcmp_eq hC (tgt := 53) dX1_whyNot_41 dX1_whyNot_42 (by decide) (fun hc3 => ?_) (fun hc3 => ?_)
      · exact J1 (Or.inl (by rw [l_eq_lN (by omega)] at hc3; exact hc3))
      · rw [l_eq_lN (by omega)] at hc3
        refine nd_lload_n hC dX1_whyNot_45 rfl ?_
        refine nd_ldc2 hC q2088 dX1_whyNot_46 ?_
        refine nd_v_eq (y := .long (lN 200)) (by rfl) ?_
        refine nd_lcmp_ne hC (tgt := 66) dX1_whyNot_49 dX1_whyNot_50 (by decide) (fun hc4 => ?_) (fun hc4 => ?_)
        · rw [l_eq_lN (by omega)] at hc4
          rw [if_neg (by omega)] at hk0
          have JC : ((1000 ≤ v.toInt ∧ v.toInt ≤ 1599) ∨ (2000 ≤ v.toInt ∧ v.toInt ≤ 2599)) → nd_W g mX1_whyNot d 0 0 K X 92 [some (.ref 0), some (.ref a), some (.long v), none, none] [] h 0 0 := by
            intro q
            rw [if_pos q] at hk0
            obtain ⟨w, hw1⟩ : ∃ w : Nat, v.toInt = (w : Int) := ⟨v.toInt.toNat, by omega⟩
            have hwv := lN_of_toInt hw1 (by omega)
            subst hwv
            rw [hw1] at hk0 q
            refine nd_iconst hC (v := nI 1) (by rfl) dX1_whyNot_92 ?_
            refine nd_goto hC (tgt := 97) dX1_whyNot_93 (by decide) ?_
            refine nd_istore hC dX1_whyNot_97 (Nat.le_of_ble_eq_true rfl) ?_
            refine nd_iload hC dX1_whyNot_99 rfl ?_
            first | with_reducible refine nd_if_eqB hC (tgt := 127) dX1_whyNot_101 (by decide) (fun hq0 => ?_) (fun hq0 => ?_) | with_reducible refine nd_if_eqN hC (tgt := 127) (by omega) dX1_whyNot_101 (by decide) (fun hq0 => ?_) (fun hq0 => ?_) | refine nd_if_eq hC (tgt := 127) dX1_whyNot_101 (by decide) (fun hq0 => ?_) (fun hq0 => ?_)
            · exact absurd hq0 (by decide)
            refine nd_aload_n hC dX1_whyNot_104 rfl rfl ?_
            refine nd_getN (ci := nX2) hC in_X2 rfl s1 0 (by decide) q301 (fun _ z => z) rfl dX1_whyNot_105 ?_
            refine nd_lload_n hC dX1_whyNot_108 rfl ?_
            refine nd_ldc2 hC q2089 dX1_whyNot_109 ?_
            refine nd_v_eq (y := .long (lN 1000)) (by rfl) ?_
            refine nd_lrem hC (by decide) dX1_whyNot_112 ?_
            rw [pk_lRem (by omega) (by omega) (by omega)]
            refine nd_ldc2 hC q2087 dX1_whyNot_113 ?_
            refine nd_v_eq (y := .long (lN 100)) (by rfl) ?_
            refine nd_ldiv hC (by decide) dX1_whyNot_116 ?_
            rw [pk_lDiv (by omega) (by omega) (by omega)]
            refine nd_callV (mm2 := mX3_isCell) (As := [_]) (mc2 := 0) (ms2 := 0) (d2 := d - 1) hC rfl lkX1_171 ⟨rfl, lmX3_isCell⟩ (n3) rfl (Nat.le_of_ble_eq_true rfl) (by omega) rfl (by exact Nat.le_of_ble_eq_true rfl) (by omega) (by omega) dX1_whyNot_117 rfl ((cn_isCell (n := sy_n S) hg (by omega) hkk.1.c hn ?_))
            rw [lN_toInt (by omega)]
            first | with_reducible refine nd_if_eqB hC (tgt := 127) dX1_whyNot_120 (by decide) (fun hq => ?_) (fun hq => ?_) | with_reducible refine nd_if_eqN hC (tgt := 127) (by omega) dX1_whyNot_120 (by decide) (fun hq => ?_) (fun hq => ?_) | refine nd_if_eq hC (tgt := 127) dX1_whyNot_120 (by decide) (fun hq => ?_) (fun hq => ?_)
            · have hq := of_decide_eq_false hq
              rw [if_neg (by show ¬ ((w : Int) % 1000 / 100 < (sy_n S : Int)); omega)] at hk0
              refine nd_iconst hC (v := nI 1) (by rfl) dX1_whyNot_127 ?_
              refine nd_ireturn hC rfl (by first | rfl | exact nd_b_nar _) (by omega) (by omega) dX1_whyNot_128 (hk0)
            · have hq := of_decide_eq_true hq
              rw [if_pos (by show ((w : Int) % 1000 / 100 < (sy_n S : Int)); omega)] at hk0
              refine nd_iconst hC (v := nI 0) (by rfl) dX1_whyNot_123 ?_
              refine nd_goto hC (tgt := 128) dX1_whyNot_124 (by decide) ?_
              refine nd_ireturn hC rfl (by first | rfl | exact nd_b_nar _) (by omega) (by omega) dX1_whyNot_128 (hk0)
          refine nd_lload_n hC dX1_whyNot_66 rfl ?_
          refine nd_ldc2 hC q2089 dX1_whyNot_67 ?_
          refine nd_v_eq (y := .long (lN 1000)) (by rfl) ?_
          refine nd_ldc2 hC q2090 dX1_whyNot_70 ?_
          refine nd_v_eq (y := .long (lN 1599)) (by rfl) ?_
          refine nd_callS (mm2 := mX1_isIn) (As := [_, _, _]) (mc2 := 0) (ms2 := 0) (d2 := d - 1) hC rfl lkX1_106 lmX1_isIn (Nat.le_of_ble_eq_true rfl) (by omega) rfl (by exact Nat.le_of_ble_eq_true rfl) (by omega) (by omega) dX1_whyNot_73 rfl ((ci_isIn hg ?_))
          have e : (decide (lN 1000 ≤ v) && decide (v ≤ lN 1599)) = decide (1000 ≤ v.toInt ∧ v.toInt ≤ 1599) := by
            rw [Bool.eq_iff_iff, Bool.and_eq_true, nd_lle, nd_lle, lN_toInt (by omega), lN_toInt (by omega), decide_eq_true_iff]
            omega
          rw [e]
          first | with_reducible refine nd_if_neB hC (tgt := 92) dX1_whyNot_76 (by decide) (fun hq => ?_) (fun hq => ?_) | with_reducible refine nd_if_neN hC (tgt := 92) (by omega) dX1_whyNot_76 (by decide) (fun hq => ?_) (fun hq => ?_) | refine nd_if_ne hC (tgt := 92) dX1_whyNot_76 (by decide) (fun hq => ?_) (fun hq => ?_)
          · exact JC (Or.inl (of_decide_eq_true hq))
          · have hq := of_decide_eq_false hq
            refine nd_lload_n hC dX1_whyNot_79 rfl ?_
            refine nd_ldc2 hC q2091 dX1_whyNot_80 ?_
            refine nd_v_eq (y := .long (lN 2000)) (by rfl) ?_
            refine nd_ldc2 hC q2092 dX1_whyNot_83 ?_
            refine nd_v_eq (y := .long (lN 2599)) (by rfl) ?_
            refine nd_callS (mm2 := mX1_isIn) (As := [_, _, _]) (mc2 := 0) (ms2 := 0) (d2 := d - 1) hC rfl lkX1_106 lmX1_isIn (Nat.le_of_ble_eq_true rfl) (by omega) rfl (by exact Nat.le_of_ble_eq_true rfl) (by omega) (by omega) dX1_whyNot_86 rfl ((ci_isIn hg ?_))
            have e : (decide (lN 2000 ≤ v) && decide (v ≤ lN 2599)) = decide (2000 ≤ v.toInt ∧ v.toInt ≤ 2599) := by
              rw [Bool.eq_iff_iff, Bool.and_eq_true, nd_lle, nd_lle, lN_toInt (by omega), lN_toInt (by omega), decide_eq_true_iff]
              omega
            rw [e]
            first | with_reducible refine nd_if_eqB hC (tgt := 96) dX1_whyNot_89 (by decide) (fun hq2 => ?_) (fun hq2 => ?_) | with_reducible refine nd_if_eqN hC (tgt := 96) (by omega) dX1_whyNot_89 (by decide) (fun hq2 => ?_) (fun hq2 => ?_) | refine nd_if_eq hC (tgt := 96) dX1_whyNot_89 (by decide) (fun hq2 => ?_) (fun hq2 => ?_)
            · have hq2 := of_decide_eq_false hq2
              rw [if_neg (by omega)] at hk0
              refine nd_iconst hC (v := nI 0) (by rfl) dX1_whyNot_96 ?_
              refine nd_istore hC dX1_whyNot_97 (Nat.le_of_ble_eq_true rfl) ?_
              refine nd_iload hC dX1_whyNot_99 rfl ?_
              first | with_reducible refine nd_if_eqB hC (tgt := 127) dX1_whyNot_101 (by decide) (fun hq0 => ?_) (fun hq0 => ?_) | with_reducible refine nd_if_eqN hC (tgt := 127) (by omega) dX1_whyNot_101 (by decide) (fun hq0 => ?_) (fun hq0 => ?_) | refine nd_if_eq hC (tgt := 127) dX1_whyNot_101 (by decide) (fun hq0 => ?_) (fun hq0 => ?_)
              · refine nd_iconst hC (v := nI 1) (by rfl) dX1_whyNot_127 ?_
                refine nd_ireturn hC rfl (by first | rfl | exact nd_b_nar _) (by omega) (by omega) dX1_whyNot_128 (hk0)
              · exact absurd rfl hq0
            · exact JC (Or.inr (of_decide_eq_true hq2))
        · exact J1 (Or.inr (by rw [l_eq_lN (by omega)] at hc4; exact hc4))
    · have hc2 := of_decide_eq_true hc2
      rw [if_pos hc2] at hk hk0
      obtain ⟨w, hw1⟩ : ∃ w : Nat, v.toInt = (w : Int) := ⟨v.toInt.toNat, by omega⟩
      have hwv := lN_of_toInt hw1 (by omega)
      subst hwv
      rw [hw1] at hk hc2
      refine nd_aload_n hC dX1_whyNot_21 rfl rfl ?_
      refine nd_aload_n hC dX1_whyNot_22 rfl rfl ?_
      refine nd_lload_n hC dX1_whyNot_23 rfl ?_
      refine nd_ldc2 hC q2068 dX1_whyNot_24 ?_
      refine nd_v_eq (y := .long (lN 10)) (by rfl) ?_
      refine nd_ldiv hC (by decide) dX1_whyNot_27 ?_
      rw [pk_lDiv (by omega) (by omega) (by omega)]
      refine nd_lload_n hC dX1_whyNot_28 rfl ?_
      refine nd_ldc2 hC q2068 dX1_whyNot_29 ?_
      refine nd_v_eq (y := .long (lN 10)) (by rfl) ?_
      refine nd_lrem hC (by decide) dX1_whyNot_32 ?_
      rw [pk_lRem (by omega) (by omega) (by omega)]
      refine nd_callV (mm2 := mX1_whyFold) (As := [_, _, _]) (mc2 := 0) (ms2 := 0) (d2 := d - 1) hC rfl lkX1_293 ⟨rfl, lmX1_whyFold⟩ (hO) rfl (Nat.le_of_ble_eq_true rfl) (by omega) rfl (by exact Nat.le_of_ble_eq_true rfl) (by omega) (by omega) dX1_whyNot_33 rfl ((cx_whyFold hg (by omega) hS hs hK ha hs0 hv ?_))
      intro h2 f fw hs2 hK2
      have hk2 := hk h2 f fw hs2 hK2
      have ec : (wf_c (lk_run (lk_flat (sy_n S)) s.1) (lN (w / 10)) (lN (w % 10)) = true) ↔ (1 ≤ (w : Int) / 10 ∧ (w : Int) / 10 < (lk_run (lk_flat (nk_n (sy_N S))) s.1).length ∧ (w : Int) % 10 ≤ 3) := by
        show _ ↔ (1 ≤ (w : Int) / 10 ∧ (w : Int) / 10 < ((lk_run (lk_flat (sy_n S)) s.1).length : Nat) ∧ (w : Int) % 10 ≤ 3)
        unfold wf_c
        rw [Bool.and_eq_true, Bool.and_eq_true, nd_lle, nd_lle, lN_toInt (by omega), lN_toInt (by omega), lN_toInt (by omega), lN_toInt (by omega), decide_eq_true_iff]
        omega
      by_cases hz : (1 ≤ (w : Int) / 10 ∧ (w : Int) / 10 < (lk_run (lk_flat (nk_n (sy_N S))) s.1).length ∧ (w : Int) % 10 ≤ 3)
      · rw [if_pos hz] at hk2
        rw [ec.2 hz]
        refine nd_ireturn hC rfl (by first | rfl | exact nd_b_nar _) (by omega) (by omega) dX1_whyNot_36 (hk2)
      · rw [if_neg hz] at hk2
        rw [Bool.eq_false_iff.2 (fun q => hz (ec.1 q))]
        refine nd_ireturn hC rfl (by first | rfl | exact nd_b_nar _) (by omega) (by omega) dX1_whyNot_36 (hk2)
  · rw [l_eq_neg1] at hc
    rw [if_pos hc] at hk0
    refine nd_iconst hC (v := nI 0) (by rfl) dX1_whyNot_8 ?_
    refine nd_ireturn hC rfl (by first | rfl | exact nd_b_nar _) (by omega) (by omega) dX1_whyNot_9 (hk0)
end CP73

