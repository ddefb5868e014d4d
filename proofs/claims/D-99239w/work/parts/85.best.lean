set_option maxRecDepth 100000
/-! ===== the best row ===== -/
def be_no (v mo : Int64) (fw more : Int32) : Prop := v < mo ∨ (v = mo ∧ (fw = -1 ∨ fw ≤ more))
def be_min : Int64 := -9223372036854775808
section BE85
variable {g : nd_G} {d : Nat} {K : nd_K} {h : nd_H}
theorem cf_valueX27 (hg : nd_OK g) (hd : 1 ≤ d) {Q : nd_H → Prop} {b L : Nat} {more folds : Int32} {fs : List Value} {v : Bool} (hb : h[b]? = some (.inr (nX27, fs))) (E : ∀ K, (∀ h2, Q h2 → K (.inl (some (.int (nd_b v)))) h2) → nd_M g mX27_isSo (d - 1) 0 0 [.ref b, .ref L, .int folds] h K) (hk : ∀ h2, Q h2 → K (.inl (some (.long (if v then lN 1 else be_min)))) h2) : nd_M g mX26_value d 0 0 [.ref b, .ref L, .int more, .int folds] h K := by
  refine nd_enter hg (by decide) rfl (Nat.le_of_ble_eq_true rfl) (fun X hC => ?_)
  refine nd_aload_n hC dX26_value_0 rfl rfl ?_
  refine nd_aload_n hC dX26_value_1 rfl rfl ?_
  refine nd_iload_n hC dX26_value_2 rfl ?_
  refine nd_callU (mm2 := mX27_isSo) (As := [_, _]) (mc2 := 0) (ms2 := 0) (d2 := d - 1) (owner := "NapkinDeeds$Fewest") (x := ⟨"NapkinDeeds$Fewest", "isSo", "(LNapkinDeeds$Look;I)Z"⟩) (n := 2) hC rfl (va_cwA 2 hC.hts (lw_U q869 q871 q877 q878 q203 q879) rfl rfl rfl (nd_dec hC q870) ⟨by decide, by decide, by decide +kernel⟩ (nd_roomR (by omega) (by decide))) hb rfl (by decide) (by omega) rfl (by exact Nat.le_of_ble_eq_true rfl) (by omega) (by omega) dX26_value_3 rfl (E _ (fun h2 hq => ?_))
  have R := hk h2 hq
  first | with_reducible refine nd_if_eqB hC (tgt := 13) dX26_value_6 (by decide) (fun hc => ?_) (fun hc => ?_) | with_reducible refine nd_if_eqN hC (tgt := 13) (by omega) dX26_value_6 (by decide) (fun hc => ?_) (fun hc => ?_) | refine nd_if_eq hC (tgt := 13) dX26_value_6 (by decide) (fun hc => ?_) (fun hc => ?_)
  · rw [hc] at R
    refine nd_ldc2 hC q914 dX26_value_13 ?_
    refine nd_lreturn hC rfl (by omega) (by omega) dX26_value_16 (R)
  · rw [hc] at R
    refine nd_lconst hC (v := lN 1) (by rfl) dX26_value_9 ?_
    refine nd_goto hC (tgt := 16) dX26_value_10 (by decide) ?_
    refine nd_lreturn hC rfl (by omega) (by omega) dX26_value_16 (R)
theorem cb_seesX27 (hg : nd_OK g) (hd : 1 ≤ d) {Q : nd_H → Prop} {b L rb bb : Nat} {more folds fw : Int32} {x3 x5 x6 x7 : Value} {v mo : Int64} {f bf : Nat → Int32} (hb : h[b]? = some (.inr (nX27, [.ref bb, .int fw, .long mo, x3, .ref rb, x5, x6, x7]))) (hne : b ≠ rb ∧ b ≠ bb) (E : ∀ K, (∀ h2, Q h2 → K (.inl (some (.long v))) h2) → nd_M g mX26_value (d - 1) 0 0 [.ref b, .ref L, .int more, .int folds] h K) (hQ : ∀ h2, Q h2 → h2[b]? = h[b]? ∧ h2[rb]? = some (.inl (0, 5, .inl f)) ∧ h2[bb]? = some (.inl (0, 5, .inl bf))) (hk0 : be_no v mo fw more → ∀ h2, Q h2 → K (.inl none) h2) (hk1 : ¬ be_no v mo fw more → ∀ h2, Q h2 → K (.inl none) ((h2.set b (.inr (nX27, [.ref bb, .int more, .long v, x3, .ref rb, x5, x6, x7]))).set bb (.inl (0, 5, .inl (va_cpy f bf 0 0 5))))) : nd_M g mX25_sees d 0 0 [.ref b, .ref L, .int more, .int folds] h K := by
  refine nd_enter hg (by decide) rfl (Nat.le_of_ble_eq_true rfl) (fun X hC => ?_)
  refine nd_aload_n hC dX25_sees_0 rfl rfl ?_
  refine nd_aload_n hC dX25_sees_1 rfl rfl ?_
  refine nd_iload_n hC dX25_sees_2 rfl ?_
  refine nd_iload_n hC dX25_sees_3 rfl ?_
  refine nd_callU (mm2 := mX26_value) (As := [_, _, _]) (mc2 := 0) (ms2 := 0) (d2 := d - 1) (owner := "NapkinDeeds$Best") (x := ⟨"NapkinDeeds$Best", "value", "(LNapkinDeeds$Look;II)J"⟩) (n := 3) hC rfl (va_cwA 3 hC.hts (lw_U q908 q910 q949 q912 q202 q913) rfl rfl rfl (nd_dec hC q909) ⟨by decide, by decide, by decide +kernel⟩ (nd_roomR (by omega) (by decide))) hb rfl (by decide) (by omega) rfl (by exact Nat.le_of_ble_eq_true rfl) (by omega) (by omega) dX25_sees_4 rfl (E _ (fun h2 hq => ?_))
  obtain ⟨e1, hrow, hbest⟩ := hQ h2 hq
  have hb := e1.trans hb
  have JN : be_no v mo fw more → nd_W g mX25_sees d 0 0 K X 45 [some (.ref b), some (.ref L), some (.int more), some (.int folds), some (.long v), none] [] h2 0 0 := by
    intro hn
    have R := hk0 hn h2 hq
    refine nd_return hC rfl (by omega) (by omega) dX25_sees_45 (R)
  have JY : ¬ be_no v mo fw more → nd_W g mX25_sees d 0 0 K X 46 [some (.ref b), some (.ref L), some (.int more), some (.int folds), some (.long v), none] [] h2 0 0 := by
    intro hn
    have R := hk1 hn h2 hq
    refine nd_aload_n hC dX25_sees_46 rfl rfl ?_
    refine nd_lload hC dX25_sees_47 rfl ?_
    refine nd_put (ci := nX27) hC in_X27 rfl hb 2 (by decide) tyX27 tyX27_ok (by decide +kernel) q780 (fun _ z => z) rfl rfl rfl (by show 2 < 8; decide) dX25_sees_49 ?_
    have hb3 : (h2.set b (.inr (nX27, [.ref bb, .int fw, .long v, x3, .ref rb, x5, x6, x7])))[b]? = some (.inr (nX27, [.ref bb, .int fw, .long v, x3, .ref rb, x5, x6, x7])) := List.getElem?_set_self (nd_get_lt hb)
    refine nd_aload_n hC dX25_sees_52 rfl rfl ?_
    refine nd_iload_n hC dX25_sees_53 rfl ?_
    refine nd_put (ci := nX27) hC in_X27 rfl hb3 1 (by decide) tyX27 tyX27_ok (by decide +kernel) q777 (fun _ z => z) rfl rfl rfl (by show 1 < 8; decide) dX25_sees_54 ?_
    rw [List.set_set]
    have hb4 : (h2.set b (.inr (nX27, [.ref bb, .int more, .long v, x3, .ref rb, x5, x6, x7])))[b]? = some (.inr (nX27, [.ref bb, .int more, .long v, x3, .ref rb, x5, x6, x7])) := List.getElem?_set_self (nd_get_lt hb)
    have hr4 : (h2.set b (.inr (nX27, [.ref bb, .int more, .long v, x3, .ref rb, x5, x6, x7])))[rb]? = some (.inl (0, 5, .inl f)) := (List.getElem?_set_ne hne.1).trans hrow
    have hB4 : (h2.set b (.inr (nX27, [.ref bb, .int more, .long v, x3, .ref rb, x5, x6, x7])))[bb]? = some (.inl (0, 5, .inl bf)) := (List.getElem?_set_ne hne.2).trans hbest
    refine nd_aload_n hC dX25_sees_57 rfl rfl ?_
    refine nd_get (ci := nX27) hC in_X27 rfl hb4 4 (by decide) q784 (u_same (hC.hts _ q785)) rfl dX25_sees_58 ?_
    refine nd_iconst hC (v := nI 0) (by rfl) dX25_sees_61 ?_
    refine nd_aload_n hC dX25_sees_62 rfl rfl ?_
    refine nd_get (ci := nX27) hC in_X27 rfl hb4 0 (by decide) q776 (fun _ z => z) rfl dX25_sees_63 ?_
    refine nd_iconst hC (v := nI 0) (by rfl) dX25_sees_66 ?_
    refine nd_iconst hC (v := nI 5) (by rfl) dX25_sees_67 ?_
    refine nd_copyI hC q956 hr4 hB4 (by omega) (by omega) (by omega) (by omega) (by exact Nat.le_of_ble_eq_true rfl) dX25_sees_68 ?_
    refine nd_return hC rfl (by omega) (by omega) dX25_sees_71 (R)
  unfold be_no at JN JY
  refine nd_lstore hC dX25_sees_7 (Nat.le_of_ble_eq_true rfl) ?_
  refine nd_lload hC dX25_sees_9 rfl ?_
  refine nd_aload_n hC dX25_sees_11 rfl rfl ?_
  refine nd_get (ci := nX27) hC in_X27 rfl hb 2 (by decide) q780 (fun _ z => z) rfl dX25_sees_12 ?_
  refine nd_lcmp_lt hC (tgt := 45) dX25_sees_15 dX25_sees_16 (by decide) (fun hc1 => ?_) (fun hc1 => ?_)
  · exact JN (Or.inl hc1)
  · refine nd_lload hC dX25_sees_19 rfl ?_
    refine nd_aload_n hC dX25_sees_21 rfl rfl ?_
    refine nd_get (ci := nX27) hC in_X27 rfl hb 2 (by decide) q780 (fun _ z => z) rfl dX25_sees_22 ?_
    refine nd_lcmp_ne hC (tgt := 46) dX25_sees_25 dX25_sees_26 (by decide) (fun hc2 => ?_) (fun hc2 => ?_)
    · exact JY (fun q => q.elim (fun q => hc1 q) (fun q => hc2 q.1))
    · refine nd_aload_n hC dX25_sees_29 rfl rfl ?_
      refine nd_get (ci := nX27) hC in_X27 rfl hb 1 (by decide) q777 (fun _ z => z) rfl dX25_sees_30 ?_
      refine nd_iconst hC (v := -1) rfl dX25_sees_33 ?_
      refine nd_icmp_eq hC (tgt := 45) dX25_sees_34 (by decide) (fun hc3 => ?_) (fun hc3 => ?_)
      · exact JN (Or.inr ⟨hc2, Or.inl hc3⟩)
      · refine nd_iload_n hC dX25_sees_37 rfl ?_
        refine nd_aload_n hC dX25_sees_38 rfl rfl ?_
        refine nd_get (ci := nX27) hC in_X27 rfl hb 1 (by decide) q777 (fun _ z => z) rfl dX25_sees_39 ?_
        refine nd_icmp_lt hC (tgt := 46) dX25_sees_42 (by decide) (fun hc4 => ?_) (fun hc4 => ?_)
        · exact JY (fun q => q.elim (fun q => hc1 q) (fun q => q.2.elim hc3 (fun q => absurd hc4 (Int32.not_lt.mpr q))))
        · exact JN (Or.inr ⟨hc2, Or.inr (Int32.not_lt.mp hc4)⟩)
theorem cf_valueX30 (hg : nd_OK g) (hd : 1 ≤ d) {Q : nd_H → Prop} {b L : Nat} {more folds : Int32} {fs : List Value} {v : Bool} (hb : h[b]? = some (.inr (nX30, fs))) (E : ∀ K, (∀ h2, Q h2 → K (.inl (some (.int (nd_b v)))) h2) → nd_M g mX30_isSo (d - 1) 0 0 [.ref b, .ref L, .int folds] h K) (hk : ∀ h2, Q h2 → K (.inl (some (.long (if v then lN 1 else be_min)))) h2) : nd_M g mX26_value d 0 0 [.ref b, .ref L, .int more, .int folds] h K := by
  refine nd_enter hg (by decide) rfl (Nat.le_of_ble_eq_true rfl) (fun X hC => ?_)
  refine nd_aload_n hC dX26_value_0 rfl rfl ?_
  refine nd_aload_n hC dX26_value_1 rfl rfl ?_
  refine nd_iload_n hC dX26_value_2 rfl ?_
  refine nd_callU (mm2 := mX30_isSo) (As := [_, _]) (mc2 := 0) (ms2 := 0) (d2 := d - 1) (owner := "NapkinDeeds$Fewest") (x := ⟨"NapkinDeeds$Fewest", "isSo", "(LNapkinDeeds$Look;I)Z"⟩) (n := 2) hC rfl (va_cwA 2 hC.hts (lw_U q869 q871 q881 q882 q206 q883) rfl rfl rfl (nd_dec hC q870) ⟨by decide, by decide, by decide +kernel⟩ (nd_roomR (by omega) (by decide))) hb rfl (by decide) (by omega) rfl (by exact Nat.le_of_ble_eq_true rfl) (by omega) (by omega) dX26_value_3 rfl (E _ (fun h2 hq => ?_))
  have R := hk h2 hq
  first | with_reducible refine nd_if_eqB hC (tgt := 13) dX26_value_6 (by decide) (fun hc => ?_) (fun hc => ?_) | with_reducible refine nd_if_eqN hC (tgt := 13) (by omega) dX26_value_6 (by decide) (fun hc => ?_) (fun hc => ?_) | refine nd_if_eq hC (tgt := 13) dX26_value_6 (by decide) (fun hc => ?_) (fun hc => ?_)
  · rw [hc] at R
    refine nd_ldc2 hC q914 dX26_value_13 ?_
    refine nd_lreturn hC rfl (by omega) (by omega) dX26_value_16 (R)
  · rw [hc] at R
    refine nd_lconst hC (v := lN 1) (by rfl) dX26_value_9 ?_
    refine nd_goto hC (tgt := 16) dX26_value_10 (by decide) ?_
    refine nd_lreturn hC rfl (by omega) (by omega) dX26_value_16 (R)
theorem cb_seesX30 (hg : nd_OK g) (hd : 1 ≤ d) {Q : nd_H → Prop} {b L rb bb : Nat} {more folds fw : Int32} {x3 x5 x6 x7 x8 : Value} {v mo : Int64} {f bf : Nat → Int32} (hb : h[b]? = some (.inr (nX30, [.ref bb, .int fw, .long mo, x3, .ref rb, x5, x6, x7, x8]))) (hne : b ≠ rb ∧ b ≠ bb) (E : ∀ K, (∀ h2, Q h2 → K (.inl (some (.long v))) h2) → nd_M g mX26_value (d - 1) 0 0 [.ref b, .ref L, .int more, .int folds] h K) (hQ : ∀ h2, Q h2 → h2[b]? = h[b]? ∧ h2[rb]? = some (.inl (0, 5, .inl f)) ∧ h2[bb]? = some (.inl (0, 5, .inl bf))) (hk0 : be_no v mo fw more → ∀ h2, Q h2 → K (.inl none) h2) (hk1 : ¬ be_no v mo fw more → ∀ h2, Q h2 → K (.inl none) ((h2.set b (.inr (nX30, [.ref bb, .int more, .long v, x3, .ref rb, x5, x6, x7, x8]))).set bb (.inl (0, 5, .inl (va_cpy f bf 0 0 5))))) : nd_M g mX25_sees d 0 0 [.ref b, .ref L, .int more, .int folds] h K := by
  refine nd_enter hg (by decide) rfl (Nat.le_of_ble_eq_true rfl) (fun X hC => ?_)
  refine nd_aload_n hC dX25_sees_0 rfl rfl ?_
  refine nd_aload_n hC dX25_sees_1 rfl rfl ?_
  refine nd_iload_n hC dX25_sees_2 rfl ?_
  refine nd_iload_n hC dX25_sees_3 rfl ?_
  refine nd_callU (mm2 := mX26_value) (As := [_, _, _]) (mc2 := 0) (ms2 := 0) (d2 := d - 1) (owner := "NapkinDeeds$Best") (x := ⟨"NapkinDeeds$Best", "value", "(LNapkinDeeds$Look;II)J"⟩) (n := 3) hC rfl (va_cwA 3 hC.hts (lw_U q908 q910 q954 q912 q202 q913) rfl rfl rfl (nd_dec hC q909) ⟨by decide, by decide, by decide +kernel⟩ (nd_roomR (by omega) (by decide))) hb rfl (by decide) (by omega) rfl (by exact Nat.le_of_ble_eq_true rfl) (by omega) (by omega) dX25_sees_4 rfl (E _ (fun h2 hq => ?_))
  obtain ⟨e1, hrow, hbest⟩ := hQ h2 hq
  have hb := e1.trans hb
  have JN : be_no v mo fw more → nd_W g mX25_sees d 0 0 K X 45 [some (.ref b), some (.ref L), some (.int more), some (.int folds), some (.long v), none] [] h2 0 0 := by
    intro hn
    have R := hk0 hn h2 hq
    refine nd_return hC rfl (by omega) (by omega) dX25_sees_45 (R)
  have JY : ¬ be_no v mo fw more → nd_W g mX25_sees d 0 0 K X 46 [some (.ref b), some (.ref L), some (.int more), some (.int folds), some (.long v), none] [] h2 0 0 := by
    intro hn
    have R := hk1 hn h2 hq
    refine nd_aload_n hC dX25_sees_46 rfl rfl ?_
    refine nd_lload hC dX25_sees_47 rfl ?_
    refine nd_put (ci := nX30) hC in_X30 rfl hb 2 (by decide) tyX30 tyX30_ok (by decide +kernel) q780 (fun _ z => z) rfl rfl rfl (by show 2 < 9; decide) dX25_sees_49 ?_
    have hb3 : (h2.set b (.inr (nX30, [.ref bb, .int fw, .long v, x3, .ref rb, x5, x6, x7, x8])))[b]? = some (.inr (nX30, [.ref bb, .int fw, .long v, x3, .ref rb, x5, x6, x7, x8])) := List.getElem?_set_self (nd_get_lt hb)
    refine nd_aload_n hC dX25_sees_52 rfl rfl ?_
    refine nd_iload_n hC dX25_sees_53 rfl ?_
    refine nd_put (ci := nX30) hC in_X30 rfl hb3 1 (by decide) tyX30 tyX30_ok (by decide +kernel) q777 (fun _ z => z) rfl rfl rfl (by show 1 < 9; decide) dX25_sees_54 ?_
    rw [List.set_set]
    have hb4 : (h2.set b (.inr (nX30, [.ref bb, .int more, .long v, x3, .ref rb, x5, x6, x7, x8])))[b]? = some (.inr (nX30, [.ref bb, .int more, .long v, x3, .ref rb, x5, x6, x7, x8])) := List.getElem?_set_self (nd_get_lt hb)
    have hr4 : (h2.set b (.inr (nX30, [.ref bb, .int more, .long v, x3, .ref rb, x5, x6, x7, x8])))[rb]? = some (.inl (0, 5, .inl f)) := (List.getElem?_set_ne hne.1).trans hrow
    have hB4 : (h2.set b (.inr (nX30, [.ref bb, .int more, .long v, x3, .ref rb, x5, x6, x7, x8])))[bb]? = some (.inl (0, 5, .inl bf)) := (List.getElem?_set_ne hne.2).trans hbest
    refine nd_aload_n hC dX25_sees_57 rfl rfl ?_
    refine nd_get (ci := nX30) hC in_X30 rfl hb4 4 (by decide) q784 (u_same (hC.hts _ q785)) rfl dX25_sees_58 ?_
    refine nd_iconst hC (v := nI 0) (by rfl) dX25_sees_61 ?_
    refine nd_aload_n hC dX25_sees_62 rfl rfl ?_
    refine nd_get (ci := nX30) hC in_X30 rfl hb4 0 (by decide) q776 (fun _ z => z) rfl dX25_sees_63 ?_
    refine nd_iconst hC (v := nI 0) (by rfl) dX25_sees_66 ?_
    refine nd_iconst hC (v := nI 5) (by rfl) dX25_sees_67 ?_
    refine nd_copyI hC q956 hr4 hB4 (by omega) (by omega) (by omega) (by omega) (by exact Nat.le_of_ble_eq_true rfl) dX25_sees_68 ?_
    refine nd_return hC rfl (by omega) (by omega) dX25_sees_71 (R)
  unfold be_no at JN JY
  refine nd_lstore hC dX25_sees_7 (Nat.le_of_ble_eq_true rfl) ?_
  refine nd_lload hC dX25_sees_9 rfl ?_
  refine nd_aload_n hC dX25_sees_11 rfl rfl ?_
  refine nd_get (ci := nX30) hC in_X30 rfl hb 2 (by decide) q780 (fun _ z => z) rfl dX25_sees_12 ?_
  refine nd_lcmp_lt hC (tgt := 45) dX25_sees_15 dX25_sees_16 (by decide) (fun hc1 => ?_) (fun hc1 => ?_)
  · exact JN (Or.inl hc1)
  · refine nd_lload hC dX25_sees_19 rfl ?_
    refine nd_aload_n hC dX25_sees_21 rfl rfl ?_
    refine nd_get (ci := nX30) hC in_X30 rfl hb 2 (by decide) q780 (fun _ z => z) rfl dX25_sees_22 ?_
    refine nd_lcmp_ne hC (tgt := 46) dX25_sees_25 dX25_sees_26 (by decide) (fun hc2 => ?_) (fun hc2 => ?_)
    · exact JY (fun q => q.elim (fun q => hc1 q) (fun q => hc2 q.1))
    · refine nd_aload_n hC dX25_sees_29 rfl rfl ?_
      refine nd_get (ci := nX30) hC in_X30 rfl hb 1 (by decide) q777 (fun _ z => z) rfl dX25_sees_30 ?_
      refine nd_iconst hC (v := -1) rfl dX25_sees_33 ?_
      refine nd_icmp_eq hC (tgt := 45) dX25_sees_34 (by decide) (fun hc3 => ?_) (fun hc3 => ?_)
      · exact JN (Or.inr ⟨hc2, Or.inl hc3⟩)
      · refine nd_iload_n hC dX25_sees_37 rfl ?_
        refine nd_aload_n hC dX25_sees_38 rfl rfl ?_
        refine nd_get (ci := nX30) hC in_X30 rfl hb 1 (by decide) q777 (fun _ z => z) rfl dX25_sees_39 ?_
        refine nd_icmp_lt hC (tgt := 46) dX25_sees_42 (by decide) (fun hc4 => ?_) (fun hc4 => ?_)
        · exact JY (fun q => q.elim (fun q => hc1 q) (fun q => q.2.elim hc3 (fun q => absurd hc4 (Int32.not_lt.mpr q))))
        · exact JN (Or.inr ⟨hc2, Or.inr (Int32.not_lt.mp hc4)⟩)
theorem cf_valueX31 (hg : nd_OK g) (hd : 1 ≤ d) {Q : nd_H → Prop} {b L : Nat} {more folds : Int32} {fs : List Value} {v : Bool} (hb : h[b]? = some (.inr (nX31, fs))) (E : ∀ K, (∀ h2, Q h2 → K (.inl (some (.int (nd_b v)))) h2) → nd_M g mX31_isSo (d - 1) 0 0 [.ref b, .ref L, .int folds] h K) (hk : ∀ h2, Q h2 → K (.inl (some (.long (if v then lN 1 else be_min)))) h2) : nd_M g mX26_value d 0 0 [.ref b, .ref L, .int more, .int folds] h K := by
  refine nd_enter hg (by decide) rfl (Nat.le_of_ble_eq_true rfl) (fun X hC => ?_)
  refine nd_aload_n hC dX26_value_0 rfl rfl ?_
  refine nd_aload_n hC dX26_value_1 rfl rfl ?_
  refine nd_iload_n hC dX26_value_2 rfl ?_
  refine nd_callU (mm2 := mX31_isSo) (As := [_, _]) (mc2 := 0) (ms2 := 0) (d2 := d - 1) (owner := "NapkinDeeds$Fewest") (x := ⟨"NapkinDeeds$Fewest", "isSo", "(LNapkinDeeds$Look;I)Z"⟩) (n := 2) hC rfl (va_cwA 2 hC.hts (lw_U q869 q871 q901 q902 q207 q903) rfl rfl rfl (nd_dec hC q870) ⟨by decide, by decide, by decide +kernel⟩ (nd_roomR (by omega) (by decide))) hb rfl (by decide) (by omega) rfl (by exact Nat.le_of_ble_eq_true rfl) (by omega) (by omega) dX26_value_3 rfl (E _ (fun h2 hq => ?_))
  have R := hk h2 hq
  first | with_reducible refine nd_if_eqB hC (tgt := 13) dX26_value_6 (by decide) (fun hc => ?_) (fun hc => ?_) | with_reducible refine nd_if_eqN hC (tgt := 13) (by omega) dX26_value_6 (by decide) (fun hc => ?_) (fun hc => ?_) | refine nd_if_eq hC (tgt := 13) dX26_value_6 (by decide) (fun hc => ?_) (fun hc => ?_)
  · rw [hc] at R
    refine nd_ldc2 hC q914 dX26_value_13 ?_
    refine nd_lreturn hC rfl (by omega) (by omega) dX26_value_16 (R)
  · rw [hc] at R
    refine nd_lconst hC (v := lN 1) (by rfl) dX26_value_9 ?_
    refine nd_goto hC (tgt := 16) dX26_value_10 (by decide) ?_
    refine nd_lreturn hC rfl (by omega) (by omega) dX26_value_16 (R)
theorem cb_seesX31 (hg : nd_OK g) (hd : 1 ≤ d) {Q : nd_H → Prop} {b L rb bb : Nat} {more folds fw : Int32} {x3 x5 x6 x7 x8 : Value} {v mo : Int64} {f bf : Nat → Int32} (hb : h[b]? = some (.inr (nX31, [.ref bb, .int fw, .long mo, x3, .ref rb, x5, x6, x7, x8]))) (hne : b ≠ rb ∧ b ≠ bb) (E : ∀ K, (∀ h2, Q h2 → K (.inl (some (.long v))) h2) → nd_M g mX26_value (d - 1) 0 0 [.ref b, .ref L, .int more, .int folds] h K) (hQ : ∀ h2, Q h2 → h2[b]? = h[b]? ∧ h2[rb]? = some (.inl (0, 5, .inl f)) ∧ h2[bb]? = some (.inl (0, 5, .inl bf))) (hk0 : be_no v mo fw more → ∀ h2, Q h2 → K (.inl none) h2) (hk1 : ¬ be_no v mo fw more → ∀ h2, Q h2 → K (.inl none) ((h2.set b (.inr (nX31, [.ref bb, .int more, .long v, x3, .ref rb, x5, x6, x7, x8]))).set bb (.inl (0, 5, .inl (va_cpy f bf 0 0 5))))) : nd_M g mX25_sees d 0 0 [.ref b, .ref L, .int more, .int folds] h K := by
  refine nd_enter hg (by decide) rfl (Nat.le_of_ble_eq_true rfl) (fun X hC => ?_)
  refine nd_aload_n hC dX25_sees_0 rfl rfl ?_
  refine nd_aload_n hC dX25_sees_1 rfl rfl ?_
  refine nd_iload_n hC dX25_sees_2 rfl ?_
  refine nd_iload_n hC dX25_sees_3 rfl ?_
  refine nd_callU (mm2 := mX26_value) (As := [_, _, _]) (mc2 := 0) (ms2 := 0) (d2 := d - 1) (owner := "NapkinDeeds$Best") (x := ⟨"NapkinDeeds$Best", "value", "(LNapkinDeeds$Look;II)J"⟩) (n := 3) hC rfl (va_cwA 3 hC.hts (lw_U q908 q910 q955 q912 q202 q913) rfl rfl rfl (nd_dec hC q909) ⟨by decide, by decide, by decide +kernel⟩ (nd_roomR (by omega) (by decide))) hb rfl (by decide) (by omega) rfl (by exact Nat.le_of_ble_eq_true rfl) (by omega) (by omega) dX25_sees_4 rfl (E _ (fun h2 hq => ?_))
  obtain ⟨e1, hrow, hbest⟩ := hQ h2 hq
  have hb := e1.trans hb
  have JN : be_no v mo fw more → nd_W g mX25_sees d 0 0 K X 45 [some (.ref b), some (.ref L), some (.int more), some (.int folds), some (.long v), none] [] h2 0 0 := by
    intro hn
    have R := hk0 hn h2 hq
    refine nd_return hC rfl (by omega) (by omega) dX25_sees_45 (R)
  have JY : ¬ be_no v mo fw more → nd_W g mX25_sees d 0 0 K X 46 [some (.ref b), some (.ref L), some (.int more), some (.int folds), some (.long v), none] [] h2 0 0 := by
    intro hn
    have R := hk1 hn h2 hq
    refine nd_aload_n hC dX25_sees_46 rfl rfl ?_
    refine nd_lload hC dX25_sees_47 rfl ?_
    refine nd_put (ci := nX31) hC in_X31 rfl hb 2 (by decide) tyX31 tyX31_ok (by decide +kernel) q780 (fun _ z => z) rfl rfl rfl (by show 2 < 9; decide) dX25_sees_49 ?_
    have hb3 : (h2.set b (.inr (nX31, [.ref bb, .int fw, .long v, x3, .ref rb, x5, x6, x7, x8])))[b]? = some (.inr (nX31, [.ref bb, .int fw, .long v, x3, .ref rb, x5, x6, x7, x8])) := List.getElem?_set_self (nd_get_lt hb)
    refine nd_aload_n hC dX25_sees_52 rfl rfl ?_
    refine nd_iload_n hC dX25_sees_53 rfl ?_
    refine nd_put (ci := nX31) hC in_X31 rfl hb3 1 (by decide) tyX31 tyX31_ok (by decide +kernel) q777 (fun _ z => z) rfl rfl rfl (by show 1 < 9; decide) dX25_sees_54 ?_
    rw [List.set_set]
    have hb4 : (h2.set b (.inr (nX31, [.ref bb, .int more, .long v, x3, .ref rb, x5, x6, x7, x8])))[b]? = some (.inr (nX31, [.ref bb, .int more, .long v, x3, .ref rb, x5, x6, x7, x8])) := List.getElem?_set_self (nd_get_lt hb)
    have hr4 : (h2.set b (.inr (nX31, [.ref bb, .int more, .long v, x3, .ref rb, x5, x6, x7, x8])))[rb]? = some (.inl (0, 5, .inl f)) := (List.getElem?_set_ne hne.1).trans hrow
    have hB4 : (h2.set b (.inr (nX31, [.ref bb, .int more, .long v, x3, .ref rb, x5, x6, x7, x8])))[bb]? = some (.inl (0, 5, .inl bf)) := (List.getElem?_set_ne hne.2).trans hbest
    refine nd_aload_n hC dX25_sees_57 rfl rfl ?_
    refine nd_get (ci := nX31) hC in_X31 rfl hb4 4 (by decide) q784 (u_same (hC.hts _ q785)) rfl dX25_sees_58 ?_
    refine nd_iconst hC (v := nI 0) (by rfl) dX25_sees_61 ?_
    refine nd_aload_n hC dX25_sees_62 rfl rfl ?_
    refine nd_get (ci := nX31) hC in_X31 rfl hb4 0 (by decide) q776 (fun _ z => z) rfl dX25_sees_63 ?_
    refine nd_iconst hC (v := nI 0) (by rfl) dX25_sees_66 ?_
    refine nd_iconst hC (v := nI 5) (by rfl) dX25_sees_67 ?_
    refine nd_copyI hC q956 hr4 hB4 (by omega) (by omega) (by omega) (by omega) (by exact Nat.le_of_ble_eq_true rfl) dX25_sees_68 ?_
    refine nd_return hC rfl (by omega) (by omega) dX25_sees_71 (R)
  unfold be_no at JN JY
  refine nd_lstore hC dX25_sees_7 (Nat.le_of_ble_eq_true rfl) ?_
  refine nd_lload hC dX25_sees_9 rfl ?_
  refine nd_aload_n hC dX25_sees_11 rfl rfl ?_
  refine nd_get (ci := nX31) hC in_X31 rfl hb 2 (by decide) q780 (fun _ z => z) rfl dX25_sees_12 ?_
  refine nd_lcmp_lt hC (tgt := 45) dX25_sees_15 dX25_sees_16 (by decide) (fun hc1 => ?_) (fun hc1 => ?_)
  · exact JN (Or.inl hc1)
  · refine nd_lload hC dX25_sees_19 rfl ?_
    refine nd_aload_n hC dX25_sees_21 rfl rfl ?_
    refine nd_get (ci := nX31) hC in_X31 rfl hb 2 (by decide) q780 (fun _ z => z) rfl dX25_sees_22 ?_
    refine nd_lcmp_ne hC (tgt := 46) dX25_sees_25 dX25_sees_26 (by decide) (fun hc2 => ?_) (fun hc2 => ?_)
    · exact JY (fun q => q.elim (fun q => hc1 q) (fun q => hc2 q.1))
    · refine nd_aload_n hC dX25_sees_29 rfl rfl ?_
      refine nd_get (ci := nX31) hC in_X31 rfl hb 1 (by decide) q777 (fun _ z => z) rfl dX25_sees_30 ?_
      refine nd_iconst hC (v := -1) rfl dX25_sees_33 ?_
      refine nd_icmp_eq hC (tgt := 45) dX25_sees_34 (by decide) (fun hc3 => ?_) (fun hc3 => ?_)
      · exact JN (Or.inr ⟨hc2, Or.inl hc3⟩)
      · refine nd_iload_n hC dX25_sees_37 rfl ?_
        refine nd_aload_n hC dX25_sees_38 rfl rfl ?_
        refine nd_get (ci := nX31) hC in_X31 rfl hb 1 (by decide) q777 (fun _ z => z) rfl dX25_sees_39 ?_
        refine nd_icmp_lt hC (tgt := 46) dX25_sees_42 (by decide) (fun hc4 => ?_) (fun hc4 => ?_)
        · exact JY (fun q => q.elim (fun q => hc1 q) (fun q => q.2.elim hc3 (fun q => absurd hc4 (Int32.not_lt.mpr q))))
        · exact JN (Or.inr ⟨hc2, Or.inr (Int32.not_lt.mp hc4)⟩)
theorem cf_valueX34 (hg : nd_OK g) (hd : 1 ≤ d) {Q : nd_H → Prop} {b L : Nat} {more folds : Int32} {fs : List Value} {v : Bool} (hb : h[b]? = some (.inr (nX34, fs))) (E : ∀ K, (∀ h2, Q h2 → K (.inl (some (.int (nd_b v)))) h2) → nd_M g mX34_isSo (d - 1) 0 0 [.ref b, .ref L, .int folds] h K) (hk : ∀ h2, Q h2 → K (.inl (some (.long (if v then lN 1 else be_min)))) h2) : nd_M g mX26_value d 0 0 [.ref b, .ref L, .int more, .int folds] h K := by
  refine nd_enter hg (by decide) rfl (Nat.le_of_ble_eq_true rfl) (fun X hC => ?_)
  refine nd_aload_n hC dX26_value_0 rfl rfl ?_
  refine nd_aload_n hC dX26_value_1 rfl rfl ?_
  refine nd_iload_n hC dX26_value_2 rfl ?_
  refine nd_callU (mm2 := mX34_isSo) (As := [_, _]) (mc2 := 0) (ms2 := 0) (d2 := d - 1) (owner := "NapkinDeeds$Fewest") (x := ⟨"NapkinDeeds$Fewest", "isSo", "(LNapkinDeeds$Look;I)Z"⟩) (n := 2) hC rfl (va_cwA 2 hC.hts (lw_U q869 q871 q872 q873 q210 q874) rfl rfl rfl (nd_dec hC q870) ⟨by decide, by decide, by decide +kernel⟩ (nd_roomR (by omega) (by decide))) hb rfl (by decide) (by omega) rfl (by exact Nat.le_of_ble_eq_true rfl) (by omega) (by omega) dX26_value_3 rfl (E _ (fun h2 hq => ?_))
  have R := hk h2 hq
  first | with_reducible refine nd_if_eqB hC (tgt := 13) dX26_value_6 (by decide) (fun hc => ?_) (fun hc => ?_) | with_reducible refine nd_if_eqN hC (tgt := 13) (by omega) dX26_value_6 (by decide) (fun hc => ?_) (fun hc => ?_) | refine nd_if_eq hC (tgt := 13) dX26_value_6 (by decide) (fun hc => ?_) (fun hc => ?_)
  · rw [hc] at R
    refine nd_ldc2 hC q914 dX26_value_13 ?_
    refine nd_lreturn hC rfl (by omega) (by omega) dX26_value_16 (R)
  · rw [hc] at R
    refine nd_lconst hC (v := lN 1) (by rfl) dX26_value_9 ?_
    refine nd_goto hC (tgt := 16) dX26_value_10 (by decide) ?_
    refine nd_lreturn hC rfl (by omega) (by omega) dX26_value_16 (R)
theorem cb_seesX34 (hg : nd_OK g) (hd : 1 ≤ d) {Q : nd_H → Prop} {b L rb bb : Nat} {more folds fw : Int32} {x3 x5 x6 x7 x8 : Value} {v mo : Int64} {f bf : Nat → Int32} (hb : h[b]? = some (.inr (nX34, [.ref bb, .int fw, .long mo, x3, .ref rb, x5, x6, x7, x8]))) (hne : b ≠ rb ∧ b ≠ bb) (E : ∀ K, (∀ h2, Q h2 → K (.inl (some (.long v))) h2) → nd_M g mX26_value (d - 1) 0 0 [.ref b, .ref L, .int more, .int folds] h K) (hQ : ∀ h2, Q h2 → h2[b]? = h[b]? ∧ h2[rb]? = some (.inl (0, 5, .inl f)) ∧ h2[bb]? = some (.inl (0, 5, .inl bf))) (hk0 : be_no v mo fw more → ∀ h2, Q h2 → K (.inl none) h2) (hk1 : ¬ be_no v mo fw more → ∀ h2, Q h2 → K (.inl none) ((h2.set b (.inr (nX34, [.ref bb, .int more, .long v, x3, .ref rb, x5, x6, x7, x8]))).set bb (.inl (0, 5, .inl (va_cpy f bf 0 0 5))))) : nd_M g mX25_sees d 0 0 [.ref b, .ref L, .int more, .int folds] h K := by
  refine nd_enter hg (by decide) rfl (Nat.le_of_ble_eq_true rfl) (fun X hC => ?_)
  refine nd_aload_n hC dX25_sees_0 rfl rfl ?_
  refine nd_aload_n hC dX25_sees_1 rfl rfl ?_
  refine nd_iload_n hC dX25_sees_2 rfl ?_
  refine nd_iload_n hC dX25_sees_3 rfl ?_
  refine nd_callU (mm2 := mX26_value) (As := [_, _, _]) (mc2 := 0) (ms2 := 0) (d2 := d - 1) (owner := "NapkinDeeds$Best") (x := ⟨"NapkinDeeds$Best", "value", "(LNapkinDeeds$Look;II)J"⟩) (n := 3) hC rfl (va_cwA 3 hC.hts (lw_U q908 q910 q911 q912 q202 q913) rfl rfl rfl (nd_dec hC q909) ⟨by decide, by decide, by decide +kernel⟩ (nd_roomR (by omega) (by decide))) hb rfl (by decide) (by omega) rfl (by exact Nat.le_of_ble_eq_true rfl) (by omega) (by omega) dX25_sees_4 rfl (E _ (fun h2 hq => ?_))
  obtain ⟨e1, hrow, hbest⟩ := hQ h2 hq
  have hb := e1.trans hb
  have JN : be_no v mo fw more → nd_W g mX25_sees d 0 0 K X 45 [some (.ref b), some (.ref L), some (.int more), some (.int folds), some (.long v), none] [] h2 0 0 := by
    intro hn
    have R := hk0 hn h2 hq
    refine nd_return hC rfl (by omega) (by omega) dX25_sees_45 (R)
  have JY : ¬ be_no v mo fw more → nd_W g mX25_sees d 0 0 K X 46 [some (.ref b), some (.ref L), some (.int more), some (.int folds), some (.long v), none] [] h2 0 0 := by
    intro hn
    have R := hk1 hn h2 hq
    refine nd_aload_n hC dX25_sees_46 rfl rfl ?_
    refine nd_lload hC dX25_sees_47 rfl ?_
    refine nd_put (ci := nX34) hC in_X34 rfl hb 2 (by decide) tyX34 tyX34_ok (by decide +kernel) q780 (fun _ z => z) rfl rfl rfl (by show 2 < 9; decide) dX25_sees_49 ?_
    have hb3 : (h2.set b (.inr (nX34, [.ref bb, .int fw, .long v, x3, .ref rb, x5, x6, x7, x8])))[b]? = some (.inr (nX34, [.ref bb, .int fw, .long v, x3, .ref rb, x5, x6, x7, x8])) := List.getElem?_set_self (nd_get_lt hb)
    refine nd_aload_n hC dX25_sees_52 rfl rfl ?_
    refine nd_iload_n hC dX25_sees_53 rfl ?_
    refine nd_put (ci := nX34) hC in_X34 rfl hb3 1 (by decide) tyX34 tyX34_ok (by decide +kernel) q777 (fun _ z => z) rfl rfl rfl (by show 1 < 9; decide) dX25_sees_54 ?_
    rw [List.set_set]
    have hb4 : (h2.set b (.inr (nX34, [.ref bb, .int more, .long v, x3, .ref rb, x5, x6, x7, x8])))[b]? = some (.inr (nX34, [.ref bb, .int more, .long v, x3, .ref rb, x5, x6, x7, x8])) := List.getElem?_set_self (nd_get_lt hb)
    have hr4 : (h2.set b (.inr (nX34, [.ref bb, .int more, .long v, x3, .ref rb, x5, x6, x7, x8])))[rb]? = some (.inl (0, 5, .inl f)) := (List.getElem?_set_ne hne.1).trans hrow
    have hB4 : (h2.set b (.inr (nX34, [.ref bb, .int more, .long v, x3, .ref rb, x5, x6, x7, x8])))[bb]? = some (.inl (0, 5, .inl bf)) := (List.getElem?_set_ne hne.2).trans hbest
    refine nd_aload_n hC dX25_sees_57 rfl rfl ?_
    refine nd_get (ci := nX34) hC in_X34 rfl hb4 4 (by decide) q784 (u_same (hC.hts _ q785)) rfl dX25_sees_58 ?_
    refine nd_iconst hC (v := nI 0) (by rfl) dX25_sees_61 ?_
    refine nd_aload_n hC dX25_sees_62 rfl rfl ?_
    refine nd_get (ci := nX34) hC in_X34 rfl hb4 0 (by decide) q776 (fun _ z => z) rfl dX25_sees_63 ?_
    refine nd_iconst hC (v := nI 0) (by rfl) dX25_sees_66 ?_
    refine nd_iconst hC (v := nI 5) (by rfl) dX25_sees_67 ?_
    refine nd_copyI hC q956 hr4 hB4 (by omega) (by omega) (by omega) (by omega) (by exact Nat.le_of_ble_eq_true rfl) dX25_sees_68 ?_
    refine nd_return hC rfl (by omega) (by omega) dX25_sees_71 (R)
  unfold be_no at JN JY
  refine nd_lstore hC dX25_sees_7 (Nat.le_of_ble_eq_true rfl) ?_
  refine nd_lload hC dX25_sees_9 rfl ?_
  refine nd_aload_n hC dX25_sees_11 rfl rfl ?_
  refine nd_get (ci := nX34) hC in_X34 rfl hb 2 (by decide) q780 (fun _ z => z) rfl dX25_sees_12 ?_
  refine nd_lcmp_lt hC (tgt := 45) dX25_sees_15 dX25_sees_16 (by decide) (fun hc1 => ?_) (fun hc1 => ?_)
  · exact JN (Or.inl hc1)
  · refine nd_lload hC dX25_sees_19 rfl ?_
    refine nd_aload_n hC dX25_sees_21 rfl rfl ?_
    refine nd_get (ci := nX34) hC in_X34 rfl hb 2 (by decide) q780 (fun _ z => z) rfl dX25_sees_22 ?_
    refine nd_lcmp_ne hC (tgt := 46) dX25_sees_25 dX25_sees_26 (by decide) (fun hc2 => ?_) (fun hc2 => ?_)
    · exact JY (fun q => q.elim (fun q => hc1 q) (fun q => hc2 q.1))
    · refine nd_aload_n hC dX25_sees_29 rfl rfl ?_
      refine nd_get (ci := nX34) hC in_X34 rfl hb 1 (by decide) q777 (fun _ z => z) rfl dX25_sees_30 ?_
      refine nd_iconst hC (v := -1) rfl dX25_sees_33 ?_
      refine nd_icmp_eq hC (tgt := 45) dX25_sees_34 (by decide) (fun hc3 => ?_) (fun hc3 => ?_)
      · exact JN (Or.inr ⟨hc2, Or.inl hc3⟩)
      · refine nd_iload_n hC dX25_sees_37 rfl ?_
        refine nd_aload_n hC dX25_sees_38 rfl rfl ?_
        refine nd_get (ci := nX34) hC in_X34 rfl hb 1 (by decide) q777 (fun _ z => z) rfl dX25_sees_39 ?_
        refine nd_icmp_lt hC (tgt := 46) dX25_sees_42 (by decide) (fun hc4 => ?_) (fun hc4 => ?_)
        · exact JY (fun q => q.elim (fun q => hc1 q) (fun q => q.2.elim hc3 (fun q => absurd hc4 (Int32.not_lt.mpr q))))
        · exact JN (Or.inr ⟨hc2, Or.inr (Int32.not_lt.mp hc4)⟩)
theorem cb_seesX29 (hg : nd_OK g) (hd : 1 ≤ d) {Q : nd_H → Prop} {b L rb bb : Nat} {more folds fw : Int32} {x3 x5 x6 : Value} {v mo : Int64} {f bf : Nat → Int32} (hb : h[b]? = some (.inr (nX29, [.ref bb, .int fw, .long mo, x3, .ref rb, x5, x6]))) (hne : b ≠ rb ∧ b ≠ bb) (E : ∀ K, (∀ h2, Q h2 → K (.inl (some (.long v))) h2) → nd_M g mX29_value (d - 1) 0 0 [.ref b, .ref L, .int more, .int folds] h K) (hQ : ∀ h2, Q h2 → h2[b]? = h[b]? ∧ h2[rb]? = some (.inl (0, 5, .inl f)) ∧ h2[bb]? = some (.inl (0, 5, .inl bf))) (hk0 : be_no v mo fw more → ∀ h2, Q h2 → K (.inl none) h2) (hk1 : ¬ be_no v mo fw more → ∀ h2, Q h2 → K (.inl none) ((h2.set b (.inr (nX29, [.ref bb, .int more, .long v, x3, .ref rb, x5, x6]))).set bb (.inl (0, 5, .inl (va_cpy f bf 0 0 5))))) : nd_M g mX25_sees d 0 0 [.ref b, .ref L, .int more, .int folds] h K := by
  refine nd_enter hg (by decide) rfl (Nat.le_of_ble_eq_true rfl) (fun X hC => ?_)
  refine nd_aload_n hC dX25_sees_0 rfl rfl ?_
  refine nd_aload_n hC dX25_sees_1 rfl rfl ?_
  refine nd_iload_n hC dX25_sees_2 rfl ?_
  refine nd_iload_n hC dX25_sees_3 rfl ?_
  refine nd_callU (mm2 := mX29_value) (As := [_, _, _]) (mc2 := 0) (ms2 := 0) (d2 := d - 1) (owner := "NapkinDeeds$Best") (x := ⟨"NapkinDeeds$Best", "value", "(LNapkinDeeds$Look;II)J"⟩) (n := 3) hC rfl (va_cwA 3 hC.hts (lw_U q908 q910 q950 q951 q205 q952) rfl rfl rfl (nd_dec hC q909) ⟨by decide, by decide, by decide +kernel⟩ (nd_roomR (by omega) (by decide))) hb rfl (by decide) (by omega) rfl (by exact Nat.le_of_ble_eq_true rfl) (by omega) (by omega) dX25_sees_4 rfl (E _ (fun h2 hq => ?_))
  obtain ⟨e1, hrow, hbest⟩ := hQ h2 hq
  have hb := e1.trans hb
  have JN : be_no v mo fw more → nd_W g mX25_sees d 0 0 K X 45 [some (.ref b), some (.ref L), some (.int more), some (.int folds), some (.long v), none] [] h2 0 0 := by
    intro hn
    have R := hk0 hn h2 hq
    refine nd_return hC rfl (by omega) (by omega) dX25_sees_45 (R)
  have JY : ¬ be_no v mo fw more → nd_W g mX25_sees d 0 0 K X 46 [some (.ref b), some (.ref L), some (.int more), some (.int folds), some (.long v), none] [] h2 0 0 := by
    intro hn
    have R := hk1 hn h2 hq
    refine nd_aload_n hC dX25_sees_46 rfl rfl ?_
    refine nd_lload hC dX25_sees_47 rfl ?_
    refine nd_put (ci := nX29) hC in_X29 rfl hb 2 (by decide) tyX29 tyX29_ok (by decide +kernel) q780 (fun _ z => z) rfl rfl rfl (by show 2 < 7; decide) dX25_sees_49 ?_
    have hb3 : (h2.set b (.inr (nX29, [.ref bb, .int fw, .long v, x3, .ref rb, x5, x6])))[b]? = some (.inr (nX29, [.ref bb, .int fw, .long v, x3, .ref rb, x5, x6])) := List.getElem?_set_self (nd_get_lt hb)
    refine nd_aload_n hC dX25_sees_52 rfl rfl ?_
    refine nd_iload_n hC dX25_sees_53 rfl ?_
    refine nd_put (ci := nX29) hC in_X29 rfl hb3 1 (by decide) tyX29 tyX29_ok (by decide +kernel) q777 (fun _ z => z) rfl rfl rfl (by show 1 < 7; decide) dX25_sees_54 ?_
    rw [List.set_set]
    have hb4 : (h2.set b (.inr (nX29, [.ref bb, .int more, .long v, x3, .ref rb, x5, x6])))[b]? = some (.inr (nX29, [.ref bb, .int more, .long v, x3, .ref rb, x5, x6])) := List.getElem?_set_self (nd_get_lt hb)
    have hr4 : (h2.set b (.inr (nX29, [.ref bb, .int more, .long v, x3, .ref rb, x5, x6])))[rb]? = some (.inl (0, 5, .inl f)) := (List.getElem?_set_ne hne.1).trans hrow
    have hB4 : (h2.set b (.inr (nX29, [.ref bb, .int more, .long v, x3, .ref rb, x5, x6])))[bb]? = some (.inl (0, 5, .inl bf)) := (List.getElem?_set_ne hne.2).trans hbest
    refine nd_aload_n hC dX25_sees_57 rfl rfl ?_
    refine nd_get (ci := nX29) hC in_X29 rfl hb4 4 (by decide) q784 (u_same (hC.hts _ q785)) rfl dX25_sees_58 ?_
    refine nd_iconst hC (v := nI 0) (by rfl) dX25_sees_61 ?_
    refine nd_aload_n hC dX25_sees_62 rfl rfl ?_
    refine nd_get (ci := nX29) hC in_X29 rfl hb4 0 (by decide) q776 (fun _ z => z) rfl dX25_sees_63 ?_
    refine nd_iconst hC (v := nI 0) (by rfl) dX25_sees_66 ?_
    refine nd_iconst hC (v := nI 5) (by rfl) dX25_sees_67 ?_
    refine nd_copyI hC q956 hr4 hB4 (by omega) (by omega) (by omega) (by omega) (by exact Nat.le_of_ble_eq_true rfl) dX25_sees_68 ?_
    refine nd_return hC rfl (by omega) (by omega) dX25_sees_71 (R)
  unfold be_no at JN JY
  refine nd_lstore hC dX25_sees_7 (Nat.le_of_ble_eq_true rfl) ?_
  refine nd_lload hC dX25_sees_9 rfl ?_
  refine nd_aload_n hC dX25_sees_11 rfl rfl ?_
  refine nd_get (ci := nX29) hC in_X29 rfl hb 2 (by decide) q780 (fun _ z => z) rfl dX25_sees_12 ?_
  refine nd_lcmp_lt hC (tgt := 45) dX25_sees_15 dX25_sees_16 (by decide) (fun hc1 => ?_) (fun hc1 => ?_)
  · exact JN (Or.inl hc1)
  · refine nd_lload hC dX25_sees_19 rfl ?_
    refine nd_aload_n hC dX25_sees_21 rfl rfl ?_
    refine nd_get (ci := nX29) hC in_X29 rfl hb 2 (by decide) q780 (fun _ z => z) rfl dX25_sees_22 ?_
    refine nd_lcmp_ne hC (tgt := 46) dX25_sees_25 dX25_sees_26 (by decide) (fun hc2 => ?_) (fun hc2 => ?_)
    · exact JY (fun q => q.elim (fun q => hc1 q) (fun q => hc2 q.1))
    · refine nd_aload_n hC dX25_sees_29 rfl rfl ?_
      refine nd_get (ci := nX29) hC in_X29 rfl hb 1 (by decide) q777 (fun _ z => z) rfl dX25_sees_30 ?_
      refine nd_iconst hC (v := -1) rfl dX25_sees_33 ?_
      refine nd_icmp_eq hC (tgt := 45) dX25_sees_34 (by decide) (fun hc3 => ?_) (fun hc3 => ?_)
      · exact JN (Or.inr ⟨hc2, Or.inl hc3⟩)
      · refine nd_iload_n hC dX25_sees_37 rfl ?_
        refine nd_aload_n hC dX25_sees_38 rfl rfl ?_
        refine nd_get (ci := nX29) hC in_X29 rfl hb 1 (by decide) q777 (fun _ z => z) rfl dX25_sees_39 ?_
        refine nd_icmp_lt hC (tgt := 46) dX25_sees_42 (by decide) (fun hc4 => ?_) (fun hc4 => ?_)
        · exact JY (fun q => q.elim (fun q => hc1 q) (fun q => q.2.elim hc3 (fun q => absurd hc4 (Int32.not_lt.mpr q))))
        · exact JN (Or.inr ⟨hc2, Or.inr (Int32.not_lt.mp hc4)⟩)
theorem cb_seesX36 (hg : nd_OK g) (hd : 1 ≤ d) {Q : nd_H → Prop} {b L rb bb : Nat} {more folds fw : Int32} {x3 x5 x6 : Value} {v mo : Int64} {f bf : Nat → Int32} (hb : h[b]? = some (.inr (nX36, [.ref bb, .int fw, .long mo, x3, .ref rb, x5, x6]))) (hne : b ≠ rb ∧ b ≠ bb) (E : ∀ K, (∀ h2, Q h2 → K (.inl (some (.long v))) h2) → nd_M g mX36_value (d - 1) 0 0 [.ref b, .ref L, .int more, .int folds] h K) (hQ : ∀ h2, Q h2 → h2[b]? = h[b]? ∧ h2[rb]? = some (.inl (0, 5, .inl f)) ∧ h2[bb]? = some (.inl (0, 5, .inl bf))) (hk0 : be_no v mo fw more → ∀ h2, Q h2 → K (.inl none) h2) (hk1 : ¬ be_no v mo fw more → ∀ h2, Q h2 → K (.inl none) ((h2.set b (.inr (nX36, [.ref bb, .int more, .long v, x3, .ref rb, x5, x6]))).set bb (.inl (0, 5, .inl (va_cpy f bf 0 0 5))))) : nd_M g mX25_sees d 0 0 [.ref b, .ref L, .int more, .int folds] h K := by
  refine nd_enter hg (by decide) rfl (Nat.le_of_ble_eq_true rfl) (fun X hC => ?_)
  refine nd_aload_n hC dX25_sees_0 rfl rfl ?_
  refine nd_aload_n hC dX25_sees_1 rfl rfl ?_
  refine nd_iload_n hC dX25_sees_2 rfl ?_
  refine nd_iload_n hC dX25_sees_3 rfl ?_
  refine nd_callU (mm2 := mX36_value) (As := [_, _, _]) (mc2 := 0) (ms2 := 0) (d2 := d - 1) (owner := "NapkinDeeds$Best") (x := ⟨"NapkinDeeds$Best", "value", "(LNapkinDeeds$Look;II)J"⟩) (n := 3) hC rfl (va_cwA 3 hC.hts (lw_U q908 q910 q915 q916 q212 q917) rfl rfl rfl (nd_dec hC q909) ⟨by decide, by decide, by decide +kernel⟩ (nd_roomR (by omega) (by decide))) hb rfl (by decide) (by omega) rfl (by exact Nat.le_of_ble_eq_true rfl) (by omega) (by omega) dX25_sees_4 rfl (E _ (fun h2 hq => ?_))
  obtain ⟨e1, hrow, hbest⟩ := hQ h2 hq
  have hb := e1.trans hb
  have JN : be_no v mo fw more → nd_W g mX25_sees d 0 0 K X 45 [some (.ref b), some (.ref L), some (.int more), some (.int folds), some (.long v), none] [] h2 0 0 := by
    intro hn
    have R := hk0 hn h2 hq
    refine nd_return hC rfl (by omega) (by omega) dX25_sees_45 (R)
  have JY : ¬ be_no v mo fw more → nd_W g mX25_sees d 0 0 K X 46 [some (.ref b), some (.ref L), some (.int more), some (.int folds), some (.long v), none] [] h2 0 0 := by
    intro hn
    have R := hk1 hn h2 hq
    refine nd_aload_n hC dX25_sees_46 rfl rfl ?_
    refine nd_lload hC dX25_sees_47 rfl ?_
    refine nd_put (ci := nX36) hC in_X36 rfl hb 2 (by decide) tyX36 tyX36_ok (by decide +kernel) q780 (fun _ z => z) rfl rfl rfl (by show 2 < 7; decide) dX25_sees_49 ?_
    have hb3 : (h2.set b (.inr (nX36, [.ref bb, .int fw, .long v, x3, .ref rb, x5, x6])))[b]? = some (.inr (nX36, [.ref bb, .int fw, .long v, x3, .ref rb, x5, x6])) := List.getElem?_set_self (nd_get_lt hb)
    refine nd_aload_n hC dX25_sees_52 rfl rfl ?_
    refine nd_iload_n hC dX25_sees_53 rfl ?_
    refine nd_put (ci := nX36) hC in_X36 rfl hb3 1 (by decide) tyX36 tyX36_ok (by decide +kernel) q777 (fun _ z => z) rfl rfl rfl (by show 1 < 7; decide) dX25_sees_54 ?_
    rw [List.set_set]
    have hb4 : (h2.set b (.inr (nX36, [.ref bb, .int more, .long v, x3, .ref rb, x5, x6])))[b]? = some (.inr (nX36, [.ref bb, .int more, .long v, x3, .ref rb, x5, x6])) := List.getElem?_set_self (nd_get_lt hb)
    have hr4 : (h2.set b (.inr (nX36, [.ref bb, .int more, .long v, x3, .ref rb, x5, x6])))[rb]? = some (.inl (0, 5, .inl f)) := (List.getElem?_set_ne hne.1).trans hrow
    have hB4 : (h2.set b (.inr (nX36, [.ref bb, .int more, .long v, x3, .ref rb, x5, x6])))[bb]? = some (.inl (0, 5, .inl bf)) := (List.getElem?_set_ne hne.2).trans hbest
    refine nd_aload_n hC dX25_sees_57 rfl rfl ?_
    refine nd_get (ci := nX36) hC in_X36 rfl hb4 4 (by decide) q784 (u_same (hC.hts _ q785)) rfl dX25_sees_58 ?_
    refine nd_iconst hC (v := nI 0) (by rfl) dX25_sees_61 ?_
    refine nd_aload_n hC dX25_sees_62 rfl rfl ?_
    refine nd_get (ci := nX36) hC in_X36 rfl hb4 0 (by decide) q776 (fun _ z => z) rfl dX25_sees_63 ?_
    refine nd_iconst hC (v := nI 0) (by rfl) dX25_sees_66 ?_
    refine nd_iconst hC (v := nI 5) (by rfl) dX25_sees_67 ?_
    refine nd_copyI hC q956 hr4 hB4 (by omega) (by omega) (by omega) (by omega) (by exact Nat.le_of_ble_eq_true rfl) dX25_sees_68 ?_
    refine nd_return hC rfl (by omega) (by omega) dX25_sees_71 (R)
  unfold be_no at JN JY
  refine nd_lstore hC dX25_sees_7 (Nat.le_of_ble_eq_true rfl) ?_
  refine nd_lload hC dX25_sees_9 rfl ?_
  refine nd_aload_n hC dX25_sees_11 rfl rfl ?_
  refine nd_get (ci := nX36) hC in_X36 rfl hb 2 (by decide) q780 (fun _ z => z) rfl dX25_sees_12 ?_
  refine nd_lcmp_lt hC (tgt := 45) dX25_sees_15 dX25_sees_16 (by decide) (fun hc1 => ?_) (fun hc1 => ?_)
  · exact JN (Or.inl hc1)
  · refine nd_lload hC dX25_sees_19 rfl ?_
    refine nd_aload_n hC dX25_sees_21 rfl rfl ?_
    refine nd_get (ci := nX36) hC in_X36 rfl hb 2 (by decide) q780 (fun _ z => z) rfl dX25_sees_22 ?_
    refine nd_lcmp_ne hC (tgt := 46) dX25_sees_25 dX25_sees_26 (by decide) (fun hc2 => ?_) (fun hc2 => ?_)
    · exact JY (fun q => q.elim (fun q => hc1 q) (fun q => hc2 q.1))
    · refine nd_aload_n hC dX25_sees_29 rfl rfl ?_
      refine nd_get (ci := nX36) hC in_X36 rfl hb 1 (by decide) q777 (fun _ z => z) rfl dX25_sees_30 ?_
      refine nd_iconst hC (v := -1) rfl dX25_sees_33 ?_
      refine nd_icmp_eq hC (tgt := 45) dX25_sees_34 (by decide) (fun hc3 => ?_) (fun hc3 => ?_)
      · exact JN (Or.inr ⟨hc2, Or.inl hc3⟩)
      · refine nd_iload_n hC dX25_sees_37 rfl ?_
        refine nd_aload_n hC dX25_sees_38 rfl rfl ?_
        refine nd_get (ci := nX36) hC in_X36 rfl hb 1 (by decide) q777 (fun _ z => z) rfl dX25_sees_39 ?_
        refine nd_icmp_lt hC (tgt := 46) dX25_sees_42 (by decide) (fun hc4 => ?_) (fun hc4 => ?_)
        · exact JY (fun q => q.elim (fun q => hc1 q) (fun q => q.2.elim hc3 (fun q => absurd hc4 (Int32.not_lt.mpr q))))
        · exact JN (Or.inr ⟨hc2, Or.inr (Int32.not_lt.mp hc4)⟩)
theorem cb_seesX38 (hg : nd_OK g) (hd : 1 ≤ d) {Q : nd_H → Prop} {b L rb bb : Nat} {more folds fw : Int32} {x3 x5 x6 x7 : Value} {v mo : Int64} {f bf : Nat → Int32} (hb : h[b]? = some (.inr (nX38, [.ref bb, .int fw, .long mo, x3, .ref rb, x5, x6, x7]))) (hne : b ≠ rb ∧ b ≠ bb) (E : ∀ K, (∀ h2, Q h2 → K (.inl (some (.long v))) h2) → nd_M g mX38_value (d - 1) 0 0 [.ref b, .ref L, .int more, .int folds] h K) (hQ : ∀ h2, Q h2 → h2[b]? = h[b]? ∧ h2[rb]? = some (.inl (0, 5, .inl f)) ∧ h2[bb]? = some (.inl (0, 5, .inl bf))) (hk0 : be_no v mo fw more → ∀ h2, Q h2 → K (.inl none) h2) (hk1 : ¬ be_no v mo fw more → ∀ h2, Q h2 → K (.inl none) ((h2.set b (.inr (nX38, [.ref bb, .int more, .long v, x3, .ref rb, x5, x6, x7]))).set bb (.inl (0, 5, .inl (va_cpy f bf 0 0 5))))) : nd_M g mX25_sees d 0 0 [.ref b, .ref L, .int more, .int folds] h K := by
  refine nd_enter hg (by decide) rfl (Nat.le_of_ble_eq_true rfl) (fun X hC => ?_)
  refine nd_aload_n hC dX25_sees_0 rfl rfl ?_
  refine nd_aload_n hC dX25_sees_1 rfl rfl ?_
  refine nd_iload_n hC dX25_sees_2 rfl ?_
  refine nd_iload_n hC dX25_sees_3 rfl ?_
  refine nd_callU (mm2 := mX38_value) (As := [_, _, _]) (mc2 := 0) (ms2 := 0) (d2 := d - 1) (owner := "NapkinDeeds$Best") (x := ⟨"NapkinDeeds$Best", "value", "(LNapkinDeeds$Look;II)J"⟩) (n := 3) hC rfl (va_cwA 3 hC.hts (lw_U q908 q910 q945 q946 q214 q947) rfl rfl rfl (nd_dec hC q909) ⟨by decide, by decide, by decide +kernel⟩ (nd_roomR (by omega) (by decide))) hb rfl (by decide) (by omega) rfl (by exact Nat.le_of_ble_eq_true rfl) (by omega) (by omega) dX25_sees_4 rfl (E _ (fun h2 hq => ?_))
  obtain ⟨e1, hrow, hbest⟩ := hQ h2 hq
  have hb := e1.trans hb
  have JN : be_no v mo fw more → nd_W g mX25_sees d 0 0 K X 45 [some (.ref b), some (.ref L), some (.int more), some (.int folds), some (.long v), none] [] h2 0 0 := by
    intro hn
    have R := hk0 hn h2 hq
    refine nd_return hC rfl (by omega) (by omega) dX25_sees_45 (R)
  have JY : ¬ be_no v mo fw more → nd_W g mX25_sees d 0 0 K X 46 [some (.ref b), some (.ref L), some (.int more), some (.int folds), some (.long v), none] [] h2 0 0 := by
    intro hn
    have R := hk1 hn h2 hq
    refine nd_aload_n hC dX25_sees_46 rfl rfl ?_
    refine nd_lload hC dX25_sees_47 rfl ?_
    refine nd_put (ci := nX38) hC in_X38 rfl hb 2 (by decide) tyX38 tyX38_ok (by decide +kernel) q780 (fun _ z => z) rfl rfl rfl (by show 2 < 8; decide) dX25_sees_49 ?_
    have hb3 : (h2.set b (.inr (nX38, [.ref bb, .int fw, .long v, x3, .ref rb, x5, x6, x7])))[b]? = some (.inr (nX38, [.ref bb, .int fw, .long v, x3, .ref rb, x5, x6, x7])) := List.getElem?_set_self (nd_get_lt hb)
    refine nd_aload_n hC dX25_sees_52 rfl rfl ?_
    refine nd_iload_n hC dX25_sees_53 rfl ?_
    refine nd_put (ci := nX38) hC in_X38 rfl hb3 1 (by decide) tyX38 tyX38_ok (by decide +kernel) q777 (fun _ z => z) rfl rfl rfl (by show 1 < 8; decide) dX25_sees_54 ?_
    rw [List.set_set]
    have hb4 : (h2.set b (.inr (nX38, [.ref bb, .int more, .long v, x3, .ref rb, x5, x6, x7])))[b]? = some (.inr (nX38, [.ref bb, .int more, .long v, x3, .ref rb, x5, x6, x7])) := List.getElem?_set_self (nd_get_lt hb)
    have hr4 : (h2.set b (.inr (nX38, [.ref bb, .int more, .long v, x3, .ref rb, x5, x6, x7])))[rb]? = some (.inl (0, 5, .inl f)) := (List.getElem?_set_ne hne.1).trans hrow
    have hB4 : (h2.set b (.inr (nX38, [.ref bb, .int more, .long v, x3, .ref rb, x5, x6, x7])))[bb]? = some (.inl (0, 5, .inl bf)) := (List.getElem?_set_ne hne.2).trans hbest
    refine nd_aload_n hC dX25_sees_57 rfl rfl ?_
    refine nd_get (ci := nX38) hC in_X38 rfl hb4 4 (by decide) q784 (u_same (hC.hts _ q785)) rfl dX25_sees_58 ?_
    refine nd_iconst hC (v := nI 0) (by rfl) dX25_sees_61 ?_
    refine nd_aload_n hC dX25_sees_62 rfl rfl ?_
    refine nd_get (ci := nX38) hC in_X38 rfl hb4 0 (by decide) q776 (fun _ z => z) rfl dX25_sees_63 ?_
    refine nd_iconst hC (v := nI 0) (by rfl) dX25_sees_66 ?_
    refine nd_iconst hC (v := nI 5) (by rfl) dX25_sees_67 ?_
    refine nd_copyI hC q956 hr4 hB4 (by omega) (by omega) (by omega) (by omega) (by exact Nat.le_of_ble_eq_true rfl) dX25_sees_68 ?_
    refine nd_return hC rfl (by omega) (by omega) dX25_sees_71 (R)
  unfold be_no at JN JY
  refine nd_lstore hC dX25_sees_7 (Nat.le_of_ble_eq_true rfl) ?_
  refine nd_lload hC dX25_sees_9 rfl ?_
  refine nd_aload_n hC dX25_sees_11 rfl rfl ?_
  refine nd_get (ci := nX38) hC in_X38 rfl hb 2 (by decide) q780 (fun _ z => z) rfl dX25_sees_12 ?_
  refine nd_lcmp_lt hC (tgt := 45) dX25_sees_15 dX25_sees_16 (by decide) (fun hc1 => ?_) (fun hc1 => ?_)
  · exact JN (Or.inl hc1)
  · refine nd_lload hC dX25_sees_19 rfl ?_
    refine nd_aload_n hC dX25_sees_21 rfl rfl ?_
    refine nd_get (ci := nX38) hC in_X38 rfl hb 2 (by decide) q780 (fun _ z => z) rfl dX25_sees_22 ?_
    refine nd_lcmp_ne hC (tgt := 46) dX25_sees_25 dX25_sees_26 (by decide) (fun hc2 => ?_) (fun hc2 => ?_)
    · exact JY (fun q => q.elim (fun q => hc1 q) (fun q => hc2 q.1))
    · refine nd_aload_n hC dX25_sees_29 rfl rfl ?_
      refine nd_get (ci := nX38) hC in_X38 rfl hb 1 (by decide) q777 (fun _ z => z) rfl dX25_sees_30 ?_
      refine nd_iconst hC (v := -1) rfl dX25_sees_33 ?_
      refine nd_icmp_eq hC (tgt := 45) dX25_sees_34 (by decide) (fun hc3 => ?_) (fun hc3 => ?_)
      · exact JN (Or.inr ⟨hc2, Or.inl hc3⟩)
      · refine nd_iload_n hC dX25_sees_37 rfl ?_
        refine nd_aload_n hC dX25_sees_38 rfl rfl ?_
        refine nd_get (ci := nX38) hC in_X38 rfl hb 1 (by decide) q777 (fun _ z => z) rfl dX25_sees_39 ?_
        refine nd_icmp_lt hC (tgt := 46) dX25_sees_42 (by decide) (fun hc4 => ?_) (fun hc4 => ?_)
        · exact JY (fun q => q.elim (fun q => hc1 q) (fun q => q.2.elim hc3 (fun q => absurd hc4 (Int32.not_lt.mpr q))))
        · exact JN (Or.inr ⟨hc2, Or.inr (Int32.not_lt.mp hc4)⟩)
end BE85

