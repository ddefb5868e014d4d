set_option maxRecDepth 100000
section MO3
variable {g : nd_G} {d : Nat} {K : nd_K} {h h0 : nd_H} {A : Nat → Nat → Int32} {F : Nat → Int32} {B : Nat → Nat → Int64} {f : Nat → Int32}
theorem sp_puts (hg : nd_OK g) (hd : 1 ≤ d) (hw : mo_W h0 (va_up A 19 f) F B h) {p c t : Nat} {e col : List Nat} {b : Bool} (hp : p ≤ 9) (hc : c < 6) (ht : t < 6) (h1 : mo_cl f p c col) (h2 : mo_cl f (p + 1) t e) (hl : e.length + col.length ≤ 6)
    (hk : ∀ f2 h2, (∀ i, i ≠ 43 * (p + 1) + 1 + t → (i < 43 * (p + 1) + 7 + 6 * t ∨ 43 * (p + 1) + 7 + 6 * t + 6 ≤ i) → f2 i = f i) → mo_cl f2 (p + 1) t (e ++ (bif b then lk_turn col else col)) → mo_W h0 (va_up A 19 f2) F B h2 → K (.inl none) h2) : nd_M g mX7_puts d 0 0 [.ref 101, .int (nI p), .int (nI c), .int (nd_b b), .int (nI t)] h K := by
  generalize hX : (bif b then lk_turn col else col) = Y at hk
  have hY : Y.length = col.length := by rw [← hX]; cases b <;> simp [lk_turn_length]
  refine nd_enter hg (by decide) rfl (Nat.le_of_ble_eq_true rfl) (fun X hC => ?_)
  refine nd_bipush hC (v := nI 43) (by rfl) dX7_puts_0 ?_
  refine nd_iload_n hC dX7_puts_2 rfl ?_
  refine nd_iconst hC (v := nI 1) (by rfl) dX7_puts_3 ?_
  first | with_reducible refine nd_iaddN hC dX7_puts_4 ?_ | refine nd_iadd hC dX7_puts_4 ?_
  first | with_reducible refine nd_imulN hC dX7_puts_5 ?_ | refine nd_imul hC dX7_puts_5 ?_
  refine nd_istore hC dX7_puts_6 (Nat.le_of_ble_eq_true rfl) ?_
  refine nd_aload_n hC dX7_puts_8 rfl rfl ?_
  refine nd_iload_n hC dX7_puts_9 rfl ?_
  refine nd_iload_n hC dX7_puts_10 rfl ?_
  refine mo_callV (As := [_, _]) (d2 := d - 1) hC hw rfl lkX7_261 lyX7_261 (Nat.le_of_ble_eq_true rfl) (by omega) rfl (by exact Nat.le_of_ble_eq_true rfl) (Nat.zero_le _) (Nat.zero_le _) dX7_puts_11 rfl ((sp_highAt hg hw (by omega) ?_))
  refine nd_v_eq (y := .int (nI col.length)) (by rw [va_up_s, h1.1]) ?_
  refine nd_istore hC dX7_puts_14 (Nat.le_of_ble_eq_true rfl) ?_
  refine nd_iconst hC (v := nI 0) (by rfl) dX7_puts_16 ?_
  refine nd_istore hC dX7_puts_17 (Nat.le_of_ble_eq_true rfl) ?_
  have L : ∀ i, i ≤ col.length → ∀ f2 h2, (∀ i, i ≠ 43 * (p + 1) + 1 + t → (i < 43 * (p + 1) + 7 + 6 * t ∨ 43 * (p + 1) + 7 + 6 * t + 6 ≤ i) → f2 i = f i) → mo_cl f2 (p + 1) t (e ++ Y.take i) → mo_W h0 (va_up A 19 f2) F B h2 → nd_W g mX7_puts d 0 0 K X 19 [some (.ref 101), some (.int (nI p)), some (.int (nI c)), some (.int (nd_b b)), some (.int (nI t)), some (.int (nI (43 * (p + 1)))), some (.int (nI col.length)), some (.int (nI i)), none] [] h2 0 0 := by
    refine nd_for col.length _ ?_ ?_
    · intro f2 h hf hcl hw
      refine nd_iload hC dX7_puts_19 rfl ?_
      refine nd_iload hC dX7_puts_21 rfl ?_
      first | with_reducible refine nd_icmp_geN hC (tgt := 111) (by omega) (by omega) dX7_puts_23 (by decide) (fun hc => ?_) (fun hc => ?_) | refine nd_icmp_ge hC (tgt := 111) dX7_puts_23 (by decide) (fun hc => ?_) (fun hc => ?_)
      · refine nd_return hC rfl (by omega) (by omega) dX7_puts_111 ((hk f2 h hf (by rw [← hY, List.take_length] at hcl; exact hcl) hw))
      · omega
    · intro i hi ih f2 h hf hcl hw
      refine nd_iload hC dX7_puts_19 rfl ?_
      refine nd_iload hC dX7_puts_21 rfl ?_
      first | with_reducible refine nd_icmp_geN hC (tgt := 111) (by omega) (by omega) dX7_puts_23 (by decide) (fun hc => ?_) (fun hc => ?_) | refine nd_icmp_ge hC (tgt := 111) dX7_puts_23 (by decide) (fun hc => ?_) (fun hc => ?_)
      · omega
      have J : nd_W g mX7_puts d 0 0 K X 56 [some (.ref 101), some (.int (nI p)), some (.int (nI c)), some (.int (nd_b b)), some (.int (nI t)), some (.int (nI (43 * (p + 1)))), some (.int (nI col.length)), some (.int (nI i)), none] [.int (nI (Y.getD i 0))] h 0 0 := by
        have hlen : (e ++ Y.take i).length = e.length + i := by simp; omega
        have h5 := hcl.1
        rw [hlen] at h5
        refine nd_istore hC dX7_puts_56 (Nat.le_of_ble_eq_true rfl) ?_
        refine nd_aload_n hC dX7_puts_58 rfl rfl ?_
        refine mo_get_lies hC hw rfl dX7_puts_59 ?_
        refine nd_iload hC dX7_puts_62 rfl ?_
        refine nd_bipush hC (v := nI 7) (by rfl) dX7_puts_64 ?_
        first | with_reducible refine nd_iaddN hC dX7_puts_66 ?_ | refine nd_iadd hC dX7_puts_66 ?_
        refine nd_bipush hC (v := nI 6) (by rfl) dX7_puts_67 ?_
        refine nd_iload hC dX7_puts_69 rfl ?_
        first | with_reducible refine nd_imulN hC dX7_puts_71 ?_ | refine nd_imul hC dX7_puts_71 ?_
        first | with_reducible refine nd_iaddN hC dX7_puts_72 ?_ | refine nd_iadd hC dX7_puts_72 ?_
        refine nd_aload_n hC dX7_puts_73 rfl rfl ?_
        refine mo_get_lies hC hw rfl dX7_puts_74 ?_
        refine nd_iload hC dX7_puts_77 rfl ?_
        refine nd_iconst hC (v := nI 1) (by rfl) dX7_puts_79 ?_
        first | with_reducible refine nd_iaddN hC dX7_puts_80 ?_ | refine nd_iadd hC dX7_puts_80 ?_
        refine nd_iload hC dX7_puts_81 rfl ?_
        first | with_reducible refine nd_iaddN hC dX7_puts_83 ?_ | refine nd_iadd hC dX7_puts_83 ?_
        refine nd_ialoadN hC hw.lies (by omega) (by decide) dX7_puts_84 ?_
        refine nd_v_eq (y := .int (nI (e.length + i))) (by rw [va_up_s, h5]) ?_
        first | with_reducible refine nd_iaddN hC dX7_puts_85 ?_ | refine nd_iadd hC dX7_puts_85 ?_
        refine nd_iload hC dX7_puts_86 rfl ?_
        refine mo_ast_lies hC hw (by omega) dX7_puts_88 (fun h hw => ?_)
        try simp only [va_up_up, va_up_s] at hw
        refine nd_aload_n hC dX7_puts_89 rfl rfl ?_
        refine mo_get_lies hC hw rfl dX7_puts_90 ?_
        refine nd_iload hC dX7_puts_93 rfl ?_
        refine nd_iconst hC (v := nI 1) (by rfl) dX7_puts_95 ?_
        first | with_reducible refine nd_iaddN hC dX7_puts_96 ?_ | refine nd_iadd hC dX7_puts_96 ?_
        refine nd_iload hC dX7_puts_97 rfl ?_
        first | with_reducible refine nd_iaddN hC dX7_puts_99 ?_ | refine nd_iadd hC dX7_puts_99 ?_
        refine nd_dup2_11 hC (by rfl) (by rfl) dX7_puts_100 ?_
        refine nd_ialoadN hC hw.lies (by omega) (by decide) dX7_puts_101 ?_
        refine nd_v_eq (y := .int (nI (e.length + i))) (by rw [va_up_s, upd_n (by omega), h5]) ?_
        refine nd_iconst hC (v := nI 1) (by rfl) dX7_puts_102 ?_
        first | with_reducible refine nd_iaddN hC dX7_puts_103 ?_ | refine nd_iadd hC dX7_puts_103 ?_
        refine mo_ast_lies hC hw (by omega) dX7_puts_104 (fun h hw => ?_)
        try simp only [va_up_up, va_up_s] at hw
        first | with_reducible refine nd_iincN hC dX7_puts_105 rfl (Nat.le_of_ble_eq_true rfl) ?_ | refine nd_iinc hC dX7_puts_105 rfl rfl (Nat.le_of_ble_eq_true rfl) ?_
        refine nd_goto hC (tgt := 19) dX7_puts_108 (by decide) ?_
        refine nd_drop 8 ?_
        refine ih _ _ ?_ ?_ hw
        · intro j h3 h4
          rw [upd_n (by omega), upd_n (by omega)]
          exact hf j h3 h4
        · have q := mo_cl_push (x := Y.getD i 0) hcl ht
          rw [hlen] at q
          rw [mo_take_succ (by omega), ← List.append_assoc]
          exact q
      refine nd_iload_n hC dX7_puts_26 rfl ?_
      first | with_reducible refine nd_if_eqB hC (tgt := 48) dX7_puts_27 (by decide) (fun hc => ?_) (fun hc => ?_) | with_reducible refine nd_if_eqN hC (tgt := 48) (by omega) dX7_puts_27 (by decide) (fun hc => ?_) (fun hc => ?_) | refine nd_if_eq hC (tgt := 48) dX7_puts_27 (by decide) (fun hc => ?_) (fun hc => ?_)
      · refine nd_aload_n hC dX7_puts_48 rfl rfl ?_
        refine nd_iload_n hC dX7_puts_49 rfl ?_
        refine nd_iload_n hC dX7_puts_50 rfl ?_
        refine nd_iload hC dX7_puts_51 rfl ?_
        refine mo_callV (As := [_, _, _]) (d2 := d - 1) hC hw rfl lkX7_264 lyX7_264 (Nat.le_of_ble_eq_true rfl) (by omega) rfl (by exact Nat.le_of_ble_eq_true rfl) (Nat.zero_le _) (Nat.zero_le _) dX7_puts_53 rfl ((sp_layerAt hg hw (by omega) ?_))
        have e9 : Y.getD i 0 = col.getD i 0 := by rw [← hX, hc]; rfl
        rw [e9] at J
        refine nd_v_eq (y := .int (nI (col.getD i 0))) (by rw [va_up_s, hf _ (by omega) (by omega), h1.2 i hi]) ?_
        exact J
      · refine nd_aload_n hC dX7_puts_30 rfl rfl ?_
        refine nd_iload_n hC dX7_puts_31 rfl ?_
        refine nd_iload_n hC dX7_puts_32 rfl ?_
        refine nd_iload hC dX7_puts_33 rfl ?_
        refine nd_iconst hC (v := nI 1) (by rfl) dX7_puts_35 ?_
        first | with_reducible refine nd_isubN hC (by omega) dX7_puts_36 ?_ | refine nd_isub hC dX7_puts_36 ?_
        refine nd_iload hC dX7_puts_37 rfl ?_
        first | with_reducible refine nd_isubN hC (by omega) dX7_puts_39 ?_ | refine nd_isub hC dX7_puts_39 ?_
        refine mo_callV (As := [_, _, _]) (d2 := d - 1) hC hw rfl lkX7_264 lyX7_264 (Nat.le_of_ble_eq_true rfl) (by omega) rfl (by exact Nat.le_of_ble_eq_true rfl) (Nat.zero_le _) (Nat.zero_le _) dX7_puts_40 rfl ((sp_layerAt hg hw (by omega) ?_))
        have e9 : Y.getD i 0 = col.getD (col.length - 1 - i) 0 ^^^ 1 := by rw [← hX, hc]; exact lk_turn_get hi
        rw [e9] at J
        refine nd_v_eq (y := .int (nI (col.getD (col.length - 1 - i) 0))) (by rw [va_up_s, hf _ (by omega) (by omega), h1.2 _ (by omega)]) ?_
        refine nd_iconst hC (v := nI 1) (by rfl) dX7_puts_43 ?_
        refine nd_ixor hC dX7_puts_44 ?_
        rw [nx_xor]
        refine nd_goto hC (tgt := 56) dX7_puts_45 (by decide) ?_
        exact J
  exact L 0 (Nat.zero_le _) f _ (fun _ _ _ => rfl) (by simpa using h2) hw
theorem sp_isCell (hg : nd_OK g) (hd : 1 ≤ d) (hw : mo_W h0 A F B h) {x : Int64} {n : Nat} (hc : A 0 1 = nI n) (hn : n ≤ 6) (hk : K (.inl (some (.int (nd_b (decide (0 ≤ x.toInt ∧ x.toInt < n)))))) h) : nd_M g mX7_isCell d 0 0 [.ref 101, .long x] h K := by
  refine nd_enter hg (by decide) rfl (Nat.le_of_ble_eq_true rfl) (fun X hC => ?_)
  refine nd_lload_n hC dX7_isCell_0 rfl ?_
  refine nd_lconst hC (v := lN 0) (by rfl) dX7_isCell_1 ?_
  refine nd_aload_n hC dX7_isCell_2 rfl rfl ?_
  refine mo_callV (As := []) (d2 := d - 1) hC hw rfl lkX7_253 lyX7_253 (Nat.le_of_ble_eq_true rfl) (by omega) rfl (by exact Nat.le_of_ble_eq_true rfl) (Nat.zero_le _) (Nat.zero_le _) dX7_isCell_3 rfl ((sp_cells hg hw ?_))
  rw [hc]
  refine nd_iconst hC (v := nI 1) (by rfl) dX7_isCell_6 ?_
  first | with_reducible refine nd_isubN hC (by omega) dX7_isCell_7 ?_ | refine nd_isub hC dX7_isCell_7 ?_
  first | with_reducible refine nd_i2lN hC (by omega) dX7_isCell_8 ?_ | refine nd_i2l hC dX7_isCell_8 ?_
  refine mo_callS (As := [_, _, _]) (d2 := d - 1) hC rfl lkX7_138 lyX7_138 (Nat.le_of_ble_eq_true rfl) (by omega) rfl (by exact Nat.le_of_ble_eq_true rfl) (Nat.zero_le _) (Nat.zero_le _) dX7_isCell_9 rfl ((sp_within hg ?_))
  have e : (decide (lN 0 ≤ x) && decide (x ≤ (nI n - nI 1).toInt64)) = decide (0 ≤ x.toInt ∧ x.toInt < n) := by
    rw [Bool.eq_iff_iff, Bool.and_eq_true, nd_lle, nd_lle, nd_tl, nd_ti (by omega) (by omega), lN_toInt (by decide), decide_eq_true_iff]
    omega
  rw [e]
  refine nd_ireturn hC rfl (by first | rfl | exact nd_b_nar _) (by omega) (by omega) dX7_isCell_12 (hk)
theorem sp_isFold (hg : nd_OK g) (hd : 1 ≤ d) (hw : mo_W h0 A F B h) {x y : Int64} {n p : Nat} (hp : p ≤ 10) (hc : A 19 (43 * p) = nI n) (hn : n ≤ 6) (hk : K (.inl (some (.int (nd_b (decide (1 ≤ x.toInt ∧ x.toInt < n ∧ 0 ≤ y.toInt ∧ y.toInt ≤ 3)))))) h) : nd_M g mX7_isFold d 0 0 [.ref 101, .int (nI p), .long x, .long y] h K := by
  refine nd_enter hg (by decide) rfl (Nat.le_of_ble_eq_true rfl) (fun X hC => ?_)
  refine nd_lload_n hC dX7_isFold_0 rfl ?_
  refine nd_lconst hC (v := lN 1) (by rfl) dX7_isFold_1 ?_
  refine nd_aload_n hC dX7_isFold_2 rfl rfl ?_
  refine nd_iload_n hC dX7_isFold_3 rfl ?_
  refine mo_callV (As := [_]) (d2 := d - 1) hC hw rfl lkX7_256 lyX7_256 (Nat.le_of_ble_eq_true rfl) (by omega) rfl (by exact Nat.le_of_ble_eq_true rfl) (Nat.zero_le _) (Nat.zero_le _) dX7_isFold_4 rfl ((sp_columnsAt hg hw hp ?_))
  rw [hc]
  refine nd_iconst hC (v := nI 1) (by rfl) dX7_isFold_7 ?_
  first | with_reducible refine nd_isubN hC (by omega) dX7_isFold_8 ?_ | refine nd_isub hC dX7_isFold_8 ?_
  first | with_reducible refine nd_i2lN hC (by omega) dX7_isFold_9 ?_ | refine nd_i2l hC dX7_isFold_9 ?_
  refine mo_callS (As := [_, _, _]) (d2 := d - 1) hC rfl lkX7_138 lyX7_138 (Nat.le_of_ble_eq_true rfl) (by omega) rfl (by exact Nat.le_of_ble_eq_true rfl) (Nat.zero_le _) (Nat.zero_le _) dX7_isFold_10 rfl ((sp_within hg ?_))
  have e : (decide (lN 1 ≤ x) && decide (x ≤ (nI n - nI 1).toInt64)) = decide (1 ≤ x.toInt ∧ x.toInt < n) := by
    rw [Bool.eq_iff_iff, Bool.and_eq_true, nd_lle, nd_lle, nd_tl, nd_ti (by omega) (by omega), lN_toInt (by decide), decide_eq_true_iff]
    omega
  rw [e]
  have e2 : (decide (lN 0 ≤ y) && decide (y ≤ lN 3)) = decide (0 ≤ y.toInt ∧ y.toInt ≤ 3) := by
    rw [Bool.eq_iff_iff, Bool.and_eq_true, nd_lle, nd_lle, lN_toInt (by decide), lN_toInt (by decide), decide_eq_true_iff]
    rfl
  first | with_reducible refine nd_if_eqB hC (tgt := 32) dX7_isFold_13 (by decide) (fun hc => ?_) (fun hc => ?_) | with_reducible refine nd_if_eqN hC (tgt := 32) (by omega) dX7_isFold_13 (by decide) (fun hc => ?_) (fun hc => ?_) | refine nd_if_eq hC (tgt := 32) dX7_isFold_13 (by decide) (fun hc => ?_) (fun hc => ?_)
  · have hc := of_decide_eq_false hc
    refine nd_iconst hC (v := nI 0) (by rfl) dX7_isFold_32 ?_
    refine nd_ireturn hC rfl (by first | rfl | exact nd_b_nar _) (by omega) (by omega) dX7_isFold_33 ((by simpa [nd_b, show ¬ (1 ≤ x.toInt ∧ x.toInt < n ∧ 0 ≤ y.toInt ∧ y.toInt ≤ 3) by omega] using hk))
  · have hc := of_decide_eq_true hc
    refine nd_lload hC dX7_isFold_16 rfl ?_
    refine nd_lconst hC (v := lN 0) (by rfl) dX7_isFold_18 ?_
    refine nd_ldc2 hC q3150 dX7_isFold_19 ?_
    refine nd_v_eq (y := .long (lN 3)) (by rfl) ?_
    refine mo_callS (As := [_, _, _]) (d2 := d - 1) hC rfl lkX7_138 lyX7_138 (Nat.le_of_ble_eq_true rfl) (by omega) rfl (by exact Nat.le_of_ble_eq_true rfl) (Nat.zero_le _) (Nat.zero_le _) dX7_isFold_22 rfl ((sp_within hg ?_))
    rw [e2]
    first | with_reducible refine nd_if_eqB hC (tgt := 32) dX7_isFold_25 (by decide) (fun hq => ?_) (fun hq => ?_) | with_reducible refine nd_if_eqN hC (tgt := 32) (by omega) dX7_isFold_25 (by decide) (fun hq => ?_) (fun hq => ?_) | refine nd_if_eq hC (tgt := 32) dX7_isFold_25 (by decide) (fun hq => ?_) (fun hq => ?_)
    · have hq := of_decide_eq_false hq
      refine nd_iconst hC (v := nI 0) (by rfl) dX7_isFold_32 ?_
      refine nd_ireturn hC rfl (by first | rfl | exact nd_b_nar _) (by omega) (by omega) dX7_isFold_33 ((by simpa [nd_b, show ¬ (1 ≤ x.toInt ∧ x.toInt < n ∧ 0 ≤ y.toInt ∧ y.toInt ≤ 3) by omega] using hk))
    · have hq := of_decide_eq_true hq
      refine nd_iconst hC (v := nI 1) (by rfl) dX7_isFold_28 ?_
      refine nd_goto hC (tgt := 33) dX7_isFold_29 (by decide) ?_
      refine nd_ireturn hC rfl (by first | rfl | exact nd_b_nar _) (by omega) (by omega) dX7_isFold_33 ((by simpa [nd_b, show (1 ≤ x.toInt ∧ x.toInt < n ∧ 0 ≤ y.toInt ∧ y.toInt ≤ 3) by omega] using hk))
end MO3

