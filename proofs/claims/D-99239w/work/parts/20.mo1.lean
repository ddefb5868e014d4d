set_option maxRecDepth 100000
section MO1
variable {g : nd_G} {d : Nat} {K : nd_K} {h h0 : nd_H} {A : Nat → Nat → Int32} {F : Nat → Int32} {B : Nat → Nat → Int64}
theorem sp_columnsAt (hg : nd_OK g) (hw : mo_W h0 A F B h) {p : Nat} (hp : p ≤ 10) (hk : K (.inl (some (.int (A 19 (43 * p))))) h) : nd_M g mX7_columnsAt d 0 0 [.ref 101, .int (nI p)] h K := by
  refine nd_enter hg (by decide) rfl (Nat.le_of_ble_eq_true rfl) (fun X hC => ?_)
  refine nd_aload_n hC dX7_columnsAt_0 rfl rfl ?_
  refine mo_get_lies hC hw rfl dX7_columnsAt_1 ?_
  refine nd_bipush hC (v := nI 43) (by rfl) dX7_columnsAt_4 ?_
  refine nd_iload_n hC dX7_columnsAt_6 rfl ?_
  first | with_reducible refine nd_imulN hC dX7_columnsAt_7 ?_ | refine nd_imul hC dX7_columnsAt_7 ?_
  refine nd_ialoadN hC hw.lies (by omega) (by decide) dX7_columnsAt_8 ?_
  refine nd_ireturn hC rfl (by first | rfl | exact nd_b_nar _) (by omega) (by omega) dX7_columnsAt_9 (hk)
theorem sp_highAt (hg : nd_OK g) (hw : mo_W h0 A F B h) {p c : Nat} (hp : 43 * p + 1 + c < 473) (hk : K (.inl (some (.int (A 19 (43 * p + 1 + c))))) h) : nd_M g mX7_highAt d 0 0 [.ref 101, .int (nI p), .int (nI c)] h K := by
  refine nd_enter hg (by decide) rfl (Nat.le_of_ble_eq_true rfl) (fun X hC => ?_)
  refine nd_aload_n hC dX7_highAt_0 rfl rfl ?_
  refine mo_get_lies hC hw rfl dX7_highAt_1 ?_
  refine nd_bipush hC (v := nI 43) (by rfl) dX7_highAt_4 ?_
  refine nd_iload_n hC dX7_highAt_6 rfl ?_
  first | with_reducible refine nd_imulN hC dX7_highAt_7 ?_ | refine nd_imul hC dX7_highAt_7 ?_
  refine nd_iconst hC (v := nI 1) (by rfl) dX7_highAt_8 ?_
  first | with_reducible refine nd_iaddN hC dX7_highAt_9 ?_ | refine nd_iadd hC dX7_highAt_9 ?_
  refine nd_iload_n hC dX7_highAt_10 rfl ?_
  first | with_reducible refine nd_iaddN hC dX7_highAt_11 ?_ | refine nd_iadd hC dX7_highAt_11 ?_
  refine nd_ialoadN hC hw.lies (by omega) (by decide) dX7_highAt_12 ?_
  refine nd_ireturn hC rfl (by first | rfl | exact nd_b_nar _) (by omega) (by omega) dX7_highAt_13 (hk)
theorem sp_layerAt (hg : nd_OK g) (hw : mo_W h0 A F B h) {p c y : Nat} (hp : 43 * p + 7 + 6 * c + y < 473) (hk : K (.inl (some (.int (A 19 (43 * p + 7 + 6 * c + y))))) h) : nd_M g mX7_layerAt d 0 0 [.ref 101, .int (nI p), .int (nI c), .int (nI y)] h K := by
  refine nd_enter hg (by decide) rfl (Nat.le_of_ble_eq_true rfl) (fun X hC => ?_)
  refine nd_aload_n hC dX7_layerAt_0 rfl rfl ?_
  refine mo_get_lies hC hw rfl dX7_layerAt_1 ?_
  refine nd_bipush hC (v := nI 43) (by rfl) dX7_layerAt_4 ?_
  refine nd_iload_n hC dX7_layerAt_6 rfl ?_
  first | with_reducible refine nd_imulN hC dX7_layerAt_7 ?_ | refine nd_imul hC dX7_layerAt_7 ?_
  refine nd_bipush hC (v := nI 7) (by rfl) dX7_layerAt_8 ?_
  first | with_reducible refine nd_iaddN hC dX7_layerAt_10 ?_ | refine nd_iadd hC dX7_layerAt_10 ?_
  refine nd_bipush hC (v := nI 6) (by rfl) dX7_layerAt_11 ?_
  refine nd_iload_n hC dX7_layerAt_13 rfl ?_
  first | with_reducible refine nd_imulN hC dX7_layerAt_14 ?_ | refine nd_imul hC dX7_layerAt_14 ?_
  first | with_reducible refine nd_iaddN hC dX7_layerAt_15 ?_ | refine nd_iadd hC dX7_layerAt_15 ?_
  refine nd_iload_n hC dX7_layerAt_16 rfl ?_
  first | with_reducible refine nd_iaddN hC dX7_layerAt_17 ?_ | refine nd_iadd hC dX7_layerAt_17 ?_
  refine nd_ialoadN hC hw.lies (by omega) (by decide) dX7_layerAt_18 ?_
  refine nd_ireturn hC rfl (by first | rfl | exact nd_b_nar _) (by omega) (by omega) dX7_layerAt_19 (hk)
theorem sp_within (hg : nd_OK g) {v lo hi : Int64} (hk : K (.inl (some (.int (nd_b (decide (lo ≤ v) && decide (v ≤ hi)))))) h) : nd_M g mX7_within d 0 0 [.long v, .long lo, .long hi] h K := by
  refine nd_enter hg (by decide) rfl (Nat.le_of_ble_eq_true rfl) (fun X hC => ?_)
  refine nd_lload_n hC dX7_within_0 rfl ?_
  refine nd_lload_n hC dX7_within_1 rfl ?_
  refine nd_lcmp_lt hC (tgt := 17) dX7_within_2 dX7_within_3 (by decide) (fun hc => ?_) (fun hc => ?_)
  · have e : ¬ lo ≤ v := fun z => by
      rw [Int64.lt_iff_toInt_lt] at hc
      rw [Int64.le_iff_toInt_le] at z
      omega
    refine nd_iconst hC (v := nI 0) (by rfl) dX7_within_17 ?_
    refine nd_ireturn hC rfl (by first | rfl | exact nd_b_nar _) (by omega) (by omega) dX7_within_18 ((by simpa [nd_b, e] using hk))
  · have e : lo ≤ v := by
      rw [Int64.lt_iff_toInt_lt] at hc
      rw [Int64.le_iff_toInt_le]
      omega
    refine nd_lload_n hC dX7_within_6 rfl ?_
    refine nd_lload hC dX7_within_7 rfl ?_
    refine nd_lcmp_gt hC (tgt := 17) dX7_within_9 dX7_within_10 (by decide) (fun hc => ?_) (fun hc => ?_)
    · have e2 : ¬ v ≤ hi := fun z => by
        rw [Int64.lt_iff_toInt_lt] at hc
        rw [Int64.le_iff_toInt_le] at z
        omega
      refine nd_iconst hC (v := nI 0) (by rfl) dX7_within_17 ?_
      refine nd_ireturn hC rfl (by first | rfl | exact nd_b_nar _) (by omega) (by omega) dX7_within_18 ((by simpa [nd_b, e, e2] using hk))
    · have e2 : v ≤ hi := by
        rw [Int64.lt_iff_toInt_lt] at hc
        rw [Int64.le_iff_toInt_le]
        omega
      refine nd_iconst hC (v := nI 1) (by rfl) dX7_within_13 ?_
      refine nd_goto hC (tgt := 18) dX7_within_14 (by decide) ?_
      refine nd_ireturn hC rfl (by first | rfl | exact nd_b_nar _) (by omega) (by omega) dX7_within_18 ((by simpa [nd_b, e, e2] using hk))
end MO1

