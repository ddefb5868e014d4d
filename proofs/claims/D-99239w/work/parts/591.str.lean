set_option maxRecDepth 100000
/-! ===== String constants: length, charAt ===== -/
theorem nd_str_by0 : nd_str.all (fun r => r.2.2.2.all (fun c => decide (c < 128))) = true := by decide +kernel
theorem nd_str_by {i : Nat} {r : String × Nat × String × List Nat} (hr : nd_str[i]? = some r) (j : Nat) : r.2.2.2.getD j 0 < 128 := by
  have h1 := List.all_eq_true.mp nd_str_by0 r (List.mem_of_getElem? hr)
  rw [List.getD_eq_getElem?_getD]
  cases e : r.2.2.2[j]? with
  | none => decide
  | some c => exact of_decide_eq_true (List.all_eq_true.mp h1 c (List.mem_of_getElem? e))
theorem nd_str_len0 : nd_str.all (fun r => decide (r.2.2.2.length < 100)) = true := by decide +kernel
theorem nd_str_len {i : Nat} {r : String × Nat × String × List Nat} (hr : nd_str[i]? = some r) : r.2.2.2.length < 100 := of_decide_eq_true (List.all_eq_true.mp nd_str_len0 r (List.mem_of_getElem? hr))
theorem i_shr0 (x : Int32) : x >>> (nI 0 &&& 31) = x := by
  rw [show (nI 0 &&& 31 : Int32) = 0 from rfl]
  exact Int32.shiftRight_zero
theorem i_and255 {c : Nat} (h : c < 256) : nI c &&& nI 255 = nI c := by
  rw [nx_and, show (255 : Nat) = 2 ^ 8 - 1 from rfl, Nat.and_two_pow_sub_one_eq_mod, Nat.mod_eq_of_lt (by omega)]
theorem i_char {c : Nat} (h : c < 65536) : ((nI c).toUInt32 % 65536).toInt32 = nI c := by
  have e : (nI c).toUInt32 % 65536 = (nI c).toUInt32 := by
    apply UInt32.toNat_inj.1
    rw [UInt32.toNat_mod]
    have e2 : (nI c).toUInt32.toNat = c := by
      show (UInt32.ofNat c).toNat = c
      rw [UInt32.toNat_ofNat', Nat.mod_eq_of_lt (by omega)]
    rw [e2]
    exact Nat.mod_eq_of_lt h
  rw [e]; rfl
section STR
variable {g : nd_G} {d : Nat} {K : nd_K} {h : nd_H} {i : Nat} {r : String × Nat × String × List Nat}
theorem sq_coder (hg : nd_OK g) (hr : nd_str[i]? = some r) (hk : K (.inl (some (.int (nI 0)))) h) : nd_M g mJ7_coder d 0 0 [nd_f i] h K := by
  refine nd_enter hg (by decide) rfl (Nat.le_of_ble_eq_true rfl) (fun X hC => ?_)
  refine nd_gets hC (r := ("java/lang/String", "COMPACT_STRINGS", "Z", .int 1)) (List.mem_of_getElem? (i := 0) rfl) q1300 dJ7_coder_0 ?_
  first | with_reducible refine nd_if_eqB hC (tgt := 13) dJ7_coder_3 (by decide) (fun hc => ?_) (fun hc => ?_) | with_reducible refine nd_if_eqN hC (tgt := 13) (by omega) dJ7_coder_3 (by decide) (fun hc => ?_) (fun hc => ?_) | refine nd_if_eq hC (tgt := 13) dJ7_coder_3 (by decide) (fun hc => ?_) (fun hc => ?_)
  · exact absurd hc (by decide)
  · refine nd_aload_n hC dJ7_coder_6 rfl rfl ?_
    refine nd_codF hC hr q1427 dJ7_coder_7 ?_
    refine nd_goto hC (tgt := 14) dJ7_coder_10 (by decide) ?_
    refine nd_ireturn hC rfl (by first | rfl | exact nd_b_nar _) (by omega) (by omega) dJ7_coder_14 (hk)
theorem sq_isLatin1 (hg : nd_OK g) (hr : nd_str[i]? = some r) (hk : K (.inl (some (.int (nI 1)))) h) : nd_M g mJ7_isLatin1 d 0 0 [nd_f i] h K := by
  refine nd_enter hg (by decide) rfl (Nat.le_of_ble_eq_true rfl) (fun X hC => ?_)
  refine nd_gets hC (r := ("java/lang/String", "COMPACT_STRINGS", "Z", .int 1)) (List.mem_of_getElem? (i := 0) rfl) q1300 dJ7_isLatin1_0 ?_
  first | with_reducible refine nd_if_eqB hC (tgt := 17) dJ7_isLatin1_3 (by decide) (fun hc => ?_) (fun hc => ?_) | with_reducible refine nd_if_eqN hC (tgt := 17) (by omega) dJ7_isLatin1_3 (by decide) (fun hc => ?_) (fun hc => ?_) | refine nd_if_eq hC (tgt := 17) dJ7_isLatin1_3 (by decide) (fun hc => ?_) (fun hc => ?_)
  · exact absurd hc (by decide)
  · refine nd_aload_n hC dJ7_isLatin1_6 rfl rfl ?_
    refine nd_codF hC hr q1427 dJ7_isLatin1_7 ?_
    first | with_reducible refine nd_if_neB hC (tgt := 17) dJ7_isLatin1_10 (by decide) (fun hc2 => ?_) (fun hc2 => ?_) | with_reducible refine nd_if_neN hC (tgt := 17) (by omega) dJ7_isLatin1_10 (by decide) (fun hc2 => ?_) (fun hc2 => ?_) | refine nd_if_ne hC (tgt := 17) dJ7_isLatin1_10 (by decide) (fun hc2 => ?_) (fun hc2 => ?_)
    · exact absurd rfl hc2
    · refine nd_iconst hC (v := nI 1) (by rfl) dJ7_isLatin1_13 ?_
      refine nd_goto hC (tgt := 18) dJ7_isLatin1_14 (by decide) ?_
      refine nd_ireturn hC rfl (by first | rfl | exact nd_b_nar _) (by omega) (by omega) dJ7_isLatin1_18 (hk)
theorem sq_length (hg : nd_OK g) (hd : 1 ≤ d) (hr : nd_str[i]? = some r) (hk : K (.inl (some (.int (nI r.2.2.2.length)))) h) : nd_M g mJ7_length d 0 0 [nd_f i] h K := by
  refine nd_enter hg (by decide) rfl (Nat.le_of_ble_eq_true rfl) (fun X hC => ?_)
  refine nd_aload_n hC dJ7_length_0 rfl rfl ?_
  refine nd_valF hC hr q1426 dJ7_length_1 ?_
  refine nd_alenF hC hr dJ7_length_4 ?_
  refine nd_aload_n hC dJ7_length_5 rfl rfl ?_
  refine nd_callVF (mm2 := mJ7_coder) (As := []) (d2 := d - 1) hC hr rfl lkJ7_335 ⟨rfl, lmJ7_coder⟩ (Nat.le_of_ble_eq_true rfl) (by omega) rfl (by exact Nat.le_of_ble_eq_true rfl) (by omega) (by omega) dJ7_length_6 rfl ((sq_coder hg hr ?_))
  refine nd_ishr hC dJ7_length_9 ?_
  refine nd_v_eq (y := .int (nI r.2.2.2.length)) (congrArg Value.int (i_shr0 _)) ?_
  refine nd_ireturn hC rfl (by first | rfl | exact nd_b_nar _) (by omega) (by omega) dJ7_length_10 (hk)
theorem sq_checkIndex0 (hg : nd_OK g) {a b : Nat} (hab : a < b) (hb : b < 2147483648) (hk : K (.inl (some (.int (nI a)))) h) : nd_M g mJ11_checkIndex d 0 0 [.int (nI a), .int (nI b), .float 200] h K := by
  refine nd_enter hg (by decide) rfl (Nat.le_of_ble_eq_true rfl) (fun X hC => ?_)
  refine nd_iload_n hC dJ11_checkIndex_0 rfl ?_
  refine nd_if_lt hC (tgt := 9) dJ11_checkIndex_1 (by decide) (fun hc => ?_) (fun hc => ?_)
  · exact absurd hc (by rw [Int32.lt_iff_toInt_lt, nI_toInt (by omega)]; show ¬ (a : Int) < 0; omega)
  · refine nd_iload_n hC dJ11_checkIndex_4 rfl ?_
    refine nd_iload_n hC dJ11_checkIndex_5 rfl ?_
    first | with_reducible refine nd_icmp_ltN hC (tgt := 16) (by omega) (by omega) dJ11_checkIndex_6 (by decide) (fun hq => ?_) (fun hq => ?_) | refine nd_icmp_lt hC (tgt := 16) dJ11_checkIndex_6 (by decide) (fun hq => ?_) (fun hq => ?_)
    · refine nd_iload_n hC dJ11_checkIndex_16 rfl ?_
      refine nd_ireturn hC rfl (by first | rfl | exact nd_b_nar _) (by omega) (by omega) dJ11_checkIndex_17 (hk)
    · omega
theorem sq_checkIndex (hg : nd_OK g) (hd : 1 ≤ d) {a b : Nat} (hab : a < b) (hb : b < 2147483648) (hk : K (.inl none) h) : nd_M g mJ7_checkIndex d 0 0 [.int (nI a), .int (nI b)] h K := by
  refine nd_enter hg (by decide) rfl (Nat.le_of_ble_eq_true rfl) (fun X hC => ?_)
  refine nd_iload_n hC dJ7_checkIndex_0 rfl ?_
  refine nd_iload_n hC dJ7_checkIndex_1 rfl ?_
  refine nd_gets hC (r := ("jdk/internal/util/Preconditions", "SIOOBE_FORMATTER", "Ljava/util/function/BiFunction;", .float 200)) (List.mem_of_getElem? (i := 1) rfl) q1278 dJ7_checkIndex_2 ?_
  refine nd_callS (mm2 := mJ11_checkIndex) (As := [_, _, _]) (mc2 := 0) (ms2 := 0) (d2 := d - 1) hC rfl lkJ7_1059 lmJ11_checkIndex (Nat.le_of_ble_eq_true rfl) (by omega) rfl (by exact Nat.le_of_ble_eq_true rfl) (by omega) (by omega) dJ7_checkIndex_5 rfl ((sq_checkIndex0 hg hab hb ?_))
  refine nd_pop hC (by rfl) dJ7_checkIndex_8 ?_
  refine nd_return hC rfl (by omega) (by omega) dJ7_checkIndex_9 (hk)
theorem sq_charAt0 (hg : nd_OK g) (hd : 2 ≤ d) (hr : nd_str[i]? = some r) {j : Nat} (hj : j < r.2.2.2.length) (hk : K (.inl (some (.int (nI (r.2.2.2.getD j 0))))) h) : nd_M g mJ8_charAt d 0 0 [nd_f (100 + i), .int (nI j)] h K := by
  have hl := nd_str_len hr
  have hb := nd_str_by hr j
  refine nd_enter hg (by decide) rfl (Nat.le_of_ble_eq_true rfl) (fun X hC => ?_)
  refine nd_iload_n hC dJ8_charAt_0 rfl ?_
  refine nd_aload_n hC dJ8_charAt_1 rfl rfl ?_
  refine nd_alenF hC hr dJ8_charAt_2 ?_
  refine nd_callS (mm2 := mJ7_checkIndex) (As := [_, _]) (mc2 := 0) (ms2 := 0) (d2 := d - 1) hC rfl lkJ8_9 lmJ7_checkIndex (Nat.le_of_ble_eq_true rfl) (by omega) rfl (by exact Nat.le_of_ble_eq_true rfl) (by omega) (by omega) dJ8_charAt_3 rfl ((sq_checkIndex hg (by omega) hj (by omega) ?_))
  refine nd_aload_n hC dJ8_charAt_6 rfl rfl ?_
  refine nd_iload_n hC dJ8_charAt_7 rfl ?_
  refine nd_baldF hC hr hj (by omega) dJ8_charAt_8 ?_
  refine nd_sipush hC (v := nI 255) (by rfl) dJ8_charAt_9 ?_
  refine nd_iand hC dJ8_charAt_12 ?_
  refine nd_v_eq (y := .int (nI (r.2.2.2.getD j 0))) (congrArg Value.int (i_and255 (by omega))) ?_
  refine nd_i2c hC dJ8_charAt_13 ?_
  refine nd_v_eq (y := .int (nI (r.2.2.2.getD j 0))) (congrArg Value.int (i_char (by omega))) ?_
  refine nd_ireturn hC rfl (pk_charN (by omega)).1 (by omega) (by omega) dJ8_charAt_14 hk
theorem sq_charAt (hg : nd_OK g) (hd : 3 ≤ d) (hr : nd_str[i]? = some r) {j : Nat} (hj : j < r.2.2.2.length) (hk : K (.inl (some (.int (nI (r.2.2.2.getD j 0))))) h) : nd_M g mJ7_charAt d 0 0 [nd_f i, .int (nI j)] h K := by
  have hb := nd_str_by hr j
  refine nd_enter hg (by decide) rfl (Nat.le_of_ble_eq_true rfl) (fun X hC => ?_)
  refine nd_aload_n hC dJ7_charAt_0 rfl rfl ?_
  refine nd_callVF (mm2 := mJ7_isLatin1) (As := []) (d2 := d - 1) hC hr rfl lkJ7_492 ⟨rfl, lmJ7_isLatin1⟩ (Nat.le_of_ble_eq_true rfl) (by omega) rfl (by exact Nat.le_of_ble_eq_true rfl) (by omega) (by omega) dJ7_charAt_1 rfl ((sq_isLatin1 hg hr ?_))
  first | with_reducible refine nd_if_eqB hC (tgt := 16) dJ7_charAt_4 (by decide) (fun hc => ?_) (fun hc => ?_) | with_reducible refine nd_if_eqN hC (tgt := 16) (by omega) dJ7_charAt_4 (by decide) (fun hc => ?_) (fun hc => ?_) | refine nd_if_eq hC (tgt := 16) dJ7_charAt_4 (by decide) (fun hc => ?_) (fun hc => ?_)
  · exact absurd hc (by decide)
  · refine nd_aload_n hC dJ7_charAt_7 rfl rfl ?_
    refine nd_valF hC hr q1426 dJ7_charAt_8 ?_
    refine nd_iload_n hC dJ7_charAt_11 rfl ?_
    refine nd_callS (mm2 := mJ8_charAt) (As := [_, _]) (mc2 := 0) (ms2 := 0) (d2 := d - 1) hC rfl lkJ7_495 lmJ8_charAt (Nat.le_of_ble_eq_true rfl) (by omega) rfl (by exact Nat.le_of_ble_eq_true rfl) (by omega) (by omega) dJ7_charAt_12 rfl ((sq_charAt0 hg (by omega) hr hj ?_))
    refine nd_ireturn hC rfl (pk_charN (by omega)).1 (by omega) (by omega) dJ7_charAt_15 hk
end STR

