set_option maxRecDepth 100000
/-! ===== String.indexOf ===== -/
theorem i8_small {c : Nat} (h : c < 128) : (nI c).toInt8.toInt32 = nI c := by
  apply Int32.toInt_inj.1
  rw [Int8.toInt_toInt32, Int32.toInt_toInt8, nI_toInt (by omega), Int.bmod_def]
  have : ((2 ^ 8 : Nat) : Int) = 256 := by decide
  rw [this]
  split <;> omega
theorem i_sb_lt {c k : Nat} (hc : c < 256) (hk : k < 128) : (i_sb c < nI k) ↔ (c < k ∨ 128 ≤ c) := by
  rw [Int32.lt_iff_toInt_lt, i_sb_toInt hc, nI_toInt (by omega)]
  split <;> omega
theorem i_sb_gt {c k : Nat} (hc : c < 256) (hk : k < 128) : (nI k < i_sb c) ↔ (k < c ∧ c < 128) := by
  rw [Int32.lt_iff_toInt_lt, i_sb_toInt hc, nI_toInt (by omega)]
  split <;> omega
theorem i_sb_eq {c k : Nat} (hc : c < 256) (hk : k < 128) : (i_sb c = nI k) ↔ c = k := by
  rw [← Int32.toInt_inj, i_sb_toInt hc, nI_toInt (by omega)]
  split <;> omega
theorem i_sb_small {c : Nat} (h : c < 128) : i_sb c = nI c := by unfold i_sb; rw [if_pos h]
section ST95
variable {g : nd_G} {d : Nat} {K : nd_K} {h : nd_H} {i : Nat} {r : String × Nat × String × List Nat}
theorem sq_indexOfChar (hg : nd_OK g) (hr : nd_str[i]? = some r) {c : Nat} (hc : c < 128) (hk : ∀ v : Int32, ((v < 0) ↔ ¬ ∃ j, j < r.2.2.2.length ∧ r.2.2.2.getD j 0 = c) → K (.inl (some (.int v))) h) : nd_M g mJ8_indexOfChar d 0 0 [nd_f (100 + i), .int (nI c), .int (nI 0), .int (nI r.2.2.2.length)] h K := by
  have hl := nd_str_len hr
  refine nd_enter hg (by decide) rfl (Nat.le_of_ble_eq_true rfl) (fun X hC => ?_)
  refine nd_iload_n hC dJ8_indexOfChar_0 rfl ?_
  refine nd_i2b hC dJ8_indexOfChar_1 ?_
  rw [i8_small hc]
  refine nd_istore hC dJ8_indexOfChar_2 (Nat.le_of_ble_eq_true rfl) ?_
  refine nd_iload_n hC dJ8_indexOfChar_4 rfl ?_
  refine nd_istore hC dJ8_indexOfChar_5 (Nat.le_of_ble_eq_true rfl) ?_
  have L : ∀ j, j ≤ r.2.2.2.length → (∀ k, k < j → r.2.2.2.getD k 0 ≠ c) → nd_W g mJ8_indexOfChar d 0 0 K X 7 [some (nd_f (100 + i)), some (.int (nI c)), some (.int (nI 0)), some (.int (nI r.2.2.2.length)), some (.int (nI c)), some (.int (nI j))] [] h 0 0 := by
    refine nd_for _ _ ?_ ?_
    · intro hn
      refine nd_iload hC dJ8_indexOfChar_7 rfl ?_
      refine nd_iload_n hC dJ8_indexOfChar_9 rfl ?_
      first | with_reducible refine nd_icmp_geN hC (tgt := 31) (by omega) (by omega) dJ8_indexOfChar_10 (by decide) (fun hq => ?_) (fun hq => ?_) | refine nd_icmp_ge hC (tgt := 31) dJ8_indexOfChar_10 (by decide) (fun hq => ?_) (fun hq => ?_)
      · refine nd_iconst hC (v := -1) (by rfl) dJ8_indexOfChar_31 ?_
        refine nd_ireturn hC rfl (by first | rfl | exact nd_b_nar _) (by omega) (by omega) dJ8_indexOfChar_32 ((hk _ ⟨fun _ z => by obtain ⟨j, h1, h2⟩ := z; exact hn j h1 h2, fun _ => by decide⟩))
      · omega
    · intro j hj ih hn
      have hb := nd_str_by hr j
      refine nd_iload hC dJ8_indexOfChar_7 rfl ?_
      refine nd_iload_n hC dJ8_indexOfChar_9 rfl ?_
      first | with_reducible refine nd_icmp_geN hC (tgt := 31) (by omega) (by omega) dJ8_indexOfChar_10 (by decide) (fun hq => ?_) (fun hq => ?_) | refine nd_icmp_ge hC (tgt := 31) dJ8_indexOfChar_10 (by decide) (fun hq => ?_) (fun hq => ?_)
      · omega
      refine nd_aload_n hC dJ8_indexOfChar_13 rfl rfl ?_
      refine nd_iload hC dJ8_indexOfChar_14 rfl ?_
      refine nd_baldF hC hr hj (by omega) dJ8_indexOfChar_16 ?_
      refine nd_iload hC dJ8_indexOfChar_17 rfl ?_
      first | with_reducible refine nd_icmp_neN hC (tgt := 25) (by omega) (by omega) dJ8_indexOfChar_19 (by decide) (fun hq2 => ?_) (fun hq2 => ?_) | refine nd_icmp_ne hC (tgt := 25) dJ8_indexOfChar_19 (by decide) (fun hq2 => ?_) (fun hq2 => ?_)
      · first | with_reducible refine nd_iincN hC dJ8_indexOfChar_25 rfl (Nat.le_of_ble_eq_true rfl) ?_ | refine nd_iinc hC dJ8_indexOfChar_25 rfl rfl (Nat.le_of_ble_eq_true rfl) ?_
        refine nd_goto hC (tgt := 7) dJ8_indexOfChar_28 (by decide) ?_
        refine ih (fun k hk => ?_)
        by_cases e : k = j
        · rw [e]; omega
        · exact hn k (by omega)
      · refine nd_iload hC dJ8_indexOfChar_22 rfl ?_
        refine nd_ireturn hC rfl (by first | rfl | exact nd_b_nar _) (by omega) (by omega) dJ8_indexOfChar_24 ((hk _ ⟨fun z => by rw [Int32.lt_iff_toInt_lt, nI_toInt (by omega), Int32.toInt_zero] at z; omega, fun z => absurd ⟨j, hj, by omega⟩ z⟩))
  exact L 0 (Nat.zero_le _) (fun k hk => absurd hk (Nat.not_lt_zero _))
theorem sq_canEncode (hg : nd_OK g) {c : Nat} (hc : c < 256) (hk : K (.inl (some (.int (nd_b (decide (c < 128)))))) h) : nd_M g mJ8_canEncode d 0 0 [.int (i_sb c)] h K := by
  refine nd_enter hg (by decide) rfl (Nat.le_of_ble_eq_true rfl) (fun X hC => ?_)
  refine nd_iload_n hC dJ8_canEncode_0 rfl ?_
  refine nd_if_lt hC (tgt := 15) dJ8_canEncode_1 (by decide) (fun hq => ?_) (fun hq => ?_)
  · have hq : i_sb c < nI 0 := hq
    rw [i_sb_lt hc (by omega)] at hq
    rw [decide_eq_false (by omega)] at hk
    refine nd_iconst hC (v := nI 0) (by rfl) dJ8_canEncode_15 ?_
    refine nd_ireturn hC rfl (by first | rfl | exact nd_b_nar _) (by omega) (by omega) dJ8_canEncode_16 (hk)
  · have hq : ¬ i_sb c < nI 0 := hq
    rw [i_sb_lt hc (by omega)] at hq
    have h1 : c < 128 := by omega
    rw [decide_eq_true h1] at hk
    rw [i_sb_small h1]
    refine nd_iload_n hC dJ8_canEncode_4 rfl ?_
    refine nd_sipush hC (v := nI 255) (by rfl) dJ8_canEncode_5 ?_
    first | with_reducible refine nd_icmp_gtN hC (tgt := 15) (by omega) (by omega) dJ8_canEncode_8 (by decide) (fun hq2 => ?_) (fun hq2 => ?_) | refine nd_icmp_gt hC (tgt := 15) dJ8_canEncode_8 (by decide) (fun hq2 => ?_) (fun hq2 => ?_)
    · omega
    · refine nd_iconst hC (v := nI 1) (by rfl) dJ8_canEncode_11 ?_
      refine nd_goto hC (tgt := 16) dJ8_canEncode_12 (by decide) ?_
      refine nd_ireturn hC rfl (by first | rfl | exact nd_b_nar _) (by omega) (by omega) dJ8_canEncode_16 (hk)
theorem sq_indexOf0 (hg : nd_OK g) (hd : 1 ≤ d) (hr : nd_str[i]? = some r) {c : Nat} (hc : c < 256) (hk : ∀ v : Int32, ((v < 0) ↔ ¬ ∃ j, j < r.2.2.2.length ∧ r.2.2.2.getD j 0 = c) → K (.inl (some (.int v))) h) : nd_M g mJ8_indexOf d 0 0 [nd_f (100 + i), .int (i_sb c), .int (nI 0), .int (nI r.2.2.2.length)] h K := by
  have hl := nd_str_len hr
  refine nd_enter hg (by decide) rfl (Nat.le_of_ble_eq_true rfl) (fun X hC => ?_)
  refine nd_iload_n hC dJ8_indexOf_0 rfl ?_
  refine nd_callS (mm2 := mJ8_canEncode) (As := [_]) (mc2 := 0) (ms2 := 0) (d2 := d - 1) hC rfl lkJ8_88 lmJ8_canEncode (Nat.le_of_ble_eq_true rfl) (by omega) rfl (by exact Nat.le_of_ble_eq_true rfl) (by omega) (by omega) dJ8_indexOf_1 rfl ((sq_canEncode hg hc ?_))
  by_cases h1 : c < 128
  · rw [decide_eq_true h1]
    refine nd_if_neB hC (tgt := 9) dJ8_indexOf_4 (by decide) (fun _ => ?_) (fun hq => absurd hq (by decide))
    rw [i_sb_small h1]
    refine nd_iload_n hC dJ8_indexOf_9 rfl ?_
    refine nd_iconst hC (v := nI 0) (by rfl) dJ8_indexOf_10 ?_
    first | ((with_reducible refine nd_tst2 ?_); refine nd_mmaxN hC (by omega) (by omega) q1593 (by omega) (by omega) (by exact Nat.le_of_ble_eq_true rfl) dJ8_indexOf_11 ?_) | refine nd_mmax hC q1593 (by omega) (by omega) (by exact Nat.le_of_ble_eq_true rfl) dJ8_indexOf_11 ?_
    refine nd_istore_n hC dJ8_indexOf_14 (Nat.le_of_ble_eq_true rfl) ?_
    refine nd_iload_n hC dJ8_indexOf_15 rfl ?_
    refine nd_aload_n hC dJ8_indexOf_16 rfl rfl ?_
    refine nd_alenF hC hr dJ8_indexOf_17 ?_
    first | ((with_reducible refine nd_tst2 ?_); refine nd_mminN hC (by omega) (by omega) q1594 (by omega) (by omega) (by exact Nat.le_of_ble_eq_true rfl) dJ8_indexOf_18 ?_) | refine nd_mmin hC q1594 (by omega) (by omega) (by exact Nat.le_of_ble_eq_true rfl) dJ8_indexOf_18 ?_
    refine nd_istore_n hC dJ8_indexOf_21 (Nat.le_of_ble_eq_true rfl) ?_
    refine nd_iload_n hC dJ8_indexOf_22 rfl ?_
    refine nd_iload_n hC dJ8_indexOf_23 rfl ?_
    rw [show max 0 0 = 0 from rfl, Nat.min_self]
    first | with_reducible refine nd_icmp_ltN hC (tgt := 29) (by omega) (by omega) dJ8_indexOf_24 (by decide) (fun hq => ?_) (fun hq => ?_) | refine nd_icmp_lt hC (tgt := 29) dJ8_indexOf_24 (by decide) (fun hq => ?_) (fun hq => ?_)
    · refine nd_aload_n hC dJ8_indexOf_29 rfl rfl ?_
      refine nd_iload_n hC dJ8_indexOf_30 rfl ?_
      refine nd_iload_n hC dJ8_indexOf_31 rfl ?_
      refine nd_iload_n hC dJ8_indexOf_32 rfl ?_
      refine nd_callS (mm2 := mJ8_indexOfChar) (As := [_, _, _, _]) (mc2 := 0) (ms2 := 0) (d2 := d - 1) hC rfl lkJ8_95 lmJ8_indexOfChar (Nat.le_of_ble_eq_true rfl) (by omega) rfl (by exact Nat.le_of_ble_eq_true rfl) (by omega) (by omega) dJ8_indexOf_33 rfl ((sq_indexOfChar hg hr h1 (fun v hv => ?_)))
      refine nd_ireturn hC rfl (by first | rfl | exact nd_b_nar _) (by omega) (by omega) dJ8_indexOf_36 ((hk v hv))
    · refine nd_iconst hC (v := -1) (by rfl) dJ8_indexOf_27 ?_
      refine nd_ireturn hC rfl (by first | rfl | exact nd_b_nar _) (by omega) (by omega) dJ8_indexOf_28 ((hk _ ⟨fun _ z => by obtain ⟨j, h1, h2⟩ := z; omega, fun _ => by decide⟩))
  · rw [decide_eq_false h1]
    refine nd_if_neB hC (tgt := 9) dJ8_indexOf_4 (by decide) (fun hq => absurd hq (by decide)) (fun _ => ?_)
    refine nd_iconst hC (v := -1) (by rfl) dJ8_indexOf_7 ?_
    refine nd_ireturn hC rfl (by first | rfl | exact nd_b_nar _) (by omega) (by omega) dJ8_indexOf_8 ((hk _ ⟨fun _ z => by obtain ⟨j, h2, h3⟩ := z; have := nd_str_by hr j; omega, fun _ => by decide⟩))
theorem sq_indexOf2 (hg : nd_OK g) (hd : 2 ≤ d) (hr : nd_str[i]? = some r) {c : Nat} (hc : c < 256) (hk : ∀ v : Int32, ((v < 0) ↔ ¬ ∃ j, j < r.2.2.2.length ∧ r.2.2.2.getD j 0 = c) → K (.inl (some (.int v))) h) : nd_M g mJ7_indexOf_2 d 0 0 [nd_f i, .int (i_sb c), .int (nI 0)] h K := by
  have hl := nd_str_len hr
  refine nd_enter hg (by decide) rfl (Nat.le_of_ble_eq_true rfl) (fun X hC => ?_)
  refine nd_aload_n hC dJ7_indexOf_2_0 rfl rfl ?_
  refine nd_callVF (mm2 := mJ7_isLatin1) (As := []) (d2 := d - 1) hC hr rfl lkJ7_492 ⟨rfl, lmJ7_isLatin1⟩ (Nat.le_of_ble_eq_true rfl) (by omega) rfl (by exact Nat.le_of_ble_eq_true rfl) (by omega) (by omega) dJ7_indexOf_2_1 rfl ((sq_isLatin1 hg hr ?_))
  first | with_reducible refine nd_if_eqB hC (tgt := 23) dJ7_indexOf_2_4 (by decide) (fun hc2 => ?_) (fun hc2 => ?_) | with_reducible refine nd_if_eqN hC (tgt := 23) (by omega) dJ7_indexOf_2_4 (by decide) (fun hc2 => ?_) (fun hc2 => ?_) | refine nd_if_eq hC (tgt := 23) dJ7_indexOf_2_4 (by decide) (fun hc2 => ?_) (fun hc2 => ?_)
  · exact absurd hc2 (by decide)
  · refine nd_aload_n hC dJ7_indexOf_2_7 rfl rfl ?_
    refine nd_valF hC hr q1426 dJ7_indexOf_2_8 ?_
    refine nd_iload_n hC dJ7_indexOf_2_11 rfl ?_
    refine nd_iload_n hC dJ7_indexOf_2_12 rfl ?_
    refine nd_aload_n hC dJ7_indexOf_2_13 rfl rfl ?_
    refine nd_callVF (mm2 := mJ7_length) (As := []) (d2 := d - 1) hC hr rfl lkJ7_505 ⟨rfl, lmJ7_length⟩ (Nat.le_of_ble_eq_true rfl) (by omega) rfl (by exact Nat.le_of_ble_eq_true rfl) (by omega) (by omega) dJ7_indexOf_2_14 rfl ((sq_length hg (by omega) hr ?_))
    refine nd_callS (mm2 := mJ8_indexOf) (As := [_, _, _, _]) (mc2 := 0) (ms2 := 0) (d2 := d - 1) hC rfl lkJ7_637 lmJ8_indexOf (Nat.le_of_ble_eq_true rfl) (by omega) rfl (by exact Nat.le_of_ble_eq_true rfl) (by omega) (by omega) dJ7_indexOf_2_17 rfl ((sq_indexOf0 hg (by omega) hr hc (fun v hv => ?_)))
    refine nd_goto hC (tgt := 36) dJ7_indexOf_2_20 (by decide) ?_
    refine nd_ireturn hC rfl (by first | rfl | exact nd_b_nar _) (by omega) (by omega) dJ7_indexOf_2_36 ((hk v hv))
theorem sq_indexOf (hg : nd_OK g) (hd : 3 ≤ d) (hr : nd_str[i]? = some r) {c : Nat} (hc : c < 256) (hk : ∀ v : Int32, ((v < 0) ↔ ¬ ∃ j, j < r.2.2.2.length ∧ r.2.2.2.getD j 0 = c) → K (.inl (some (.int v))) h) : nd_M g mJ7_indexOf d 0 0 [nd_f i, .int (i_sb c)] h K := by
  refine nd_enter hg (by decide) rfl (Nat.le_of_ble_eq_true rfl) (fun X hC => ?_)
  refine nd_aload_n hC dJ7_indexOf_0 rfl rfl ?_
  refine nd_iload_n hC dJ7_indexOf_1 rfl ?_
  refine nd_iconst hC (v := nI 0) (by rfl) dJ7_indexOf_2 ?_
  refine nd_callVF (mm2 := mJ7_indexOf_2) (As := [_, _]) (d2 := d - 1) hC hr rfl lkJ7_633 ⟨rfl, lmJ7_indexOf_2⟩ (Nat.le_of_ble_eq_true rfl) (by omega) rfl (by exact Nat.le_of_ble_eq_true rfl) (by omega) (by omega) dJ7_indexOf_3 rfl ((sq_indexOf2 hg (by omega) hr hc (fun v hv => ?_)))
  refine nd_ireturn hC rfl (by first | rfl | exact nd_b_nar _) (by omega) (by omega) dJ7_indexOf_6 ((hk v hv))
end ST95
/-! ===== the class's reader: tokens ===== -/
def kd (k : Nat) : Nat := if k = 0 then 0 else if k = 1 then 1 else if k = 2 then 2 else if k = 3 then 4 else 3
theorem kd_le (k : Nat) : kd k ≤ 4 := by unfold kd; repeat' (split <;> try omega)
theorem kd_1 {k : Nat} : kd k = 1 ↔ k = 1 := by unfold kd; repeat' (split <;> try omega)
theorem kd_2 {k : Nat} : kd k = 2 ↔ k = 2 := by unfold kd; repeat' (split <;> try omega)
theorem kd_0 {k : Nat} : kd k = 0 ↔ k = 0 := by unfold kd; repeat' (split <;> try omega)
theorem kd_4 {k : Nat} : kd k = 4 ↔ k = 3 := by unfold kd; repeat' (split <;> try omega)
theorem kd_3 {k : Nat} : kd k = 3 ↔ 4 ≤ k := by unfold kd; repeat' (split <;> try omega)
abbrev rd_c (wr md L : Nat) (a b k n : Int32) (dp m : Nat) : nd_C := .inr (nX8, [.ref wr, .ref 92, .int (nI L), .ref md, .int a, .int b, .int k, .int n, .int (nI dp), .int (nI m)])
/-- the tape holds T -/
def rd_T (h : nd_H) (T : List Nat) : Prop := ∃ tf, h[92]? = some (.inl (2, 900, .inl tf)) ∧ (∀ i, i < T.length → tf i = i_sb (T.getD i 0)) ∧ T.length ≤ 900 ∧ ∀ i, T.getD i 0 < 256
/-- the reader at r stands at the token behind p -/
def rd_R (h : nd_H) (r wr md : Nat) (T : List Nat) (p dp m : Nat) : Prop := ∃ nu, h[r]? = some (rd_c wr md T.length (nI (tx_b T p)) (nI (tx_h T p)) (nI (kd (tx_k T p))) nu dp m) ∧ (tx_k T p = 2 → nu = nI (tx_v T p))
theorem rd_T.set {h : nd_H} {T : List Nat} (H : rd_T h T) {r : Nat} {c : nd_C} (hr : r ≠ 92) : rd_T (h.set r c) T := by
  obtain ⟨tf, a, b⟩ := H
  exact ⟨tf, (List.getElem?_set_ne hr).trans a, b⟩
section RD95
variable {g : nd_G} {d : Nat} {K : nd_K} {h : nd_H} {T : List Nat} {r wr md p dp m : Nat}
theorem rd_isSmall (hg : nd_OK g) (hT : rd_T h T) {k : Nat} {a b kk n : Int32} (hb : h[r]? = some (rd_c wr md T.length a b kk n dp m)) (hk9 : k ≤ 900) (hk : K (.inl (some (.int (nd_b (decide (k < T.length) && tx_al (T.getD k 0)))))) h) : nd_M g mX8_isSmall d 0 0 [.ref r, .int (nI k)] h K := by
  obtain ⟨tf, t1, t2, t3, t4⟩ := hT
  have hc := t4 k
  unfold tx_al at hk
  refine nd_enter hg (by decide) rfl (Nat.le_of_ble_eq_true rfl) (fun X hC => ?_)
  refine nd_iload_n hC dX8_isSmall_0 rfl ?_
  refine nd_aload_n hC dX8_isSmall_1 rfl rfl ?_
  refine nd_get (ci := nX8) hC in_X8 rfl hb 2 (by decide) q1626 (fun _ z => z) rfl dX8_isSmall_2 ?_
  first | with_reducible refine nd_icmp_geN hC (tgt := 34) (by omega) (by omega) dX8_isSmall_5 (by decide) (fun hq => ?_) (fun hq => ?_) | refine nd_icmp_ge hC (tgt := 34) dX8_isSmall_5 (by decide) (fun hq => ?_) (fun hq => ?_)
  · rw [decide_eq_false (by omega), Bool.false_and] at hk
    refine nd_iconst hC (v := nI 0) (by rfl) dX8_isSmall_34 ?_
    refine nd_ireturn hC rfl (by first | rfl | exact nd_b_nar _) (by omega) (by omega) dX8_isSmall_35 (hk)
  rw [decide_eq_true (show k < T.length by omega), Bool.true_and] at hk
  refine nd_aload_n hC dX8_isSmall_8 rfl rfl ?_
  refine nd_get (ci := nX8) hC in_X8 rfl hb 1 (by decide) q1625 (fun _ z => z) rfl dX8_isSmall_9 ?_
  refine nd_iload_n hC dX8_isSmall_12 rfl ?_
  refine nd_baloadN hC t1 (by omega) (by omega) dX8_isSmall_13 ?_
  refine nd_v_eq (congrArg Value.int (t2 k (by omega))) ?_
  refine nd_bipush hC (v := nI 97) (by rfl) dX8_isSmall_14 ?_
  refine nd_icmp_lt hC (tgt := 34) dX8_isSmall_16 (by decide) (fun hq1 => ?_) (fun hq1 => ?_)
  · rw [i_sb_lt hc (by omega)] at hq1
    have e : (decide (97 ≤ T.getD k 0) && decide (T.getD k 0 ≤ 122)) = false := by
      rw [Bool.and_eq_false_iff, decide_eq_false_iff_not, decide_eq_false_iff_not]
      omega
    rw [e] at hk
    refine nd_iconst hC (v := nI 0) (by rfl) dX8_isSmall_34 ?_
    refine nd_ireturn hC rfl (by first | rfl | exact nd_b_nar _) (by omega) (by omega) dX8_isSmall_35 (hk)
  rw [i_sb_lt hc (by omega)] at hq1
  refine nd_aload_n hC dX8_isSmall_19 rfl rfl ?_
  refine nd_get (ci := nX8) hC in_X8 rfl hb 1 (by decide) q1625 (fun _ z => z) rfl dX8_isSmall_20 ?_
  refine nd_iload_n hC dX8_isSmall_23 rfl ?_
  refine nd_baloadN hC t1 (by omega) (by omega) dX8_isSmall_24 ?_
  refine nd_v_eq (congrArg Value.int (t2 k (by omega))) ?_
  refine nd_bipush hC (v := nI 122) (by rfl) dX8_isSmall_25 ?_
  refine nd_icmp_gt hC (tgt := 34) dX8_isSmall_27 (by decide) (fun hq2 => ?_) (fun hq2 => ?_)
  · rw [i_sb_gt hc (by omega)] at hq2
    rw [decide_eq_false (show ¬ T.getD k 0 ≤ 122 by omega), Bool.and_false] at hk
    refine nd_iconst hC (v := nI 0) (by rfl) dX8_isSmall_34 ?_
    refine nd_ireturn hC rfl (by first | rfl | exact nd_b_nar _) (by omega) (by omega) dX8_isSmall_35 (hk)
  · rw [i_sb_gt hc (by omega)] at hq2
    rw [decide_eq_true (show T.getD k 0 ≤ 122 by omega), decide_eq_true (show 97 ≤ T.getD k 0 by omega)] at hk
    refine nd_iconst hC (v := nI 1) (by rfl) dX8_isSmall_30 ?_
    refine nd_goto hC (tgt := 35) dX8_isSmall_31 (by decide) ?_
    refine nd_ireturn hC rfl (by first | rfl | exact nd_b_nar _) (by omega) (by omega) dX8_isSmall_35 (hk)
theorem rd_isDigit (hg : nd_OK g) (hT : rd_T h T) {k : Nat} {a b kk n : Int32} (hb : h[r]? = some (rd_c wr md T.length a b kk n dp m)) (hk9 : k ≤ 900) (hk : K (.inl (some (.int (nd_b (decide (k < T.length) && tx_dg (T.getD k 0)))))) h) : nd_M g mX8_isDigit d 0 0 [.ref r, .int (nI k)] h K := by
  obtain ⟨tf, t1, t2, t3, t4⟩ := hT
  have hc := t4 k
  unfold tx_dg at hk
  refine nd_enter hg (by decide) rfl (Nat.le_of_ble_eq_true rfl) (fun X hC => ?_)
  refine nd_iload_n hC dX8_isDigit_0 rfl ?_
  refine nd_aload_n hC dX8_isDigit_1 rfl rfl ?_
  refine nd_get (ci := nX8) hC in_X8 rfl hb 2 (by decide) q1626 (fun _ z => z) rfl dX8_isDigit_2 ?_
  first | with_reducible refine nd_icmp_geN hC (tgt := 34) (by omega) (by omega) dX8_isDigit_5 (by decide) (fun hq => ?_) (fun hq => ?_) | refine nd_icmp_ge hC (tgt := 34) dX8_isDigit_5 (by decide) (fun hq => ?_) (fun hq => ?_)
  · rw [decide_eq_false (by omega), Bool.false_and] at hk
    refine nd_iconst hC (v := nI 0) (by rfl) dX8_isDigit_34 ?_
    refine nd_ireturn hC rfl (by first | rfl | exact nd_b_nar _) (by omega) (by omega) dX8_isDigit_35 (hk)
  rw [decide_eq_true (show k < T.length by omega), Bool.true_and] at hk
  refine nd_aload_n hC dX8_isDigit_8 rfl rfl ?_
  refine nd_get (ci := nX8) hC in_X8 rfl hb 1 (by decide) q1625 (fun _ z => z) rfl dX8_isDigit_9 ?_
  refine nd_iload_n hC dX8_isDigit_12 rfl ?_
  refine nd_baloadN hC t1 (by omega) (by omega) dX8_isDigit_13 ?_
  refine nd_v_eq (congrArg Value.int (t2 k (by omega))) ?_
  refine nd_bipush hC (v := nI 48) (by rfl) dX8_isDigit_14 ?_
  refine nd_icmp_lt hC (tgt := 34) dX8_isDigit_16 (by decide) (fun hq1 => ?_) (fun hq1 => ?_)
  · rw [i_sb_lt hc (by omega)] at hq1
    have e : (decide (48 ≤ T.getD k 0) && decide (T.getD k 0 ≤ 57)) = false := by
      rw [Bool.and_eq_false_iff, decide_eq_false_iff_not, decide_eq_false_iff_not]
      omega
    rw [e] at hk
    refine nd_iconst hC (v := nI 0) (by rfl) dX8_isDigit_34 ?_
    refine nd_ireturn hC rfl (by first | rfl | exact nd_b_nar _) (by omega) (by omega) dX8_isDigit_35 (hk)
  rw [i_sb_lt hc (by omega)] at hq1
  refine nd_aload_n hC dX8_isDigit_19 rfl rfl ?_
  refine nd_get (ci := nX8) hC in_X8 rfl hb 1 (by decide) q1625 (fun _ z => z) rfl dX8_isDigit_20 ?_
  refine nd_iload_n hC dX8_isDigit_23 rfl ?_
  refine nd_baloadN hC t1 (by omega) (by omega) dX8_isDigit_24 ?_
  refine nd_v_eq (congrArg Value.int (t2 k (by omega))) ?_
  refine nd_bipush hC (v := nI 57) (by rfl) dX8_isDigit_25 ?_
  refine nd_icmp_gt hC (tgt := 34) dX8_isDigit_27 (by decide) (fun hq2 => ?_) (fun hq2 => ?_)
  · rw [i_sb_gt hc (by omega)] at hq2
    rw [decide_eq_false (show ¬ T.getD k 0 ≤ 57 by omega), Bool.and_false] at hk
    refine nd_iconst hC (v := nI 0) (by rfl) dX8_isDigit_34 ?_
    refine nd_ireturn hC rfl (by first | rfl | exact nd_b_nar _) (by omega) (by omega) dX8_isDigit_35 (hk)
  · rw [i_sb_gt hc (by omega)] at hq2
    rw [decide_eq_true (show T.getD k 0 ≤ 57 by omega), decide_eq_true (show 48 ≤ T.getD k 0 by omega)] at hk
    refine nd_iconst hC (v := nI 1) (by rfl) dX8_isDigit_30 ?_
    refine nd_goto hC (tgt := 35) dX8_isDigit_31 (by decide) ?_
    refine nd_ireturn hC rfl (by first | rfl | exact nd_b_nar _) (by omega) (by omega) dX8_isDigit_35 (hk)
theorem tx_sg_iff {c : Nat} : tx_sg c = true ↔ ∃ j, j < [59, 58, 43, 45, 42, 40, 41, 91, 93, 61, 60, 62].length ∧ [59, 58, 43, 45, 42, 40, 41, 91, 93, 61, 60, 62].getD j 0 = c := by
  simp only [tx_sg, Bool.or_eq_true, beq_iff_eq]
  constructor
  · intro h
    rcases h with ((((((((((h | h) | h) | h) | h) | h) | h) | h) | h) | h) | h) | h <;> subst h <;> decide
  · rintro ⟨j, hj, e⟩
    have hj : j < 12 := hj
    match j, hj with
    | 0, _ => subst e; decide
    | 1, _ => subst e; decide
    | 2, _ => subst e; decide
    | 3, _ => subst e; decide
    | 4, _ => subst e; decide
    | 5, _ => subst e; decide
    | 6, _ => subst e; decide
    | 7, _ => subst e; decide
    | 8, _ => subst e; decide
    | 9, _ => subst e; decide
    | 10, _ => subst e; decide
    | 11, _ => subst e; decide
theorem rd_next (hg : nd_OK g) (hd : 4 ≤ d) (hT : rd_T h T) (hr : r ≠ 92) {a0 k0 n0 : Int32} {q : Nat} (hq : q ≤ T.length) (hb : h[r]? = some (rd_c wr md T.length a0 (nI q) k0 n0 dp m)) (hk : ∀ c, rd_R (h.set r c) r wr md T q dp m → K (.inl none) (h.set r c)) : nd_M g mX8_next d 0 0 [.ref r] h K := by
  have hT0 := hT
  obtain ⟨tf, t1, t2, t3, t4⟩ := hT
  have hlt := nd_get_lt hb
  have b1 : ∀ c : nd_C, (h.set r c)[r]? = some c := fun c => List.getElem?_set_self hlt
  have tt : ∀ c : nd_C, (h.set r c)[92]? = some (.inl (2, 900, .inl tf)) := fun c => (List.getElem?_set_ne hr).trans t1
  have bl := tx_b_le T hq
  refine nd_enter hg (by decide) rfl (Nat.le_of_ble_eq_true rfl) (fun X hC => ?_)
  refine nd_aload_n hC dX8_next_0 rfl rfl ?_
  refine nd_aload_n hC dX8_next_1 rfl rfl ?_
  refine nd_get (ci := nX8) hC in_X8 rfl hb 5 (by decide) q1629 (fun _ z => z) rfl dX8_next_2 ?_
  refine nd_put (ci := nX8) hC in_X8 rfl hb 4 (by decide) tyX8 tyX8_ok (by decide +kernel) q1628 (fun _ z => z) rfl rfl rfl (by show 4 < 10; decide) dX8_next_5 ?_
  have LA : ∀ a, q ≤ a → a ≤ T.length → tx_end tx_sp T a = tx_b T q → nd_W g mX8_next d 0 0 K X 8 [some (.ref r)] [] (h.set r (rd_c wr md T.length (nI a) (nI q) k0 n0 dp m)) 0 0 := by
    refine nd_wh (fun a => T.length - a) _ ?_
    intro a ih h1 h2 h3
    have hb1 := b1 (rd_c wr md T.length (nI a) (nI q) k0 n0 dp m)
    have ht1 := tt (rd_c wr md T.length (nI a) (nI q) k0 n0 dp m)
    have hc := t4 a
    have JX : a = tx_b T q → nd_W g mX8_next d 0 0 K X 60 [some (.ref r)] [] (h.set r (rd_c wr md T.length (nI a) (nI q) k0 n0 dp m)) 0 0 := by
      intro ea
      subst ea
      refine nd_aload_n hC dX8_next_60 rfl rfl ?_
      refine nd_aload_n hC dX8_next_61 rfl rfl ?_
      refine nd_get (ci := nX8) hC in_X8 rfl hb1 4 (by decide) q1628 (fun _ z => z) rfl dX8_next_62 ?_
      refine nd_put (ci := nX8) hC in_X8 rfl hb1 5 (by decide) tyX8 tyX8_ok (by decide +kernel) q1629 (fun _ z => z) rfl rfl rfl (by show 5 < 10; decide) dX8_next_65 ?_
      rw [List.set_set]
      have hb2 := b1 (rd_c wr md T.length (nI (tx_b T q)) (nI (tx_b T q)) k0 n0 dp m)
      have ht2 := tt (rd_c wr md T.length (nI (tx_b T q)) (nI (tx_b T q)) k0 n0 dp m)
      have hT2 := hT0.set (c := rd_c wr md T.length (nI (tx_b T q)) (nI (tx_b T q)) k0 n0 dp m) hr
      refine nd_aload_n hC dX8_next_68 rfl rfl ?_
      refine nd_get (ci := nX8) hC in_X8 rfl hb2 4 (by decide) q1628 (fun _ z => z) rfl dX8_next_69 ?_
      refine nd_aload_n hC dX8_next_72 rfl rfl ?_
      refine nd_get (ci := nX8) hC in_X8 rfl hb2 2 (by decide) q1626 (fun _ z => z) rfl dX8_next_73 ?_
      first | with_reducible refine nd_icmp_neN hC (tgt := 87) (by omega) (by omega) dX8_next_76 (by decide) (fun hq1 => ?_) (fun hq1 => ?_) | refine nd_icmp_ne hC (tgt := 87) dX8_next_76 (by decide) (fun hq1 => ?_) (fun hq1 => ?_)
      rotate_left
      · have ek : tx_k T q = 0 := by unfold tx_k; rw [if_pos (by omega)]
        have eh : tx_h T q = tx_b T q := by unfold tx_h; rw [if_pos (by omega)]
        refine nd_aload_n hC dX8_next_79 rfl rfl ?_
        refine nd_iconst hC (v := nI 0) (by rfl) dX8_next_80 ?_
        refine nd_put (ci := nX8) hC in_X8 rfl hb2 6 (by decide) tyX8 tyX8_ok (by decide +kernel) q1630 (fun _ z => z) rfl rfl rfl (by show 6 < 10; decide) dX8_next_81 ?_
        rw [List.set_set]
        refine nd_goto hC (tgt := 265) dX8_next_84 (by decide) ?_
        refine nd_return hC rfl (by omega) (by omega) dX8_next_265 ((hk _ ⟨n0, by rw [ek, eh]; exact b1 _, fun z => by omega⟩))
      have hlt2 : tx_b T q < T.length := by omega
      refine nd_aload_n hC dX8_next_87 rfl rfl ?_
      refine nd_aload_n hC dX8_next_88 rfl rfl ?_
      refine nd_get (ci := nX8) hC in_X8 rfl hb2 4 (by decide) q1628 (fun _ z => z) rfl dX8_next_89 ?_
      refine nd_callV (mm2 := mX8_isSmall) (As := [_]) (mc2 := 0) (ms2 := 0) (d2 := d - 1) hC rfl lkX8_60 ⟨rfl, lmX8_isSmall⟩ (hb2) rfl (Nat.le_of_ble_eq_true rfl) (by omega) rfl (by exact Nat.le_of_ble_eq_true rfl) (by omega) (by omega) dX8_next_92 rfl ((rd_isSmall hg hT2 hb2 (by omega) ?_))
      rw [decide_eq_true hlt2, Bool.true_and]
      have JE : tx_k T q ≠ 2 → ∀ n1, nd_W g mX8_next d 0 0 K X 265 [some (.ref r)] [] (h.set r (rd_c wr md T.length (nI (tx_b T q)) (nI (tx_h T q)) (nI (kd (tx_k T q))) n1 dp m)) 0 0 := by
        intro h2 n1
        refine nd_return hC rfl (by omega) (by omega) dX8_next_265 ((hk _ ⟨n1, b1 _, fun z => absurd z h2⟩))
      cases ea : tx_al (T.getD (tx_b T q) 0) with
      | true =>
        have ek : tx_k T q = 1 := by unfold tx_k tx_c; rw [if_neg (by omega), if_pos ea]
        have eh : tx_h T q = tx_end tx_al T (tx_b T q) := by unfold tx_h tx_c; rw [if_neg (by omega), if_pos ea]
        refine nd_if_eqB hC (tgt := 127) dX8_next_95 (by decide) (fun hq => absurd hq (by decide)) (fun _ => ?_)
        refine nd_aload_n hC dX8_next_98 rfl rfl ?_
        refine nd_iconst hC (v := nI 1) (by rfl) dX8_next_99 ?_
        refine nd_put (ci := nX8) hC in_X8 rfl hb2 6 (by decide) tyX8 tyX8_ok (by decide +kernel) q1630 (fun _ z => z) rfl rfl rfl (by show 6 < 10; decide) dX8_next_100 ?_
        rw [List.set_set]
        have LB : ∀ b, tx_b T q ≤ b → b ≤ T.length → tx_end tx_al T b = tx_h T q → nd_W g mX8_next d 0 0 K X 103 [some (.ref r)] [] (h.set r (rd_c wr md T.length (nI (tx_b T q)) (nI b) (nI 1) n0 dp m)) 0 0 := by
          refine nd_wh (fun b => T.length - b) _ ?_
          intro b ihb g1 g2 g3
          have hb3 := b1 (rd_c wr md T.length (nI (tx_b T q)) (nI b) (nI 1) n0 dp m)
          have hT3 := hT0.set (c := rd_c wr md T.length (nI (tx_b T q)) (nI b) (nI 1) n0 dp m) hr
          rw [tx_end_eq] at g3
          refine nd_aload_n hC dX8_next_103 rfl rfl ?_
          refine nd_aload_n hC dX8_next_104 rfl rfl ?_
          refine nd_get (ci := nX8) hC in_X8 rfl hb3 5 (by decide) q1629 (fun _ z => z) rfl dX8_next_105 ?_
          refine nd_callV (mm2 := mX8_isSmall) (As := [_]) (mc2 := 0) (ms2 := 0) (d2 := d - 1) hC rfl lkX8_60 ⟨rfl, lmX8_isSmall⟩ (hb3) rfl (Nat.le_of_ble_eq_true rfl) (by omega) rfl (by exact Nat.le_of_ble_eq_true rfl) (by omega) (by omega) dX8_next_108 rfl ((rd_isSmall hg hT3 hb3 (by omega) ?_))
          by_cases z : b < T.length ∧ tx_al (T.getD b 0) = true
          · rw [if_pos z] at g3
            rw [decide_eq_true z.1, z.2]
            refine nd_if_eqB hC (tgt := 265) dX8_next_111 (by decide) (fun hq => absurd hq (by decide)) (fun _ => ?_)
            refine nd_aload_n hC dX8_next_114 rfl rfl ?_
            refine nd_dup hC (by rfl) dX8_next_115 ?_
            refine nd_get (ci := nX8) hC in_X8 rfl hb3 5 (by decide) q1629 (fun _ z => z) rfl dX8_next_116 ?_
            refine nd_iconst hC (v := nI 1) (by rfl) dX8_next_119 ?_
            first | with_reducible refine nd_iaddN hC dX8_next_120 ?_ | refine nd_iadd hC dX8_next_120 ?_
            refine nd_put (ci := nX8) hC in_X8 rfl hb3 5 (by decide) tyX8 tyX8_ok (by decide +kernel) q1629 (fun _ z => z) rfl rfl rfl (by show 5 < 10; decide) dX8_next_121 ?_
            rw [List.set_set]
            refine nd_goto hC (tgt := 103) dX8_next_124 (by decide) ?_
            exact ihb (b + 1) (by omega) (by omega) (by omega) g3
          · rw [if_neg z] at g3
            have ez : (decide (b < T.length) && tx_al (T.getD b 0)) = false := by
              rw [Bool.eq_false_iff]
              intro y
              rw [Bool.and_eq_true, decide_eq_true_iff] at y
              exact z y
            rw [ez]
            refine nd_if_eqB hC (tgt := 265) dX8_next_111 (by decide) (fun _ => ?_) (fun hq => absurd hq (by decide))
            have R := JE (by omega) n0
            rw [ek, ← g3] at R
            exact R
        exact LB (tx_b T q) (Nat.le_refl _) bl eh.symm
      | false =>
        refine nd_if_eqB hC (tgt := 127) dX8_next_95 (by decide) (fun _ => ?_) (fun hq => absurd hq (by decide))
        refine nd_aload_n hC dX8_next_127 rfl rfl ?_
        refine nd_aload_n hC dX8_next_128 rfl rfl ?_
        refine nd_get (ci := nX8) hC in_X8 rfl hb2 4 (by decide) q1628 (fun _ z => z) rfl dX8_next_129 ?_
        refine nd_callV (mm2 := mX8_isDigit) (As := [_]) (mc2 := 0) (ms2 := 0) (d2 := d - 1) hC rfl lkX8_64 ⟨rfl, lmX8_isDigit⟩ (hb2) rfl (Nat.le_of_ble_eq_true rfl) (by omega) rfl (by exact Nat.le_of_ble_eq_true rfl) (by omega) (by omega) dX8_next_132 rfl ((rd_isDigit hg hT2 hb2 (by omega) ?_))
        rw [decide_eq_true hlt2, Bool.true_and]
        cases ed : tx_dg (T.getD (tx_b T q) 0) with
        | true =>
          have ek : tx_k T q = if 3 < tx_end tx_dg T (tx_b T q) - tx_b T q then 3 else 2 := by unfold tx_k tx_c; rw [if_neg (by omega), if_neg (by rw [ea]; decide), if_pos ed]
          have eh : tx_h T q = tx_end tx_dg T (tx_b T q) := by unfold tx_h tx_c; rw [if_neg (by omega), if_neg (by rw [ea]; decide), if_pos ed]
          refine nd_if_eqB hC (tgt := 229) dX8_next_135 (by decide) (fun hq => absurd hq (by decide)) (fun _ => ?_)
          refine nd_aload_n hC dX8_next_138 rfl rfl ?_
          refine nd_iconst hC (v := nI 0) (by rfl) dX8_next_139 ?_
          refine nd_put (ci := nX8) hC in_X8 rfl hb2 7 (by decide) tyX8 tyX8_ok (by decide +kernel) q1631 (fun _ z => z) rfl rfl rfl (by show 7 < 10; decide) dX8_next_140 ?_
          rw [List.set_set]
          have LD : ∀ b, tx_b T q ≤ b → b ≤ T.length → tx_end tx_dg T b = tx_h T q → b ≤ tx_h T q → nd_W g mX8_next d 0 0 K X 143 [some (.ref r)] [] (h.set r (rd_c wr md T.length (nI (tx_b T q)) (nI b) k0 (nI (tx_nm T (tx_b T q) (b - tx_b T q))) dp m)) 0 0 := by
            refine nd_wh (fun b => T.length - b) _ ?_
            intro b ihb g1 g2 g3 g5
            have hn := tx_nm_lt T (tx_b T q) (b - tx_b T q) (fun i hi => by
              have h9 := (tx_end_in (q := tx_dg) (T := T) (p := tx_b T q) (i := tx_b T q + i) (by omega) (by rw [← eh]; omega)).2
              unfold tx_dg at h9
              rw [Bool.and_eq_true] at h9
              exact of_decide_eq_true h9.2)
            have hn3 : 10 ^ min (b - tx_b T q) 3 ≤ 10 ^ 3 := Nat.pow_le_pow_right (by decide) (Nat.min_le_right _ _)
            have hb3 := b1 (rd_c wr md T.length (nI (tx_b T q)) (nI b) k0 (nI (tx_nm T (tx_b T q) (b - tx_b T q))) dp m)
            have hT3 := hT0.set (c := rd_c wr md T.length (nI (tx_b T q)) (nI b) k0 (nI (tx_nm T (tx_b T q) (b - tx_b T q))) dp m) hr
            have ht3 := tt (rd_c wr md T.length (nI (tx_b T q)) (nI b) k0 (nI (tx_nm T (tx_b T q) (b - tx_b T q))) dp m)
            rw [tx_end_eq] at g3
            refine nd_aload_n hC dX8_next_143 rfl rfl ?_
            refine nd_aload_n hC dX8_next_144 rfl rfl ?_
            refine nd_get (ci := nX8) hC in_X8 rfl hb3 5 (by decide) q1629 (fun _ z => z) rfl dX8_next_145 ?_
            refine nd_callV (mm2 := mX8_isDigit) (As := [_]) (mc2 := 0) (ms2 := 0) (d2 := d - 1) hC rfl lkX8_64 ⟨rfl, lmX8_isDigit⟩ (hb3) rfl (Nat.le_of_ble_eq_true rfl) (by omega) rfl (by exact Nat.le_of_ble_eq_true rfl) (by omega) (by omega) dX8_next_148 rfl ((rd_isDigit hg hT3 hb3 (by omega) ?_))
            by_cases z : b < T.length ∧ tx_dg (T.getD b 0) = true
            · rw [if_pos z] at g3
              have hge := tx_end_ge tx_dg T (b + 1)
              have hdg : 48 ≤ T.getD b 0 ∧ T.getD b 0 ≤ 57 := by
                have := z.2
                unfold tx_dg at this
                rw [Bool.and_eq_true, decide_eq_true_iff, decide_eq_true_iff] at this
                exact this
              have es : tx_nm T (tx_b T q) (b + 1 - tx_b T q) = if b - tx_b T q < 3 then 10 * tx_nm T (tx_b T q) (b - tx_b T q) + T.getD b 0 - 48 else tx_nm T (tx_b T q) (b - tx_b T q) := by
                rw [show b + 1 - tx_b T q = (b - tx_b T q) + 1 by omega]
                show (if b - tx_b T q < 3 then 10 * tx_nm T (tx_b T q) (b - tx_b T q) + T.getD (tx_b T q + (b - tx_b T q)) 0 - 48 else tx_nm T (tx_b T q) (b - tx_b T q)) = _
                rw [show tx_b T q + (b - tx_b T q) = b by omega]
              have R := ihb (b + 1) (by omega) (by omega) (by omega) g3 (by omega)
              rw [es] at R
              rw [decide_eq_true z.1, z.2]
              refine nd_if_eqB hC (tgt := 204) dX8_next_151 (by decide) (fun hq => absurd hq (by decide)) (fun _ => ?_)
              refine nd_aload_n hC dX8_next_154 rfl rfl ?_
              refine nd_get (ci := nX8) hC in_X8 rfl hb3 5 (by decide) q1629 (fun _ z => z) rfl dX8_next_155 ?_
              refine nd_aload_n hC dX8_next_158 rfl rfl ?_
              refine nd_get (ci := nX8) hC in_X8 rfl hb3 4 (by decide) q1628 (fun _ z => z) rfl dX8_next_159 ?_
              first | with_reducible refine nd_isubN hC (by omega) dX8_next_162 ?_ | refine nd_isub hC dX8_next_162 ?_
              refine nd_iconst hC (v := nI 3) (by rfl) dX8_next_163 ?_
              first | with_reducible refine nd_icmp_geN hC (tgt := 191) (by omega) (by omega) dX8_next_164 (by decide) (fun hq5 => ?_) (fun hq5 => ?_) | refine nd_icmp_ge hC (tgt := 191) dX8_next_164 (by decide) (fun hq5 => ?_) (fun hq5 => ?_)
              · rw [if_neg (by omega)] at R
                refine nd_aload_n hC dX8_next_191 rfl rfl ?_
                refine nd_dup hC (by rfl) dX8_next_192 ?_
                refine nd_get (ci := nX8) hC in_X8 rfl hb3 5 (by decide) q1629 (fun _ z => z) rfl dX8_next_193 ?_
                refine nd_iconst hC (v := nI 1) (by rfl) dX8_next_196 ?_
                first | with_reducible refine nd_iaddN hC dX8_next_197 ?_ | refine nd_iadd hC dX8_next_197 ?_
                refine nd_put (ci := nX8) hC in_X8 rfl hb3 5 (by decide) tyX8 tyX8_ok (by decide +kernel) q1629 (fun _ z => z) rfl rfl rfl (by show 5 < 10; decide) dX8_next_198 ?_
                rw [List.set_set]
                refine nd_goto hC (tgt := 143) dX8_next_201 (by decide) ?_
                exact R
              · rw [if_pos (by omega)] at R
                refine nd_aload_n hC dX8_next_167 rfl rfl ?_
                refine nd_bipush hC (v := nI 10) (by rfl) dX8_next_168 ?_
                refine nd_aload_n hC dX8_next_170 rfl rfl ?_
                refine nd_get (ci := nX8) hC in_X8 rfl hb3 7 (by decide) q1631 (fun _ z => z) rfl dX8_next_171 ?_
                first | with_reducible refine nd_imulN hC dX8_next_174 ?_ | refine nd_imul hC dX8_next_174 ?_
                refine nd_aload_n hC dX8_next_175 rfl rfl ?_
                refine nd_get (ci := nX8) hC in_X8 rfl hb3 1 (by decide) q1625 (fun _ z => z) rfl dX8_next_176 ?_
                refine nd_aload_n hC dX8_next_179 rfl rfl ?_
                refine nd_get (ci := nX8) hC in_X8 rfl hb3 5 (by decide) q1629 (fun _ z => z) rfl dX8_next_180 ?_
                refine nd_baloadN hC ht3 (by omega) (by omega) dX8_next_183 ?_
                refine nd_v_eq (congrArg Value.int ((t2 b (by omega)).trans (i_sb_small (by omega)))) ?_
                first | with_reducible refine nd_iaddN hC dX8_next_184 ?_ | refine nd_iadd hC dX8_next_184 ?_
                refine nd_bipush hC (v := nI 48) (by rfl) dX8_next_185 ?_
                first | with_reducible refine nd_isubN hC (by omega) dX8_next_187 ?_ | refine nd_isub hC dX8_next_187 ?_
                refine nd_put (ci := nX8) hC in_X8 rfl hb3 7 (by decide) tyX8 tyX8_ok (by decide +kernel) q1631 (fun _ z => z) rfl rfl rfl (by show 7 < 10; decide) dX8_next_188 ?_
                rw [List.set_set]
                have hb4 := b1 (rd_c wr md T.length (nI (tx_b T q)) (nI b) k0 (nI (10 * tx_nm T (tx_b T q) (b - tx_b T q) + T.getD b 0 - 48)) dp m)
                refine nd_aload_n hC dX8_next_191 rfl rfl ?_
                refine nd_dup hC (by rfl) dX8_next_192 ?_
                refine nd_get (ci := nX8) hC in_X8 rfl hb4 5 (by decide) q1629 (fun _ z => z) rfl dX8_next_193 ?_
                refine nd_iconst hC (v := nI 1) (by rfl) dX8_next_196 ?_
                first | with_reducible refine nd_iaddN hC dX8_next_197 ?_ | refine nd_iadd hC dX8_next_197 ?_
                refine nd_put (ci := nX8) hC in_X8 rfl hb4 5 (by decide) tyX8 tyX8_ok (by decide +kernel) q1629 (fun _ z => z) rfl rfl rfl (by show 5 < 10; decide) dX8_next_198 ?_
                rw [List.set_set]
                refine nd_goto hC (tgt := 143) dX8_next_201 (by decide) ?_
                exact R
            · rw [if_neg z] at g3
              have ez : (decide (b < T.length) && tx_dg (T.getD b 0)) = false := by
                rw [Bool.eq_false_iff]
                intro y
                rw [Bool.and_eq_true, decide_eq_true_iff] at y
                exact z y
              rw [ez]
              refine nd_if_eqB hC (tgt := 204) dX8_next_151 (by decide) (fun _ => ?_) (fun hq => absurd hq (by decide))
              have ev : tx_v T q = tx_nm T (tx_b T q) (b - tx_b T q) := by unfold tx_v; rw [← g3]
              have R : nd_W g mX8_next d 0 0 K X 265 [some (.ref r)] [] (h.set r (rd_c wr md T.length (nI (tx_b T q)) (nI (tx_h T q)) (nI (kd (tx_k T q))) (nI (tx_v T q)) dp m)) 0 0 := by
                refine nd_return hC rfl (by omega) (by omega) dX8_next_265 ((hk _ ⟨_, b1 _, fun _ => rfl⟩))
              rw [ev, ← g3] at R
              refine nd_aload_n hC dX8_next_204 rfl rfl ?_
              refine nd_aload_n hC dX8_next_205 rfl rfl ?_
              refine nd_get (ci := nX8) hC in_X8 rfl hb3 5 (by decide) q1629 (fun _ z => z) rfl dX8_next_206 ?_
              refine nd_aload_n hC dX8_next_209 rfl rfl ?_
              refine nd_get (ci := nX8) hC in_X8 rfl hb3 4 (by decide) q1628 (fun _ z => z) rfl dX8_next_210 ?_
              first | with_reducible refine nd_isubN hC (by omega) dX8_next_213 ?_ | refine nd_isub hC dX8_next_213 ?_
              refine nd_iconst hC (v := nI 3) (by rfl) dX8_next_214 ?_
              first | with_reducible refine nd_icmp_leN hC (tgt := 222) (by omega) (by omega) dX8_next_215 (by decide) (fun hq5 => ?_) (fun hq5 => ?_) | refine nd_icmp_le hC (tgt := 222) dX8_next_215 (by decide) (fun hq5 => ?_) (fun hq5 => ?_)
              · have e2 : tx_k T q = 2 := by rw [ek, if_neg (by omega)]
                rw [e2] at R
                refine nd_iconst hC (v := nI 2) (by rfl) dX8_next_222 ?_
                refine nd_put (ci := nX8) hC in_X8 rfl hb3 6 (by decide) tyX8 tyX8_ok (by decide +kernel) q1630 (fun _ z => z) rfl rfl rfl (by show 6 < 10; decide) dX8_next_223 ?_
                rw [List.set_set]
                refine nd_goto hC (tgt := 265) dX8_next_226 (by decide) ?_
                exact R
              · have e2 : tx_k T q = 3 := by rw [ek, if_pos (by omega)]
                rw [e2] at R
                refine nd_iconst hC (v := nI 4) (by rfl) dX8_next_218 ?_
                refine nd_goto hC (tgt := 223) dX8_next_219 (by decide) ?_
                refine nd_put (ci := nX8) hC in_X8 rfl hb3 6 (by decide) tyX8 tyX8_ok (by decide +kernel) q1630 (fun _ z => z) rfl rfl rfl (by show 6 < 10; decide) dX8_next_223 ?_
                rw [List.set_set]
                refine nd_goto hC (tgt := 265) dX8_next_226 (by decide) ?_
                exact R
          exact nd_lv rfl (by
            have := LD (tx_b T q) (Nat.le_refl _) bl eh.symm (by rw [eh]; exact tx_end_ge _ _ _)
            rw [Nat.sub_self] at this
            exact this)
        | false =>
          have eh : tx_h T q = tx_b T q + 1 := by unfold tx_h tx_c; rw [if_neg (by omega), if_neg (by rw [ea]; decide), if_neg (by rw [ed]; decide)]
          have ek : tx_k T q = if tx_sg (T.getD (tx_b T q) 0) = true then T.getD (tx_b T q) 0 else 3 := by unfold tx_k tx_c; rw [if_neg (by omega), if_neg (by rw [ea]; decide), if_neg (by rw [ed]; decide)]
          refine nd_if_eqB hC (tgt := 229) dX8_next_135 (by decide) (fun _ => ?_) (fun hq => absurd hq (by decide))
          refine nd_aload_n hC dX8_next_229 rfl rfl ?_
          refine nd_aload_n hC dX8_next_230 rfl rfl ?_
          refine nd_get (ci := nX8) hC in_X8 rfl hb2 4 (by decide) q1628 (fun _ z => z) rfl dX8_next_231 ?_
          refine nd_iconst hC (v := nI 1) (by rfl) dX8_next_234 ?_
          first | with_reducible refine nd_iaddN hC dX8_next_235 ?_ | refine nd_iadd hC dX8_next_235 ?_
          refine nd_put (ci := nX8) hC in_X8 rfl hb2 5 (by decide) tyX8 tyX8_ok (by decide +kernel) q1629 (fun _ z => z) rfl rfl rfl (by show 5 < 10; decide) dX8_next_236 ?_
          rw [List.set_set]
          have hb4 := b1 (rd_c wr md T.length (nI (tx_b T q)) (nI (tx_b T q + 1)) k0 n0 dp m)
          have ht4 := tt (rd_c wr md T.length (nI (tx_b T q)) (nI (tx_b T q + 1)) k0 n0 dp m)
          refine nd_aload_n hC dX8_next_239 rfl rfl ?_
          refine nd_ldcS hC (i := 8) (r := ("NapkinDeeds$Reader", 70, ";:+-*()[]=<>", [59, 58, 43, 45, 42, 40, 41, 91, 93, 61, 60, 62])) rfl rfl dX8_next_240 ?_
          refine nd_aload_n hC dX8_next_242 rfl rfl ?_
          refine nd_get (ci := nX8) hC in_X8 rfl hb4 1 (by decide) q1625 (fun _ z => z) rfl dX8_next_243 ?_
          refine nd_aload_n hC dX8_next_246 rfl rfl ?_
          refine nd_get (ci := nX8) hC in_X8 rfl hb4 4 (by decide) q1628 (fun _ z => z) rfl dX8_next_247 ?_
          refine nd_baloadN hC ht4 (by omega) (by omega) dX8_next_250 ?_
          refine nd_v_eq (congrArg Value.int (t2 _ hlt2)) ?_
          have hrs : nd_str[8]? = some ("NapkinDeeds$Reader", 70, ";:+-*()[]=<>", [59, 58, 43, 45, 42, 40, 41, 91, 93, 61, 60, 62]) := rfl
          refine nd_callVF (mm2 := mJ7_indexOf) (As := [_]) (d2 := d - 1) hC (hrs) rfl lkX8_72 ⟨rfl, lmJ7_indexOf⟩ (Nat.le_of_ble_eq_true rfl) (by omega) rfl (by exact Nat.le_of_ble_eq_true rfl) (by omega) (by omega) dX8_next_251 rfl ((sq_indexOf hg (by omega) hrs (t4 _) (fun v hv => ?_)))
          have hv2 : (v < 0) ↔ ¬ tx_sg (T.getD (tx_b T q) 0) = true := by rw [tx_sg_iff]; exact hv
          have R := JE (by rw [ek]; split <;> rename_i z9 <;> (try have := tx_sg_in z9) <;> omega) n0
          rw [eh] at R
          refine nd_if_lt hC (tgt := 261) dX8_next_254 (by decide) (fun hq5 => ?_) (fun hq5 => ?_)
          · have z := hv2.1 hq5
            have e2 : kd (tx_k T q) = 4 := by rw [ek, if_neg z]; rfl
            rw [e2] at R
            refine nd_iconst hC (v := nI 4) (by rfl) dX8_next_261 ?_
            refine nd_put (ci := nX8) hC in_X8 rfl hb4 6 (by decide) tyX8 tyX8_ok (by decide +kernel) q1630 (fun _ z => z) rfl rfl rfl (by show 6 < 10; decide) dX8_next_262 ?_
            rw [List.set_set]
            exact R
          · have z : tx_sg (T.getD (tx_b T q) 0) = true := Classical.byContradiction (fun y => hq5 (hv2.2 y))
            have e2 : kd (tx_k T q) = 3 := by
              rw [kd_3, ek, if_pos z]
              have := tx_sg_in z
              omega
            rw [e2] at R
            refine nd_iconst hC (v := nI 3) (by rfl) dX8_next_257 ?_
            refine nd_goto hC (tgt := 262) dX8_next_258 (by decide) ?_
            refine nd_put (ci := nX8) hC in_X8 rfl hb4 6 (by decide) tyX8 tyX8_ok (by decide +kernel) q1630 (fun _ z => z) rfl rfl rfl (by show 6 < 10; decide) dX8_next_262 ?_
            rw [List.set_set]
            exact R
    rw [tx_end_eq] at h3
    refine nd_aload_n hC dX8_next_8 rfl rfl ?_
    refine nd_get (ci := nX8) hC in_X8 rfl hb1 4 (by decide) q1628 (fun _ z => z) rfl dX8_next_9 ?_
    refine nd_aload_n hC dX8_next_12 rfl rfl ?_
    refine nd_get (ci := nX8) hC in_X8 rfl hb1 2 (by decide) q1626 (fun _ z => z) rfl dX8_next_13 ?_
    first | with_reducible refine nd_icmp_geN hC (tgt := 60) (by omega) (by omega) dX8_next_16 (by decide) (fun hq1 => ?_) (fun hq1 => ?_) | refine nd_icmp_ge hC (tgt := 60) dX8_next_16 (by decide) (fun hq1 => ?_) (fun hq1 => ?_)
    · rw [if_neg (by omega)] at h3
      exact JX h3
    have JS : tx_sp (T.getD a 0) = true → nd_W g mX8_next d 0 0 K X 47 [some (.ref r)] [] (h.set r (rd_c wr md T.length (nI a) (nI q) k0 n0 dp m)) 0 0 := by
      intro es
      rw [if_pos ⟨by omega, es⟩] at h3
      refine nd_aload_n hC dX8_next_47 rfl rfl ?_
      refine nd_dup hC (by rfl) dX8_next_48 ?_
      refine nd_get (ci := nX8) hC in_X8 rfl hb1 4 (by decide) q1628 (fun _ z => z) rfl dX8_next_49 ?_
      refine nd_iconst hC (v := nI 1) (by rfl) dX8_next_52 ?_
      first | with_reducible refine nd_iaddN hC dX8_next_53 ?_ | refine nd_iadd hC dX8_next_53 ?_
      refine nd_put (ci := nX8) hC in_X8 rfl hb1 4 (by decide) tyX8 tyX8_ok (by decide +kernel) q1628 (fun _ z => z) rfl rfl rfl (by show 4 < 10; decide) dX8_next_54 ?_
      rw [List.set_set]
      refine nd_goto hC (tgt := 8) dX8_next_57 (by decide) ?_
      exact ih (a + 1) (by omega) (by omega) (by omega) h3
    refine nd_aload_n hC dX8_next_19 rfl rfl ?_
    refine nd_get (ci := nX8) hC in_X8 rfl hb1 1 (by decide) q1625 (fun _ z => z) rfl dX8_next_20 ?_
    refine nd_aload_n hC dX8_next_23 rfl rfl ?_
    refine nd_get (ci := nX8) hC in_X8 rfl hb1 4 (by decide) q1628 (fun _ z => z) rfl dX8_next_24 ?_
    refine nd_baloadN hC ht1 (by omega) (by omega) dX8_next_27 ?_
    refine nd_v_eq (congrArg Value.int (t2 a (by omega))) ?_
    refine nd_bipush hC (v := nI 10) (by rfl) dX8_next_28 ?_
    refine nd_icmp_eq hC (tgt := 47) dX8_next_30 (by decide) (fun hq2 => ?_) (fun hq2 => ?_)
    · rw [i_sb_eq hc (by omega)] at hq2
      exact JS (by unfold tx_sp; rw [hq2]; rfl)
    rw [i_sb_eq hc (by omega)] at hq2
    refine nd_aload_n hC dX8_next_33 rfl rfl ?_
    refine nd_get (ci := nX8) hC in_X8 rfl hb1 1 (by decide) q1625 (fun _ z => z) rfl dX8_next_34 ?_
    refine nd_aload_n hC dX8_next_37 rfl rfl ?_
    refine nd_get (ci := nX8) hC in_X8 rfl hb1 4 (by decide) q1628 (fun _ z => z) rfl dX8_next_38 ?_
    refine nd_baloadN hC ht1 (by omega) (by omega) dX8_next_41 ?_
    refine nd_v_eq (congrArg Value.int (t2 a (by omega))) ?_
    refine nd_bipush hC (v := nI 32) (by rfl) dX8_next_42 ?_
    refine nd_icmp_ne hC (tgt := 60) dX8_next_44 (by decide) (fun hq3 => ?_) (fun hq3 => ?_)
    · have hq3 : ¬ T.getD a 0 = 32 := fun z => hq3 ((i_sb_eq hc (by omega)).2 z)
      have es : tx_sp (T.getD a 0) = false := by unfold tx_sp; rw [Bool.or_eq_false_iff, beq_eq_false_iff_ne, beq_eq_false_iff_ne]; exact ⟨hq3, hq2⟩
      rw [if_neg (fun z => by rw [es] at z; exact absurd z.2 (by decide))] at h3
      exact JX h3
    · have hq3 : i_sb (T.getD a 0) = nI 32 := hq3
      rw [i_sb_eq hc (by omega)] at hq3
      exact JS (by unfold tx_sp; rw [hq3]; rfl)
  exact LA q (Nat.le_refl _) hq rfl
end RD95

