set_option maxRecDepth 100000
/-! ===== System.arraycopy of ints ===== -/
theorem nd_copyI {g : nd_G} {mm : nd_Mt} {d mc ms : Nat} {K : nd_K} {X : nd_X} {pc : Nat} {lv : List (Option Value)} {rest : List Value} {h : nd_H} {cs ss : Nat} (hC : nd_Cx g mm X) {index b0 b1 n0 n1 sp dp n : Nat} {f f2 : Nat → Int32} (hlink : Cond.methodLink mm.1.cls index arraycopyName ∈ lw_all) (hb0 : h[b0]? = some (.inl (0, n0, .inl f))) (hb1 : h[b1]? = some (.inl (0, n1, .inl f2))) (h4 : sp + n ≤ n0) (h5 : dp + n ≤ n1) (hs0 : n0 ≤ 2147483647) (hs1 : n1 ≤ 2147483647) (hrest : (rest.map nd_cn).sum ≤ 8) (hd : decode mm.2.1 pc = .ok (.invokestatic index, 3))
    (kk : nd_W g mm d mc ms K X (pc + 3) lv rest (h.set b1 (.inl (0, n1, .inl (va_cpy f f2 sp dp n)))) cs ss) : nd_W g mm d mc ms K X pc lv (.int (nI n) :: .int (nI dp) :: .ref b1 :: .int (nI sp) :: .ref b0 :: rest) h cs ss := by
  intro H ls locs hl hR hS T hT Xs
  have nn : ∀ z : Nat, z < 2147483648 → ¬ nI z < 0 := by
    intro z hz
    rw [Int32.lt_iff_toInt_lt, nI_toInt hz]
    show ¬ (z : Int) < 0
    omega
  have hc0 : H[nd_z g + b0]? = some (arrV (nd_tc g 0) n0 (fun j => .int (f j))) := hR.2.2 b0 _ hb0
  have hc1 : H[nd_z g + b1]? = some (arrV (nd_tc g 0) n1 (fun j => .int (f2 j))) := hR.2.2 b1 _ hb1
  obtain ⟨-, k0, hk0, cm0, hkk0⟩ := nd_aof hC (k := 0) rfl n0 (fun j => .int (f j))
  obtain ⟨-, k1, hk1, cm1, hkk1⟩ := nd_aof hC (k := 0) rfl n1 (fun j => .int (f2 j))
  obtain ⟨vm', X', step⟩ := Xs.arraycopy hC.1 hC.own (hC.hts _ hlink) (hC.hts _ q655) (hC.hts _ q654) (hC.hts _ q176) (src := nd_z g + b0) (dst := nd_z g + b1) (cs := arrV (nd_tc g 0) n0 (fun j => .int (f j))) (cd := arrV (nd_tc g 0) n1 (fun j => .int (f2 j))) (srcPos := nI sp) (destPos := nI dp) (n := nI n) (by rw [hT]; exact hc0) (by rw [hT]; exact hc1)
    (fun _ h => by cases h) (fun _ h => by cases h) (fun h => by cases h) (fun h => by cases h) hk0 hk1 hkk0 hkk1 (by rfl) (nn _ (by omega)) (nn _ (by omega)) (nn _ (by omega))
    (by rw [nI_toInt (by omega), nI_toInt (by omega), arrV_size]; omega)
    (by rw [nI_toInt (by omega), nI_toInt (by omega), arrV_size]; omega)
    (fun vm₁ _ i hi => by
      rw [nI_cl (by omega)] at hi
      have e : (arrV (nd_tc g 0) n0 (fun j => .int (f j))).slots.getD ((nI sp).toNatClampNeg + i) .null = .int (f (sp + i)) := by
        rw [nI_cl (by omega), Array.getD_eq_getD_getElem?, arrV_read _ _ (by omega)]
        rfl
      refine ⟨?_, ?_⟩
      · rw [e]; rfl
      · rw [e]; exact trivial)
    (g := F0 X.2.2.2.1 pc ls (List.map (nd_v g) (.int (nI n) :: .int (nI dp) :: .ref b1 :: .int (nI sp) :: .ref b0 :: rest))) rfl (by rw [hC.ml]; exact hl.1) (rest := List.map (nd_v g) rest) rfl (by rw [hC.2.1]; exact hd) (by show 1 ≤ d + 20; omega) (by
      have h9 := nd_cn_sum hC.ok rest
      have h10 : nativeFrameWords "java/lang/System" "arraycopy" 5 + 11 ≤ 10000 := by decide +kernel
      show 2 * 0 + ((rest.map (nd_v g)).map fun v => v.category).sum + _ ≤ 64 * d + 10300
      omega)
  have e1 : copied (arrV (nd_tc g 0) n0 (fun j => .int (f j))) (arrV (nd_tc g 0) n1 (fun j => .int (f2 j))) (nI sp) (nI dp) (nI n) = arrV (nd_tc g 0) n1 (fun j => .int (va_cpy f f2 sp dp n j)) := by
    have e9 := va_copied (fun z => Value.int z) (nd_tc g 0) (nd_tc g 0) (n0 := n0) (n1 := n1) (dp := dp) f f2 h4
    show (arrV (nd_tc g 0) n1 (fun j => .int (f2 j))).storeRun (nI dp).toNatClampNeg ((arrV (nd_tc g 0) n0 (fun j => .int (f j))).stretch (nI sp).toNatClampNeg (nI n).toNatClampNeg) = _
    rw [nI_cl (k := dp) (by omega), nI_cl (k := sp) (by omega), nI_cl (k := n) (by omega)]
    exact e9
  rw [e1] at X' step
  have hl9 : nd_z g + b1 < H.size := (Array.getElem?_eq_some_iff.mp hc1).1
  have hheap : ((T.setVm vm').setCell (nd_z g + b1) (arrV (nd_tc g 0) n1 (fun j => .int (va_cpy f f2 sp dp n j)))).heap = H.setIfInBounds (nd_z g + b1) (arrV (nd_tc g 0) n1 (fun j => .int (va_cpy f f2 sp dp n j))) := by rw [← hT]; rfl
  have oq : ∀ q : Nat, q ≠ nd_z g + b1 → (H.setIfInBounds (nd_z g + b1) (arrV (nd_tc g 0) n1 (fun j => .int (va_cpy f f2 sp dp n j))))[q]? = H[q]? := fun q hq => by simp [Array.getElem?_setIfInBounds, Ne.symm hq]
  have hR2 : nd_R g (h.set b1 (.inl (0, n1, .inl (va_cpy f f2 sp dp n)))) (H.setIfInBounds (nd_z g + b1) (arrV (nd_tc g 0) n1 (fun j => .int (va_cpy f f2 sp dp n j)))) := hR.set (by simp) oq (by
    show (H.setIfInBounds (nd_z g + b1) _)[nd_z g + b1]? = some (arrV (nd_tc g 0) n1 (fun j => .int (va_cpy f f2 sp dp n j)))
    simp [Array.getElem?_setIfInBounds, hl9])
  obtain ⟨t, a1, b2⟩ := kk _ ls _ hl hR2 ⟨by simp; exact hS.1, fun q g1 g2 => by
      rw [oq q (fun e => g2 (by rw [e]; exact Nat.le_add_right _ _))]
      exact hS.2.1 q g1 g2, fun q hq => by
      rcases List.mem_append.mp hq with z | z
      · exact hS.2.2 q z
      · obtain ⟨y, -, hy⟩ := List.mem_map.mp z
        rw [← hy]
        exact Nat.le_add_right _ _⟩ _ hheap X'
  exact ⟨t, step t a1, b2⟩
section CL3
variable {g : nd_G} {d : Nat} {K : nd_K} {h : nd_H} {L M n : Nat} {l : List (List Nat)}
theorem ci_isIn (hg : nd_OK g) {v lo hi : Int64} (hk : K (.inl (some (.int (nd_b (decide (lo ≤ v) && decide (v ≤ hi)))))) h) : nd_M g mX1_isIn d 0 0 [.long v, .long lo, .long hi] h K := by
  refine nd_enter hg (by decide) rfl (Nat.le_of_ble_eq_true rfl) (fun X hC => ?_)
  refine nd_lload_n hC dX1_isIn_0 rfl ?_
  refine nd_lload_n hC dX1_isIn_1 rfl ?_
  refine nd_lcmp_lt hC (tgt := 17) dX1_isIn_2 dX1_isIn_3 (by decide) (fun hc => ?_) (fun hc => ?_)
  · rw [decide_eq_false (Int64.not_le.mpr hc), Bool.false_and] at hk
    refine nd_iconst hC (v := nI 0) (by rfl) dX1_isIn_17 ?_
    refine nd_ireturn hC rfl (by first | rfl | exact nd_b_nar _) (by omega) (by omega) dX1_isIn_18 (hk)
  · rw [decide_eq_true (Int64.not_lt.mp hc), Bool.true_and] at hk
    refine nd_lload_n hC dX1_isIn_6 rfl ?_
    refine nd_lload hC dX1_isIn_7 rfl ?_
    refine nd_lcmp_gt hC (tgt := 17) dX1_isIn_9 dX1_isIn_10 (by decide) (fun hc2 => ?_) (fun hc2 => ?_)
    · rw [decide_eq_false (Int64.not_le.mpr hc2)] at hk
      refine nd_iconst hC (v := nI 0) (by rfl) dX1_isIn_17 ?_
      refine nd_ireturn hC rfl (by first | rfl | exact nd_b_nar _) (by omega) (by omega) dX1_isIn_18 (hk)
    · rw [decide_eq_true (Int64.not_lt.mp hc2)] at hk
      refine nd_iconst hC (v := nI 1) (by rfl) dX1_isIn_13 ?_
      refine nd_goto hC (tgt := 18) dX1_isIn_14 (by decide) ?_
      refine nd_ireturn hC rfl (by first | rfl | exact nd_b_nar _) (by omega) (by omega) dX1_isIn_18 (hk)
theorem lk_pos1 (hok : lk_ok n l) {t : Nat} (ht : t < l.length) : 0 < (l.getD t []).length := by
  rw [List.getD_eq_getElem?_getD, List.getElem?_eq_getElem ht]
  exact List.length_pos_iff.mpr (hok.2 _ (List.getElem_mem ht))
theorem cl_above (hg : nd_OK g) (hL : ck_lk h L l) (hok : lk_ok n l) (hn : n ≤ 6) {t : Nat} (ht : t < l.length) (hk : K (.inl (some (.int (nI (lk_top (l.getD t [])))))) h) : nd_M g mX4_above d 0 0 [.ref L, .int (nI t)] h K := by
  obtain ⟨w, hi, co, hL, rfl, hlc⟩ := hL
  have hwd := lk_width hok
  have hfl := lk_len hok
  have h1 := lk_one l t
  have hp := lk_pos1 hok ht
  have hc := hlc t ht
  refine nd_enter hg (by decide) rfl (Nat.le_of_ble_eq_true rfl) (fun X hC => ?_)
  refine nd_aload_n hC dX4_above_0 rfl rfl ?_
  refine nd_get (ci := nX4) hC in_X4 rfl hL.1 0 (by decide) q332 (fun _ z => z) rfl dX4_above_1 ?_
  refine nd_iload_n hC dX4_above_4 rfl ?_
  refine nd_aaloadN hC rfl rfl hL.2.1 (by omega) (by omega) dX4_above_5 ?_
  refine nd_aload_n hC dX4_above_6 rfl rfl ?_
  refine nd_get (ci := nX4) hC in_X4 rfl hL.1 1 (by decide) q336 (fun _ z => z) rfl dX4_above_7 ?_
  refine nd_iload_n hC dX4_above_10 rfl ?_
  refine nd_ialoadN hC hL.2.2.2 (by omega) (by omega) dX4_above_11 ?_
  refine nd_v_eq (congrArg Value.int (hc.1)) ?_
  refine nd_iconst hC (v := nI 1) (by rfl) dX4_above_12 ?_
  first | with_reducible refine nd_isubN hC (by omega) dX4_above_13 ?_ | refine nd_isub hC dX4_above_13 ?_
  refine nd_ialoadN hC (hL.2.2.1 _ (by omega)) (by omega) (by omega) dX4_above_14 ?_
  refine nd_v_eq (congrArg Value.int (hc.2 _ (by omega))) ?_
  refine nd_ireturn hC rfl (by first | rfl | exact nd_b_nar _) (by omega) (by omega) dX4_above_15 (hk)
theorem cl_beneath (hg : nd_OK g) (hL : ck_lk h L l) (hok : lk_ok n l) (hn : n ≤ 6) {t : Nat} (ht : t < l.length) (hk : K (.inl (some (.int (nI (lk_bot (l.getD t [])))))) h) : nd_M g mX4_beneath d 0 0 [.ref L, .int (nI t)] h K := by
  obtain ⟨w, hi, co, hL, rfl, hlc⟩ := hL
  have hwd := lk_width hok
  have hp := lk_pos1 hok ht
  have hc := hlc t ht
  refine nd_enter hg (by decide) rfl (Nat.le_of_ble_eq_true rfl) (fun X hC => ?_)
  refine nd_aload_n hC dX4_beneath_0 rfl rfl ?_
  refine nd_get (ci := nX4) hC in_X4 rfl hL.1 0 (by decide) q332 (fun _ z => z) rfl dX4_beneath_1 ?_
  refine nd_iload_n hC dX4_beneath_4 rfl ?_
  refine nd_aaloadN hC rfl rfl hL.2.1 (by omega) (by omega) dX4_beneath_5 ?_
  refine nd_iconst hC (v := nI 0) (by rfl) dX4_beneath_6 ?_
  refine nd_ialoadN hC (hL.2.2.1 _ (by omega)) (by omega) (by omega) dX4_beneath_7 ?_
  refine nd_v_eq (congrArg Value.int (hc.2 0 hp)) ?_
  refine nd_iconst hC (v := nI 1) (by rfl) dX4_beneath_8 ?_
  refine nd_ixor hC dX4_beneath_9 ?_
  refine nd_v_eq (congrArg Value.int (nx_xor ..)) ?_
  refine nd_ireturn hC rfl (by first | rfl | exact nd_b_nar _) (by omega) (by omega) dX4_beneath_10 (hk)
theorem cl_layerNo (hg : nd_OK g) (hL : ck_lk h L l) (hok : lk_ok n l) (hn : n ≤ 6) {c t : Nat} (hc9 : c < 2147483648) (ht : t < l.length) (hno : ∀ i, i < (l.getD t []).length → (l.getD t []).getD i 0 / 2 ≠ c) (hk : K (.inl (some (.int (-1)))) h) : nd_M g mX4_layerOf d 0 0 [.ref L, .int (nI c), .int (nI t)] h K := by
  obtain ⟨w, hi, co, hL, rfl, hlc⟩ := hL
  have hwd := lk_width hok
  have hfl := lk_len hok
  have h1 := lk_one l t
  have hcc := hlc t ht
  refine nd_enter hg (by decide) rfl (Nat.le_of_ble_eq_true rfl) (fun X hC => ?_)
  refine nd_iconst hC (v := nI 0) (by rfl) dX4_layerOf_0 ?_
  refine nd_istore_n hC dX4_layerOf_1 (Nat.le_of_ble_eq_true rfl) ?_
  have L1 : ∀ k, k ≤ (l.getD t []).length → nd_W g mX4_layerOf d 0 0 K X 2 [some (.ref L), some (.int (nI c)), some (.int (nI t)), some (.int (nI k))] [] h 0 0 := by
    refine nd_for _ _ ?_ ?_
    · refine nd_iload_n hC dX4_layerOf_2 rfl ?_
      refine nd_aload_n hC dX4_layerOf_3 rfl rfl ?_
      refine nd_get (ci := nX4) hC in_X4 rfl hL.1 1 (by decide) q336 (fun _ z => z) rfl dX4_layerOf_4 ?_
      refine nd_iload_n hC dX4_layerOf_7 rfl ?_
      refine nd_ialoadN hC hL.2.2.2 (by omega) (by omega) dX4_layerOf_8 ?_
      refine nd_v_eq (congrArg Value.int (hcc.1)) ?_
      first | with_reducible refine nd_icmp_geN hC (tgt := 34) (by omega) (by omega) dX4_layerOf_9 (by decide) (fun hq => ?_) (fun hq => ?_) | refine nd_icmp_ge hC (tgt := 34) dX4_layerOf_9 (by decide) (fun hq => ?_) (fun hq => ?_)
      · refine nd_iconst hC (v := -1) (by rfl) dX4_layerOf_34 ?_
        refine nd_ireturn hC rfl (by first | rfl | exact nd_b_nar _) (by omega) (by omega) dX4_layerOf_35 (hk)
      · omega
    · intro k hk1 ih
      have hx := lk_at_lt hok hn (x := (l.getD t []).getD k 0) ⟨ht, hk1, rfl⟩
      refine nd_iload_n hC dX4_layerOf_2 rfl ?_
      refine nd_aload_n hC dX4_layerOf_3 rfl rfl ?_
      refine nd_get (ci := nX4) hC in_X4 rfl hL.1 1 (by decide) q336 (fun _ z => z) rfl dX4_layerOf_4 ?_
      refine nd_iload_n hC dX4_layerOf_7 rfl ?_
      refine nd_ialoadN hC hL.2.2.2 (by omega) (by omega) dX4_layerOf_8 ?_
      refine nd_v_eq (congrArg Value.int (hcc.1)) ?_
      first | with_reducible refine nd_icmp_geN hC (tgt := 34) (by omega) (by omega) dX4_layerOf_9 (by decide) (fun hq => ?_) (fun hq => ?_) | refine nd_icmp_ge hC (tgt := 34) dX4_layerOf_9 (by decide) (fun hq => ?_) (fun hq => ?_)
      · omega
      · refine nd_aload_n hC dX4_layerOf_12 rfl rfl ?_
        refine nd_get (ci := nX4) hC in_X4 rfl hL.1 0 (by decide) q332 (fun _ z => z) rfl dX4_layerOf_13 ?_
        refine nd_iload_n hC dX4_layerOf_16 rfl ?_
        refine nd_aaloadN hC rfl rfl hL.2.1 (by omega) (by omega) dX4_layerOf_17 ?_
        refine nd_iload_n hC dX4_layerOf_18 rfl ?_
        refine nd_ialoadN hC (hL.2.2.1 _ (by omega)) (by omega) (by omega) dX4_layerOf_19 ?_
        refine nd_v_eq (congrArg Value.int (hcc.2 k hk1)) ?_
        refine nd_iconst hC (v := nI 2) (by rfl) dX4_layerOf_20 ?_
        first | with_reducible refine nd_idivN hC (by omega) (by omega) (by omega) dX4_layerOf_21 ?_ | refine nd_idiv hC (by decide) dX4_layerOf_21 ?_
        refine nd_iload_n hC dX4_layerOf_22 rfl ?_
        first | with_reducible refine nd_icmp_neN hC (tgt := 28) (by omega) (by omega) dX4_layerOf_23 (by decide) (fun hq2 => ?_) (fun hq2 => ?_) | refine nd_icmp_ne hC (tgt := 28) dX4_layerOf_23 (by decide) (fun hq2 => ?_) (fun hq2 => ?_)
        · first | with_reducible refine nd_iincN hC dX4_layerOf_28 rfl (Nat.le_of_ble_eq_true rfl) ?_ | refine nd_iinc hC dX4_layerOf_28 rfl rfl (Nat.le_of_ble_eq_true rfl) ?_
          refine nd_goto hC (tgt := 2) dX4_layerOf_31 (by decide) ?_
          exact ih
        · exact absurd hq2 (hno k hk1)
  exact L1 0 (Nat.zero_le _)
theorem cl_layerOf (hg : nd_OK g) (hL : ck_lk h L l) (hok : lk_ok n l) (hn : n ≤ 6) {x t i : Nat} (hx : lk_at l x t i) (hk : K (.inl (some (.int (nI i)))) h) : nd_M g mX4_layerOf d 0 0 [.ref L, .int (nI (x / 2)), .int (nI t)] h K := by
  obtain ⟨w, hi, co, hL, rfl, hlc⟩ := hL
  have hwd := lk_width hok
  have hfl := lk_len hok
  have h1 := lk_one l t
  have ht := hx.1
  have hi1 := hx.2.1
  have hcc := hlc t ht
  have hx9 := lk_at_lt hok hn hx
  refine nd_enter hg (by decide) rfl (Nat.le_of_ble_eq_true rfl) (fun X hC => ?_)
  refine nd_iconst hC (v := nI 0) (by rfl) dX4_layerOf_0 ?_
  refine nd_istore_n hC dX4_layerOf_1 (Nat.le_of_ble_eq_true rfl) ?_
  have L1 : ∀ k, k ≤ i → nd_W g mX4_layerOf d 0 0 K X 2 [some (.ref L), some (.int (nI (x / 2))), some (.int (nI t)), some (.int (nI k))] [] h 0 0 := by
    refine nd_for _ _ ?_ ?_
    · have e2 := hx.2.2
      refine nd_iload_n hC dX4_layerOf_2 rfl ?_
      refine nd_aload_n hC dX4_layerOf_3 rfl rfl ?_
      refine nd_get (ci := nX4) hC in_X4 rfl hL.1 1 (by decide) q336 (fun _ z => z) rfl dX4_layerOf_4 ?_
      refine nd_iload_n hC dX4_layerOf_7 rfl ?_
      refine nd_ialoadN hC hL.2.2.2 (by omega) (by omega) dX4_layerOf_8 ?_
      refine nd_v_eq (congrArg Value.int (hcc.1)) ?_
      first | with_reducible refine nd_icmp_geN hC (tgt := 34) (by omega) (by omega) dX4_layerOf_9 (by decide) (fun hq => ?_) (fun hq => ?_) | refine nd_icmp_ge hC (tgt := 34) dX4_layerOf_9 (by decide) (fun hq => ?_) (fun hq => ?_)
      · omega
      · refine nd_aload_n hC dX4_layerOf_12 rfl rfl ?_
        refine nd_get (ci := nX4) hC in_X4 rfl hL.1 0 (by decide) q332 (fun _ z => z) rfl dX4_layerOf_13 ?_
        refine nd_iload_n hC dX4_layerOf_16 rfl ?_
        refine nd_aaloadN hC rfl rfl hL.2.1 (by omega) (by omega) dX4_layerOf_17 ?_
        refine nd_iload_n hC dX4_layerOf_18 rfl ?_
        refine nd_ialoadN hC (hL.2.2.1 _ (by omega)) (by omega) (by omega) dX4_layerOf_19 ?_
        refine nd_v_eq (congrArg Value.int ((hcc.2 i hi1).trans (by rw [e2]))) ?_
        refine nd_iconst hC (v := nI 2) (by rfl) dX4_layerOf_20 ?_
        first | with_reducible refine nd_idivN hC (by omega) (by omega) (by omega) dX4_layerOf_21 ?_ | refine nd_idiv hC (by decide) dX4_layerOf_21 ?_
        refine nd_iload_n hC dX4_layerOf_22 rfl ?_
        first | with_reducible refine nd_icmp_neN hC (tgt := 28) (by omega) (by omega) dX4_layerOf_23 (by decide) (fun hq2 => ?_) (fun hq2 => ?_) | refine nd_icmp_ne hC (tgt := 28) dX4_layerOf_23 (by decide) (fun hq2 => ?_) (fun hq2 => ?_)
        · exact absurd rfl hq2
        · refine nd_iload_n hC dX4_layerOf_26 rfl ?_
          refine nd_ireturn hC rfl (by first | rfl | exact nd_b_nar _) (by omega) (by omega) dX4_layerOf_27 (hk)
    · intro k hk1 ih
      have hy := lk_at_lt hok hn (x := (l.getD t []).getD k 0) (i := k) ⟨ht, by omega, rfl⟩
      refine nd_iload_n hC dX4_layerOf_2 rfl ?_
      refine nd_aload_n hC dX4_layerOf_3 rfl rfl ?_
      refine nd_get (ci := nX4) hC in_X4 rfl hL.1 1 (by decide) q336 (fun _ z => z) rfl dX4_layerOf_4 ?_
      refine nd_iload_n hC dX4_layerOf_7 rfl ?_
      refine nd_ialoadN hC hL.2.2.2 (by omega) (by omega) dX4_layerOf_8 ?_
      refine nd_v_eq (congrArg Value.int (hcc.1)) ?_
      first | with_reducible refine nd_icmp_geN hC (tgt := 34) (by omega) (by omega) dX4_layerOf_9 (by decide) (fun hq => ?_) (fun hq => ?_) | refine nd_icmp_ge hC (tgt := 34) dX4_layerOf_9 (by decide) (fun hq => ?_) (fun hq => ?_)
      · omega
      · refine nd_aload_n hC dX4_layerOf_12 rfl rfl ?_
        refine nd_get (ci := nX4) hC in_X4 rfl hL.1 0 (by decide) q332 (fun _ z => z) rfl dX4_layerOf_13 ?_
        refine nd_iload_n hC dX4_layerOf_16 rfl ?_
        refine nd_aaloadN hC rfl rfl hL.2.1 (by omega) (by omega) dX4_layerOf_17 ?_
        refine nd_iload_n hC dX4_layerOf_18 rfl ?_
        refine nd_ialoadN hC (hL.2.2.1 _ (by omega)) (by omega) (by omega) dX4_layerOf_19 ?_
        refine nd_v_eq (congrArg Value.int (hcc.2 k (by omega))) ?_
        refine nd_iconst hC (v := nI 2) (by rfl) dX4_layerOf_20 ?_
        first | with_reducible refine nd_idivN hC (by omega) (by omega) (by omega) dX4_layerOf_21 ?_ | refine nd_idiv hC (by decide) dX4_layerOf_21 ?_
        refine nd_iload_n hC dX4_layerOf_22 rfl ?_
        first | with_reducible refine nd_icmp_neN hC (tgt := 28) (by omega) (by omega) dX4_layerOf_23 (by decide) (fun hq2 => ?_) (fun hq2 => ?_) | refine nd_icmp_ne hC (tgt := 28) dX4_layerOf_23 (by decide) (fun hq2 => ?_) (fun hq2 => ?_)
        · first | with_reducible refine nd_iincN hC dX4_layerOf_28 rfl (Nat.le_of_ble_eq_true rfl) ?_ | refine nd_iinc hC dX4_layerOf_28 rfl rfl (Nat.le_of_ble_eq_true rfl) ?_
          refine nd_goto hC (tgt := 2) dX4_layerOf_31 (by decide) ?_
          exact ih
        · have := (lk_uniq hok (x := (l.getD t []).getD k 0) (t := t) (i := k) ⟨ht, by omega, rfl⟩ hx hq2).2
          omega
  exact L1 0 (Nat.zero_le _)
theorem cl_columnOf (hg : nd_OK g) (hd : 1 ≤ d) (hL : ck_lk h L l) (hok : lk_ok n l) (hn : n ≤ 6) {x t i : Nat} (hx : lk_at l x t i) (hk : K (.inl (some (.int (nI t)))) h) : nd_M g mX4_columnOf d 0 0 [.ref L, .int (nI (x / 2))] h K := by
  have hL0 := hL
  obtain ⟨w, hi, co, hL, rfl, hlc⟩ := hL
  have hwd := lk_width hok
  have ht := hx.1
  have hx9 := lk_at_lt hok hn hx
  refine nd_enter hg (by decide) rfl (Nat.le_of_ble_eq_true rfl) (fun X hC => ?_)
  refine nd_iconst hC (v := nI 0) (by rfl) dX4_columnOf_0 ?_
  refine nd_istore_n hC dX4_columnOf_1 (Nat.le_of_ble_eq_true rfl) ?_
  have L1 : ∀ k, k ≤ t → nd_W g mX4_columnOf d 0 0 K X 2 [some (.ref L), some (.int (nI (x / 2))), some (.int (nI k))] [] h 0 0 := by
    refine nd_for _ _ ?_ ?_
    · refine nd_iload_n hC dX4_columnOf_2 rfl ?_
      refine nd_aload_n hC dX4_columnOf_3 rfl rfl ?_
      refine nd_get (ci := nX4) hC in_X4 rfl hL.1 2 (by decide) q341 (fun _ z => z) rfl dX4_columnOf_4 ?_
      first | with_reducible refine nd_icmp_geN hC (tgt := 28) (by omega) (by omega) dX4_columnOf_7 (by decide) (fun hq => ?_) (fun hq => ?_) | refine nd_icmp_ge hC (tgt := 28) dX4_columnOf_7 (by decide) (fun hq => ?_) (fun hq => ?_)
      · omega
      · refine nd_aload_n hC dX4_columnOf_10 rfl rfl ?_
        refine nd_iload_n hC dX4_columnOf_11 rfl ?_
        refine nd_iload_n hC dX4_columnOf_12 rfl ?_
        refine nd_callV (mm2 := mX4_layerOf) (As := [_, _]) (mc2 := 0) (ms2 := 0) (d2 := d - 1) hC rfl lkX4_48 ⟨rfl, lmX4_layerOf⟩ (hL.1) rfl (Nat.le_of_ble_eq_true rfl) (by omega) rfl (by exact Nat.le_of_ble_eq_true rfl) (by omega) (by omega) dX4_columnOf_13 rfl ((cl_layerOf hg hL0 hok hn hx ?_))
        refine nd_iconst hC (v := -1) (by rfl) dX4_columnOf_16 ?_
        first | with_reducible refine nd_icmp_eqN hC (tgt := 22) (by omega) (by omega) dX4_columnOf_17 (by decide) (fun hq2 => ?_) (fun hq2 => ?_) | refine nd_icmp_eq hC (tgt := 22) dX4_columnOf_17 (by decide) (fun hq2 => ?_) (fun hq2 => ?_)
        · exact absurd hq2 (nI_m1 (by omega))
        · refine nd_iload_n hC dX4_columnOf_20 rfl ?_
          refine nd_ireturn hC rfl (by first | rfl | exact nd_b_nar _) (by omega) (by omega) dX4_columnOf_21 (hk)
    · intro k hk1 ih
      refine nd_iload_n hC dX4_columnOf_2 rfl ?_
      refine nd_aload_n hC dX4_columnOf_3 rfl rfl ?_
      refine nd_get (ci := nX4) hC in_X4 rfl hL.1 2 (by decide) q341 (fun _ z => z) rfl dX4_columnOf_4 ?_
      first | with_reducible refine nd_icmp_geN hC (tgt := 28) (by omega) (by omega) dX4_columnOf_7 (by decide) (fun hq => ?_) (fun hq => ?_) | refine nd_icmp_ge hC (tgt := 28) dX4_columnOf_7 (by decide) (fun hq => ?_) (fun hq => ?_)
      · omega
      · refine nd_aload_n hC dX4_columnOf_10 rfl rfl ?_
        refine nd_iload_n hC dX4_columnOf_11 rfl ?_
        refine nd_iload_n hC dX4_columnOf_12 rfl ?_
        refine nd_callV (mm2 := mX4_layerOf) (As := [_, _]) (mc2 := 0) (ms2 := 0) (d2 := d - 1) hC rfl lkX4_48 ⟨rfl, lmX4_layerOf⟩ (hL.1) rfl (Nat.le_of_ble_eq_true rfl) (by omega) rfl (by exact Nat.le_of_ble_eq_true rfl) (by omega) (by omega) dX4_columnOf_13 rfl ((cl_layerNo hg hL0 hok hn (by omega) (by omega) (fun i2 hi2 e2 => ?_) ?_))
        · have := (lk_uniq hok (x := (l.getD k []).getD i2 0) (t := k) (i := i2) ⟨by omega, hi2, rfl⟩ hx e2).1
          omega
        · refine nd_iconst hC (v := -1) (by rfl) dX4_columnOf_16 ?_
          first | with_reducible refine nd_icmp_eqN hC (tgt := 22) (by omega) (by omega) dX4_columnOf_17 (by decide) (fun hq2 => ?_) (fun hq2 => ?_) | refine nd_icmp_eq hC (tgt := 22) dX4_columnOf_17 (by decide) (fun hq2 => ?_) (fun hq2 => ?_)
          · first | with_reducible refine nd_iincN hC dX4_columnOf_22 rfl (Nat.le_of_ble_eq_true rfl) ?_ | refine nd_iinc hC dX4_columnOf_22 rfl rfl (Nat.le_of_ble_eq_true rfl) ?_
            refine nd_goto hC (tgt := 2) dX4_columnOf_25 (by decide) ?_
            exact ih
          · exact absurd rfl hq2
  exact L1 0 (Nat.zero_le _)
theorem cl_isUp (hg : nd_OK g) (hd : 2 ≤ d) (hL : ck_lk h L l) (hok : lk_ok n l) (hn : n ≤ 6) {x t i : Nat} (hx : lk_at l x t i) (hk : K (.inl (some (.int (nd_b (decide (x % 2 = 1)))))) h) : nd_M g mX4_isUp d 0 0 [.ref L, .int (nI (x / 2))] h K := by
  have hL0 := hL
  obtain ⟨w, hi, co, hL, rfl, hlc⟩ := hL
  have hwd := lk_width hok
  have ht := hx.1
  have hx9 := lk_at_lt hok hn hx
  have hcc := hlc t ht
  have hi1 := hx.2.1
  have h1 := lk_one l t
  have hfl := lk_len hok
  have e2 := hx.2.2
  refine nd_enter hg (by decide) rfl (Nat.le_of_ble_eq_true rfl) (fun X hC => ?_)
  refine nd_aload_n hC dX4_isUp_0 rfl rfl ?_
  refine nd_iload_n hC dX4_isUp_1 rfl ?_
  refine nd_callV (mm2 := mX4_columnOf) (As := [_]) (mc2 := 0) (ms2 := 0) (d2 := d - 1) hC rfl lkX4_51 ⟨rfl, lmX4_columnOf⟩ (hL.1) rfl (Nat.le_of_ble_eq_true rfl) (by omega) rfl (by exact Nat.le_of_ble_eq_true rfl) (by omega) (by omega) dX4_isUp_2 rfl ((cl_columnOf hg (by omega) hL0 hok hn hx ?_))
  refine nd_istore_n hC dX4_isUp_5 (Nat.le_of_ble_eq_true rfl) ?_
  refine nd_aload_n hC dX4_isUp_6 rfl rfl ?_
  refine nd_get (ci := nX4) hC in_X4 rfl hL.1 0 (by decide) q332 (fun _ z => z) rfl dX4_isUp_7 ?_
  refine nd_iload_n hC dX4_isUp_10 rfl ?_
  refine nd_aaloadN hC rfl rfl hL.2.1 (by omega) (by omega) dX4_isUp_11 ?_
  refine nd_aload_n hC dX4_isUp_12 rfl rfl ?_
  refine nd_iload_n hC dX4_isUp_13 rfl ?_
  refine nd_iload_n hC dX4_isUp_14 rfl ?_
  refine nd_callV (mm2 := mX4_layerOf) (As := [_, _]) (mc2 := 0) (ms2 := 0) (d2 := d - 1) hC rfl lkX4_48 ⟨rfl, lmX4_layerOf⟩ (hL.1) rfl (Nat.le_of_ble_eq_true rfl) (by omega) rfl (by exact Nat.le_of_ble_eq_true rfl) (by omega) (by omega) dX4_isUp_15 rfl ((cl_layerOf hg hL0 hok hn hx ?_))
  refine nd_ialoadN hC (hL.2.2.1 _ (by omega)) (by omega) (by omega) dX4_isUp_18 ?_
  refine nd_v_eq (congrArg Value.int ((hcc.2 i hi1).trans (by rw [e2]))) ?_
  refine nd_iconst hC (v := nI 2) (by rfl) dX4_isUp_19 ?_
  first | with_reducible refine nd_iremN hC (by omega) (by omega) (by omega) dX4_isUp_20 ?_ | refine nd_irem hC (by decide) dX4_isUp_20 ?_
  refine nd_iconst hC (v := nI 1) (by rfl) dX4_isUp_21 ?_
  first | with_reducible refine nd_icmp_neN hC (tgt := 29) (by omega) (by omega) dX4_isUp_22 (by decide) (fun hq => ?_) (fun hq => ?_) | refine nd_icmp_ne hC (tgt := 29) dX4_isUp_22 (by decide) (fun hq => ?_) (fun hq => ?_)
  · rw [decide_eq_false (by omega)] at hk
    refine nd_iconst hC (v := nI 0) (by rfl) dX4_isUp_29 ?_
    refine nd_ireturn hC rfl (by first | rfl | exact nd_b_nar _) (by omega) (by omega) dX4_isUp_30 (hk)
  · rw [decide_eq_true (by omega)] at hk
    refine nd_iconst hC (v := nI 1) (by rfl) dX4_isUp_25 ?_
    refine nd_goto hC (tgt := 30) dX4_isUp_26 (by decide) ?_
    refine nd_ireturn hC rfl (by first | rfl | exact nd_b_nar _) (by omega) (by omega) dX4_isUp_30 (hk)
theorem lk_cr_ne (hok : lk_ok n l) (hn : n ≤ 6) {x y t i u j k : Nat} (hx : lk_at l x t i) (hy : lk_at l y u j) (ex : x / 2 = k) (ey : y / 2 = k + 1) (hne : u ≠ t) : lk_cr l k = 0 := by
  have p1 := lk_pos_eq hok hx
  have p2 := lk_pos_eq hok hy
  rw [ex] at p1
  rw [ey] at p2
  have b1 := lk_at_lt hok hn hx
  have b2 := lk_at_lt hok hn hy
  unfold lk_cr
  rw [p1, p2, if_pos (by omega)]
theorem lk_cr_eq (hok : lk_ok n l) (hn : n ≤ 6) {x y t i j k : Nat} (hx : lk_at l x t i) (hy : lk_at l y t j) (ex : x / 2 = k) (ey : y / 2 = k + 1) : lk_cr l k = (if (if i < j then x else y) % 2 = 1 then 2 else 1) ∧ i ≠ j := by
  have p1 := lk_pos_eq hok hx
  have p2 := lk_pos_eq hok hy
  rw [ex] at p1
  rw [ey] at p2
  have b1 := lk_at_lt hok hn hx
  have b2 := lk_at_lt hok hn hy
  have hij : i ≠ j := by
    intro e
    subst e
    have : x = y := by rw [← hx.2.2, ← hy.2.2]
    omega
  refine ⟨?_, hij⟩
  unfold lk_cr
  rw [p1, p2, if_neg (by omega)]
  by_cases q : i < j
  · rw [if_pos q, Nat.min_eq_left (by omega)]
    have : (16 * t + 2 * i + x % 2) % 2 = x % 2 := by omega
    rw [this]
  · rw [if_neg q, Nat.min_eq_right (by omega)]
    have : (16 * t + 2 * j + y % 2) % 2 = y % 2 := by omega
    rw [this]
theorem cl_crease (hg : nd_OK g) (hd : 3 ≤ d) (hL : ck_lk h L l) (hok : lk_ok n l) (hn : n ≤ 6) {k : Nat} (hk1 : k + 1 < n) (hk : K (.inl (some (.int (nI (lk_cr l k))))) h) : nd_M g mX4_crease d 0 0 [.ref L, .int (nI k)] h K := by
  have hL0 := hL
  obtain ⟨w, hi, co, hL, rfl, hlc⟩ := hL
  obtain ⟨x, t, i, hx, rfl⟩ := lk_there hok (c := k) (by omega)
  obtain ⟨y, u, j, hy, ey⟩ := lk_there hok (c := x / 2 + 1) hk1
  have b1 := lk_at_lt hok hn hx
  have b2 := lk_at_lt hok hn hy
  refine nd_enter hg (by decide) rfl (Nat.le_of_ble_eq_true rfl) (fun X hC => ?_)
  refine nd_aload_n hC dX4_crease_0 rfl rfl ?_
  refine nd_iload_n hC dX4_crease_1 rfl ?_
  refine nd_callV (mm2 := mX4_columnOf) (As := [_]) (mc2 := 0) (ms2 := 0) (d2 := d - 1) hC rfl lkX4_51 ⟨rfl, lmX4_columnOf⟩ (hL.1) rfl (Nat.le_of_ble_eq_true rfl) (by omega) rfl (by exact Nat.le_of_ble_eq_true rfl) (by omega) (by omega) dX4_crease_2 rfl ((cl_columnOf hg (by omega) hL0 hok hn hx ?_))
  refine nd_istore_n hC dX4_crease_5 (Nat.le_of_ble_eq_true rfl) ?_
  refine nd_aload_n hC dX4_crease_6 rfl rfl ?_
  refine nd_iload_n hC dX4_crease_7 rfl ?_
  refine nd_iconst hC (v := nI 1) (by rfl) dX4_crease_8 ?_
  first | with_reducible refine nd_iaddN hC dX4_crease_9 ?_ | refine nd_iadd hC dX4_crease_9 ?_
  rw [← ey]
  refine nd_callV (mm2 := mX4_columnOf) (As := [_]) (mc2 := 0) (ms2 := 0) (d2 := d - 1) hC rfl lkX4_51 ⟨rfl, lmX4_columnOf⟩ (hL.1) rfl (Nat.le_of_ble_eq_true rfl) (by omega) rfl (by exact Nat.le_of_ble_eq_true rfl) (by omega) (by omega) dX4_crease_10 rfl ((cl_columnOf hg (by omega) hL0 hok hn hy ?_))
  refine nd_iload_n hC dX4_crease_13 rfl ?_
  first | with_reducible refine nd_icmp_eqN hC (tgt := 19) (by omega) (by omega) dX4_crease_14 (by decide) (fun hq => ?_) (fun hq => ?_) | refine nd_icmp_eq hC (tgt := 19) dX4_crease_14 (by decide) (fun hq => ?_) (fun hq => ?_)
  · obtain rfl := hq
    obtain ⟨e1, hij⟩ := lk_cr_eq hok hn hx hy rfl ey
    refine nd_aload_n hC dX4_crease_19 rfl rfl ?_
    refine nd_iload_n hC dX4_crease_20 rfl ?_
    refine nd_iload_n hC dX4_crease_21 rfl ?_
    refine nd_callV (mm2 := mX4_layerOf) (As := [_, _]) (mc2 := 0) (ms2 := 0) (d2 := d - 1) hC rfl lkX4_48 ⟨rfl, lmX4_layerOf⟩ (hL.1) rfl (Nat.le_of_ble_eq_true rfl) (by omega) rfl (by exact Nat.le_of_ble_eq_true rfl) (by omega) (by omega) dX4_crease_22 rfl ((cl_layerOf hg hL0 hok hn hx ?_))
    refine nd_aload_n hC dX4_crease_25 rfl rfl ?_
    refine nd_iload_n hC dX4_crease_26 rfl ?_
    refine nd_iconst hC (v := nI 1) (by rfl) dX4_crease_27 ?_
    first | with_reducible refine nd_iaddN hC dX4_crease_28 ?_ | refine nd_iadd hC dX4_crease_28 ?_
    refine nd_iload_n hC dX4_crease_29 rfl ?_
    rw [← ey]
    refine nd_callV (mm2 := mX4_layerOf) (As := [_, _]) (mc2 := 0) (ms2 := 0) (d2 := d - 1) hC rfl lkX4_48 ⟨rfl, lmX4_layerOf⟩ (hL.1) rfl (Nat.le_of_ble_eq_true rfl) (by omega) rfl (by exact Nat.le_of_ble_eq_true rfl) (by omega) (by omega) dX4_crease_30 rfl ((cl_layerOf hg hL0 hok hn hy ?_))
    have J : ∀ z i2, lk_at l z u i2 → z = (if i < j then x else y) → nd_W g mX4_crease d 0 0 K X 43 [some (.ref L), some (.int (nI (x / 2))), some (.int (nI u)), none] [.int (nI (z / 2))] h 0 0 := by
      intro z i2 hz ez
      rw [e1, ← ez] at hk
      refine nd_istore_n hC dX4_crease_43 (Nat.le_of_ble_eq_true rfl) ?_
      refine nd_aload_n hC dX4_crease_44 rfl rfl ?_
      refine nd_iload_n hC dX4_crease_45 rfl ?_
      refine nd_callV (mm2 := mX4_isUp) (As := [_]) (mc2 := 0) (ms2 := 0) (d2 := d - 1) hC rfl lkX4_55 ⟨rfl, lmX4_isUp⟩ (hL.1) rfl (Nat.le_of_ble_eq_true rfl) (by omega) rfl (by exact Nat.le_of_ble_eq_true rfl) (by omega) (by omega) dX4_crease_46 rfl ((cl_isUp hg (by omega) hL0 hok hn hz ?_))
      first | with_reducible refine nd_if_eqB hC (tgt := 56) dX4_crease_49 (by decide) (fun hu => ?_) (fun hu => ?_) | with_reducible refine nd_if_eqN hC (tgt := 56) (by omega) dX4_crease_49 (by decide) (fun hu => ?_) (fun hu => ?_) | refine nd_if_eq hC (tgt := 56) dX4_crease_49 (by decide) (fun hu => ?_) (fun hu => ?_)
      · rw [if_neg (of_decide_eq_false hu)] at hk
        refine nd_iconst hC (v := nI 1) (by rfl) dX4_crease_56 ?_
        refine nd_ireturn hC rfl (by first | rfl | exact nd_b_nar _) (by omega) (by omega) dX4_crease_57 (hk)
      · rw [if_pos (of_decide_eq_true hu)] at hk
        refine nd_iconst hC (v := nI 2) (by rfl) dX4_crease_52 ?_
        refine nd_goto hC (tgt := 57) dX4_crease_53 (by decide) ?_
        refine nd_ireturn hC rfl (by first | rfl | exact nd_b_nar _) (by omega) (by omega) dX4_crease_57 (hk)
    first | with_reducible refine nd_icmp_geN hC (tgt := 40) (by omega) (by omega) dX4_crease_33 (by decide) (fun hq2 => ?_) (fun hq2 => ?_) | refine nd_icmp_ge hC (tgt := 40) dX4_crease_33 (by decide) (fun hq2 => ?_) (fun hq2 => ?_)
    · refine nd_iload_n hC dX4_crease_40 rfl ?_
      refine nd_iconst hC (v := nI 1) (by rfl) dX4_crease_41 ?_
      first | with_reducible refine nd_iaddN hC dX4_crease_42 ?_ | refine nd_iadd hC dX4_crease_42 ?_
      rw [← ey]
      exact J y j hy (by rw [if_neg (by omega)])
    · refine nd_iload_n hC dX4_crease_36 rfl ?_
      refine nd_goto hC (tgt := 43) dX4_crease_37 (by decide) ?_
      exact J x i hx (by rw [if_pos hq2])
  · rw [lk_cr_ne hok hn hx hy rfl ey hq] at hk
    refine nd_iconst hC (v := nI 0) (by rfl) dX4_crease_17 ?_
    refine nd_ireturn hC rfl (by first | rfl | exact nd_b_nar _) (by omega) (by omega) dX4_crease_18 (hk)
theorem cl_greatest (hg : nd_OK g) (hL : ck_lk h L l) (hok : lk_ok n l) (hn : n ≤ 6) (hk : K (.inl (some (.int (nI (lk_hi l l.length))))) h) : nd_M g mX4_greatest d 0 0 [.ref L] h K := by
  obtain ⟨w, hi, co, hL, rfl, hlc⟩ := hL
  have hwd := lk_width hok
  have hfl := lk_len hok
  have hib : ∀ k, lk_hi l k ≤ 6 := by
    intro k
    induction k with
    | zero => exact Nat.zero_le _
    | succ k ih => have := lk_one l k; show max (lk_hi l k) _ ≤ 6; omega
  refine nd_enter hg (by decide) rfl (Nat.le_of_ble_eq_true rfl) (fun X hC => ?_)
  refine nd_iconst hC (v := nI 0) (by rfl) dX4_greatest_0 ?_
  refine nd_istore_n hC dX4_greatest_1 (Nat.le_of_ble_eq_true rfl) ?_
  refine nd_iconst hC (v := nI 0) (by rfl) dX4_greatest_2 ?_
  refine nd_istore_n hC dX4_greatest_3 (Nat.le_of_ble_eq_true rfl) ?_
  have L1 : ∀ k, k ≤ l.length → nd_W g mX4_greatest d 0 0 K X 4 [some (.ref L), some (.int (nI (lk_hi l k))), some (.int (nI k))] [] h 0 0 := by
    refine nd_for _ _ ?_ ?_
    · refine nd_iload_n hC dX4_greatest_4 rfl ?_
      refine nd_aload_n hC dX4_greatest_5 rfl rfl ?_
      refine nd_get (ci := nX4) hC in_X4 rfl hL.1 2 (by decide) q341 (fun _ z => z) rfl dX4_greatest_6 ?_
      first | with_reducible refine nd_icmp_geN hC (tgt := 29) (by omega) (by omega) dX4_greatest_9 (by decide) (fun hq => ?_) (fun hq => ?_) | refine nd_icmp_ge hC (tgt := 29) dX4_greatest_9 (by decide) (fun hq => ?_) (fun hq => ?_)
      · refine nd_iload_n hC dX4_greatest_29 rfl ?_
        refine nd_ireturn hC rfl (by first | rfl | exact nd_b_nar _) (by omega) (by omega) dX4_greatest_30 (hk)
      · omega
    · intro k hk1 ih
      have h1 := lk_one l k
      have h2 := hib k
      refine nd_iload_n hC dX4_greatest_4 rfl ?_
      refine nd_aload_n hC dX4_greatest_5 rfl rfl ?_
      refine nd_get (ci := nX4) hC in_X4 rfl hL.1 2 (by decide) q341 (fun _ z => z) rfl dX4_greatest_6 ?_
      first | with_reducible refine nd_icmp_geN hC (tgt := 29) (by omega) (by omega) dX4_greatest_9 (by decide) (fun hq => ?_) (fun hq => ?_) | refine nd_icmp_ge hC (tgt := 29) dX4_greatest_9 (by decide) (fun hq => ?_) (fun hq => ?_)
      · omega
      · refine nd_iload_n hC dX4_greatest_12 rfl ?_
        refine nd_aload_n hC dX4_greatest_13 rfl rfl ?_
        refine nd_get (ci := nX4) hC in_X4 rfl hL.1 1 (by decide) q336 (fun _ z => z) rfl dX4_greatest_14 ?_
        refine nd_iload_n hC dX4_greatest_17 rfl ?_
        refine nd_ialoadN hC hL.2.2.2 (by omega) (by omega) dX4_greatest_18 ?_
        refine nd_v_eq (congrArg Value.int ((hlc k hk1).1)) ?_
        first | ((with_reducible refine nd_tst2 ?_); refine nd_mmaxN hC (by omega) (by omega) q468 (by omega) (by omega) (by exact Nat.le_of_ble_eq_true rfl) dX4_greatest_19 ?_) | refine nd_mmax hC q468 (by omega) (by omega) (by exact Nat.le_of_ble_eq_true rfl) dX4_greatest_19 ?_
        refine nd_istore_n hC dX4_greatest_22 (Nat.le_of_ble_eq_true rfl) ?_
        first | with_reducible refine nd_iincN hC dX4_greatest_23 rfl (Nat.le_of_ble_eq_true rfl) ?_ | refine nd_iinc hC dX4_greatest_23 rfl rfl (Nat.le_of_ble_eq_true rfl) ?_
        refine nd_goto hC (tgt := 4) dX4_greatest_26 (by decide) ?_
        exact ih
  exact L1 0 (Nat.zero_le _)
theorem cl_creases (hg : nd_OK g) (hd : 4 ≤ d) (hL : ck_lk h L l) (hok : lk_ok n l) (hn : n ≤ 6) (hk : K (.inl (some (.int (nI (lk_crs l (n - 1)))))) h) : nd_M g mX4_creases d 0 0 [.ref L, .int (nI n)] h K := by
  have hL0 := hL
  obtain ⟨w, hi, co, hL, rfl, hlc⟩ := hL
  refine nd_enter hg (by decide) rfl (Nat.le_of_ble_eq_true rfl) (fun X hC => ?_)
  refine nd_iconst hC (v := nI 0) (by rfl) dX4_creases_0 ?_
  refine nd_istore_n hC dX4_creases_1 (Nat.le_of_ble_eq_true rfl) ?_
  refine nd_iconst hC (v := nI 0) (by rfl) dX4_creases_2 ?_
  refine nd_istore_n hC dX4_creases_3 (Nat.le_of_ble_eq_true rfl) ?_
  have L1 : ∀ k, k ≤ n - 1 → nd_W g mX4_creases d 0 0 K X 4 [some (.ref L), some (.int (nI n)), some (.int (nI (lk_crs l k))), some (.int (nI k))] [] h 0 0 := by
    refine nd_for _ _ ?_ ?_
    · refine nd_iload_n hC dX4_creases_4 rfl ?_
      refine nd_iconst hC (v := nI 1) (by rfl) dX4_creases_5 ?_
      first | with_reducible refine nd_iaddN hC dX4_creases_6 ?_ | refine nd_iadd hC dX4_creases_6 ?_
      refine nd_iload_n hC dX4_creases_7 rfl ?_
      first | with_reducible refine nd_icmp_geN hC (tgt := 27) (by omega) (by omega) dX4_creases_8 (by decide) (fun hq => ?_) (fun hq => ?_) | refine nd_icmp_ge hC (tgt := 27) dX4_creases_8 (by decide) (fun hq => ?_) (fun hq => ?_)
      · refine nd_iload_n hC dX4_creases_27 rfl ?_
        refine nd_ireturn hC rfl (by first | rfl | exact nd_b_nar _) (by omega) (by omega) dX4_creases_28 (hk)
      · omega
    · intro k hk1 ih
      refine nd_iload_n hC dX4_creases_4 rfl ?_
      refine nd_iconst hC (v := nI 1) (by rfl) dX4_creases_5 ?_
      first | with_reducible refine nd_iaddN hC dX4_creases_6 ?_ | refine nd_iadd hC dX4_creases_6 ?_
      refine nd_iload_n hC dX4_creases_7 rfl ?_
      first | with_reducible refine nd_icmp_geN hC (tgt := 27) (by omega) (by omega) dX4_creases_8 (by decide) (fun hq => ?_) (fun hq => ?_) | refine nd_icmp_ge hC (tgt := 27) dX4_creases_8 (by decide) (fun hq => ?_) (fun hq => ?_)
      · omega
      · refine nd_iconst hC (v := nI 3) (by rfl) dX4_creases_11 ?_
        refine nd_iload_n hC dX4_creases_12 rfl ?_
        first | with_reducible refine nd_imulN hC dX4_creases_13 ?_ | refine nd_imul hC dX4_creases_13 ?_
        refine nd_aload_n hC dX4_creases_14 rfl rfl ?_
        refine nd_iload_n hC dX4_creases_15 rfl ?_
        refine nd_callV (mm2 := mX4_crease) (As := [_]) (mc2 := 0) (ms2 := 0) (d2 := d - 1) hC rfl lkX4_63 ⟨rfl, lmX4_crease⟩ (hL.1) rfl (Nat.le_of_ble_eq_true rfl) (by omega) rfl (by exact Nat.le_of_ble_eq_true rfl) (by omega) (by omega) dX4_creases_16 rfl ((cl_crease hg (by omega) hL0 hok hn (by omega) ?_))
        first | with_reducible refine nd_iaddN hC dX4_creases_19 ?_ | refine nd_iadd hC dX4_creases_19 ?_
        refine nd_istore_n hC dX4_creases_20 (Nat.le_of_ble_eq_true rfl) ?_
        first | with_reducible refine nd_iincN hC dX4_creases_21 rfl (Nat.le_of_ble_eq_true rfl) ?_ | refine nd_iinc hC dX4_creases_21 rfl rfl (Nat.le_of_ble_eq_true rfl) ?_
        refine nd_goto hC (tgt := 4) dX4_creases_24 (by decide) ?_
        exact ih
  exact L1 0 (Nat.zero_le _)
end CL3

