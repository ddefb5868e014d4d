set_option maxRecDepth 100000
section BO91
variable {g : nd_G} {d : Nat} {K : nd_K} {h h0 : nd_H} {o : Nat → Nat} {nap L b n : Nat} {N : nk_N} {s : sv} {l : List (List Nat)}
theorem cq_ord_lt {l : List (List Nat)} : ∀ k, (∀ i, i < k → (l.getD 0 []).getD i 0 / 2 < 6) → cq_ord l k < 6 ^ k := by
  intro k
  induction k with
  | zero => intro _; exact Nat.one_pos
  | succ k ih =>
    intro hi
    have h1 := ih (fun i h => hi i (by omega))
    have h2 := hi k (by omega)
    show 6 * cq_ord l k + (l.getD 0 []).getD k 0 / 2 < 6 ^ (k + 1)
    rw [Nat.pow_succ]
    omega
theorem cq_codeX32 (hg : nd_OK g) (hL : ck_lk h L l) (hok : lk_ok n l) (hn : n ≤ 6) (hk : K (.inl (some (.long (lN (cq_ord l (if 0 < l.length then (l.getD 0 []).length else 0)))))) h) : nd_M g mX32_code d 0 0 [.ref b, .ref L] h K := by
  obtain ⟨w, hi, co, hL, rfl, hlc⟩ := hL
  have hwd := lk_width hok
  refine nd_enter hg (by decide) rfl (Nat.le_of_ble_eq_true rfl) (fun X hC => ?_)
  refine nd_lconst hC (v := lN 0) (by rfl) dX32_code_0 ?_
  refine nd_lstore_n hC dX32_code_1 (Nat.le_of_ble_eq_true rfl) ?_
  refine nd_iconst hC (v := nI 0) (by rfl) dX32_code_2 ?_
  refine nd_istore hC dX32_code_3 (Nat.le_of_ble_eq_true rfl) ?_
  by_cases hw0 : 0 < l.length
  · rw [if_pos hw0] at hk
    have hcc := hlc 0 hw0
    have h6 : ∀ i, i < (l.getD 0 []).length → (l.getD 0 []).getD i 0 < 12 := fun i hi => (lk_at_lt hok hn (x := (l.getD 0 []).getD i 0) ⟨hw0, hi, rfl⟩).1
    have h66 : (l.getD 0 []).length ≤ 6 := by have := lk_one l 0; have := lk_len hok; omega
    have L1 : ∀ k, k ≤ (l.getD 0 []).length → nd_W g mX32_code d 0 0 K X 5 [some (.ref b), some (.ref L), some (.long (lN (cq_ord l k))), none, some (.int (nI k))] [] h 0 0 := by
      refine nd_for _ _ ?_ ?_
      · refine nd_aload_n hC dX32_code_5 rfl rfl ?_
        refine nd_getN (ci := nX4) hC in_X4 rfl hL.1 2 (by decide) q340 (fun _ z => z) rfl dX32_code_6 ?_
        refine nd_if_le hC (tgt := 48) dX32_code_9 (by decide) (fun hq => ?_) (fun hq => ?_)
        · exfalso
          rw [Int32.le_iff_toInt_le, nI_toInt (by omega)] at hq
          have h0 : (0 : Int32).toInt = 0 := rfl
          omega
        · refine nd_iload hC dX32_code_12 rfl ?_
          refine nd_aload_n hC dX32_code_14 rfl rfl ?_
          refine nd_getN (ci := nX4) hC in_X4 rfl hL.1 1 (by decide) q337 (fun _ z => z) rfl dX32_code_15 ?_
          refine nd_iconst hC (v := nI 0) (by rfl) dX32_code_18 ?_
          refine nd_ialoadN hC hL.2.2.2 (by omega) (by omega) dX32_code_19 ?_
          refine nd_v_eq (congrArg Value.int (hcc.1)) ?_
          first | with_reducible refine nd_icmp_geN hC (tgt := 48) (by omega) (by omega) dX32_code_20 (by decide) (fun hq2 => ?_) (fun hq2 => ?_) | refine nd_icmp_ge hC (tgt := 48) dX32_code_20 (by decide) (fun hq2 => ?_) (fun hq2 => ?_)
          · refine nd_lload_n hC dX32_code_48 rfl ?_
            refine nd_lreturn hC rfl (by omega) (by omega) dX32_code_49 (hk)
          · omega
      · intro k hk1 ih
        have hx := h6 k hk1
        refine nd_aload_n hC dX32_code_5 rfl rfl ?_
        refine nd_getN (ci := nX4) hC in_X4 rfl hL.1 2 (by decide) q340 (fun _ z => z) rfl dX32_code_6 ?_
        refine nd_if_le hC (tgt := 48) dX32_code_9 (by decide) (fun hq => ?_) (fun hq => ?_)
        · exfalso
          rw [Int32.le_iff_toInt_le, nI_toInt (by omega)] at hq
          have h0 : (0 : Int32).toInt = 0 := rfl
          omega
        · refine nd_iload hC dX32_code_12 rfl ?_
          refine nd_aload_n hC dX32_code_14 rfl rfl ?_
          refine nd_getN (ci := nX4) hC in_X4 rfl hL.1 1 (by decide) q337 (fun _ z => z) rfl dX32_code_15 ?_
          refine nd_iconst hC (v := nI 0) (by rfl) dX32_code_18 ?_
          refine nd_ialoadN hC hL.2.2.2 (by omega) (by omega) dX32_code_19 ?_
          refine nd_v_eq (congrArg Value.int (hcc.1)) ?_
          first | with_reducible refine nd_icmp_geN hC (tgt := 48) (by omega) (by omega) dX32_code_20 (by decide) (fun hq2 => ?_) (fun hq2 => ?_) | refine nd_icmp_ge hC (tgt := 48) dX32_code_20 (by decide) (fun hq2 => ?_) (fun hq2 => ?_)
          · omega
          · have hb6 := cq_ord_lt (l := l) k (fun i hi => by have := h6 i (by omega); omega)
            have hp6 : (6 : Nat) ^ k ≤ 6 ^ 6 := Nat.pow_le_pow_right (by decide) (by omega)
            refine nd_ldc2 hC q994 dX32_code_23 ?_
            refine nd_v_eq (y := .long (lN 6)) (by rfl) ?_
            refine nd_lload_n hC dX32_code_26 rfl ?_
            first | with_reducible refine nd_lmulN hC dX32_code_27 ?_ | refine nd_lmul hC dX32_code_27 ?_
            refine nd_aload_n hC dX32_code_28 rfl rfl ?_
            refine nd_getN (ci := nX4) hC in_X4 rfl hL.1 0 (by decide) q334 (fun _ z => z) rfl dX32_code_29 ?_
            refine nd_iconst hC (v := nI 0) (by rfl) dX32_code_32 ?_
            refine nd_aaloadN hC rfl rfl hL.2.1 (by omega) (by omega) dX32_code_33 ?_
            refine nd_iload hC dX32_code_34 rfl ?_
            refine nd_ialoadN hC (hL.2.2.1 _ (by omega)) (by omega) (by omega) dX32_code_36 ?_
            refine nd_v_eq (congrArg Value.int (hcc.2 k hk1)) ?_
            refine nd_iconst hC (v := nI 2) (by rfl) dX32_code_37 ?_
            first | with_reducible refine nd_idivN hC (by omega) (by omega) (by omega) dX32_code_38 ?_ | refine nd_idiv hC (by decide) dX32_code_38 ?_
            first | with_reducible refine nd_i2lN hC (by omega) dX32_code_39 ?_ | refine nd_i2l hC dX32_code_39 ?_
            first | with_reducible refine nd_laddN hC dX32_code_40 ?_ | refine nd_ladd hC dX32_code_40 ?_
            refine nd_lstore_n hC dX32_code_41 (Nat.le_of_ble_eq_true rfl) ?_
            first | with_reducible refine nd_iincN hC dX32_code_42 rfl (Nat.le_of_ble_eq_true rfl) ?_ | refine nd_iinc hC dX32_code_42 rfl rfl (Nat.le_of_ble_eq_true rfl) ?_
            refine nd_goto hC (tgt := 5) dX32_code_45 (by decide) ?_
            exact ih
    exact L1 0 (Nat.zero_le _)
  · rw [if_neg hw0] at hk
    have e0 : l.length = 0 := by omega
    refine nd_aload_n hC dX32_code_5 rfl rfl ?_
    refine nd_getN (ci := nX4) hC in_X4 rfl hL.1 2 (by decide) q340 (fun _ z => z) rfl dX32_code_6 ?_
    rw [e0]
    refine nd_if_le hC (tgt := 48) dX32_code_9 (by decide) (fun hq => ?_) (fun hq => ?_)
    · refine nd_lload_n hC dX32_code_48 rfl ?_
      refine nd_lreturn hC rfl (by omega) (by omega) dX32_code_49 (hk)
    · exact absurd (by decide : (nI 0 : Int32) ≤ 0) hq
theorem cq_soX37 (hg : nd_OK g) (hd : 912 ≤ d) (hP : cw_P o h0 nap N s) (hv : sv_ok (nk_n N) s) (hN : nk_ok N) (hl : ck_lk h0 L l) (hL9 : L + 9 ≤ 94 ∨ 95 ≤ L) (hok : lk_ok (nk_n N) l) {folds na : Nat} {now : Nat → Int32} {x0 x1 x2 x3 : Value} (hb : h0[b]? = some (.inr (nX37, [x0, x1, x2, x3, .ref na, .ref 0]))) (hb9 : b ≠ 94) (hna : na ≠ 94) (hn9 : h0[na]? = some (.inl (0, (nk_w N).length, .inl now))) (hk : ∀ h2, ck_fr 94 1 h0 h2 → cw_P o h2 nap N s → K (.inl (some (.int (nd_b (nk_better N (sv_fr s) (sv_bk s) l folds now))))) h2) : nd_M g mX37_isSo d 0 0 [.ref b, .ref L, .int (nI folds)] h0 K := by
  have hw4 : (nk_w N).length ≤ 4 := hN.2.2.1
  refine nd_enter hg (by decide) rfl (Nat.le_of_ble_eq_true rfl) (fun X hC => ?_)
  refine nd_iconst hC (v := nI 0) (by rfl) dX37_isSo_0 ?_
  refine nd_istore_n hC dX37_isSo_1 (Nat.le_of_ble_eq_true rfl) ?_
  refine nd_iconst hC (v := nI 0) (by rfl) dX37_isSo_2 ?_
  refine nd_istore hC dX37_isSo_3 (Nat.le_of_ble_eq_true rfl) ?_
  have L1 : ∀ i, i ≤ (nk_w N).length → ∀ h2, ck_fr 94 1 h0 h2 → cw_P o h2 nap N s → (∀ j, j < i → decide (now j ≤ nk_likes N (sv_fr s) (sv_bk s) l folds j) = true) → nd_W g mX37_isSo d 0 0 K X 5 [some (.ref b), some (.ref L), some (.int (nI folds)), some (.int (nd_b ((List.range i).any (fun gs => decide (now gs < nk_likes N (sv_fr s) (sv_bk s) l folds gs))))), some (.int (nI i)), none] [] h2 0 0 := by
    refine nd_for (nk_w N).length _ ?_ ?_
    · intro h2 f2 hP2 ha
      have hb := (f2.2 b (by omega)).trans hb
      have hn9 := (f2.2 na (by omega)).trans hn9
      refine nd_iload hC dX37_isSo_5 rfl ?_
      refine nd_aload_n hC dX37_isSo_7 rfl rfl ?_
      refine nd_get (ci := nX37) hC in_X37 rfl hb 4 (by decide) q2445 (fun _ z => z) rfl dX37_isSo_8 ?_
      refine nd_alen hC rfl hn9 dX37_isSo_11 ?_
      first | with_reducible refine nd_icmp_geN hC (tgt := 68) (by omega) (by omega) dX37_isSo_12 (by decide) (fun hq => ?_) (fun hq => ?_) | refine nd_icmp_ge hC (tgt := 68) dX37_isSo_12 (by decide) (fun hq => ?_) (fun hq => ?_)
      · have e : nk_better N (sv_fr s) (sv_bk s) l folds now = (List.range (nk_w N).length).any (fun gs => decide (now gs < nk_likes N (sv_fr s) (sv_bk s) l folds gs)) := by unfold nk_better; rw [nd_allT ha, Bool.true_and]
        rw [e] at hk
        refine nd_iload_n hC dX37_isSo_68 rfl ?_
        refine nd_ireturn hC rfl (by first | rfl | exact nd_b_nar _) (by omega) (by omega) dX37_isSo_69 ((hk h2 f2 hP2))
      · omega
    · intro i hi ih h2 f2 hP2 ha
      have hb0 := hb
      have hn0 := hn9
      have hb := (f2.2 b (by omega)).trans hb0
      have hn9 := (f2.2 na (by omega)).trans hn0
      obtain ⟨⟨tp, fkd, fat, x, hO⟩, -⟩ := id hP2
      unfold cx_O at hO
      refine nd_iload hC dX37_isSo_5 rfl ?_
      refine nd_aload_n hC dX37_isSo_7 rfl rfl ?_
      refine nd_get (ci := nX37) hC in_X37 rfl hb 4 (by decide) q2445 (fun _ z => z) rfl dX37_isSo_8 ?_
      refine nd_alen hC rfl hn9 dX37_isSo_11 ?_
      first | with_reducible refine nd_icmp_geN hC (tgt := 68) (by omega) (by omega) dX37_isSo_12 (by decide) (fun hq => ?_) (fun hq => ?_) | refine nd_icmp_ge hC (tgt := 68) dX37_isSo_12 (by decide) (fun hq => ?_) (fun hq => ?_)
      · omega
      refine nd_aload_n hC dX37_isSo_15 rfl rfl ?_
      refine nd_get (ci := nX37) hC in_X37 rfl hb 5 (by decide) q2446 (fun _ z => z) rfl dX37_isSo_16 ?_
      refine nd_iload hC dX37_isSo_19 rfl ?_
      refine nd_aload_n hC dX37_isSo_21 rfl rfl ?_
      refine nd_iload_n hC dX37_isSo_22 rfl ?_
      refine nd_callVN (mm2 := mX1_likes) (As := [_, _, _]) (mc2 := 0) (ms2 := 0) (d2 := d - 1) hC rfl q930 q149 q969 q929 qs21 lmX1_likes (hO) rfl (Nat.le_of_ble_eq_true rfl) (by omega) rfl (by exact Nat.le_of_ble_eq_true rfl) (by omega) (by omega) dX37_isSo_23 rfl ((cx_likes hg (by omega) hP2 hv hN (hl.fr f2 (by omega)) hL9 hok hi (fun h3 tl3 f3 hT3 => ?_)))
      have f4 := f2.trans f3
      have hP3 := hP2.ask f3 hT3
      have hb := (f4.2 b (by omega)).trans hb0
      have hn9 := (f4.2 na (by omega)).trans hn0
      generalize hLi : nk_likes N (sv_fr s) (sv_bk s) l folds i = Li
      refine nd_istore hC dX37_isSo_26 (Nat.le_of_ble_eq_true rfl) ?_
      refine nd_iload hC dX37_isSo_28 rfl ?_
      refine nd_aload_n hC dX37_isSo_30 rfl rfl ?_
      refine nd_get (ci := nX37) hC in_X37 rfl hb 4 (by decide) q2445 (fun _ z => z) rfl dX37_isSo_31 ?_
      refine nd_iload hC dX37_isSo_34 rfl ?_
      refine nd_ialoadN hC hn9 (by omega) (by omega) dX37_isSo_36 ?_
      refine nd_icmp_ge hC (tgt := 42) dX37_isSo_37 (by decide) (fun hc => ?_) (fun hc => ?_)
      · have e9 : (List.range (i + 1)).any (fun gs => decide (now gs < nk_likes N (sv_fr s) (sv_bk s) l folds gs)) = ((List.range i).any (fun gs => decide (now gs < nk_likes N (sv_fr s) (sv_bk s) l folds gs)) || decide (now i < Li)) := by
          rw [List.range_succ, List.any_append, ← hLi]; simp
        have J : ∀ lv5, nd_W g mX37_isSo d 0 0 K X 61 [some (.ref b), some (.ref L), some (.int (nI folds)), some (.int (nd_b ((List.range i).any (fun gs => decide (now gs < nk_likes N (sv_fr s) (sv_bk s) l folds gs))))), some (.int (nI i)), some lv5] [.int (nd_b ((List.range i).any (fun gs => decide (now gs < nk_likes N (sv_fr s) (sv_bk s) l folds gs)) || decide (now i < Li)))] h3 0 0 := by
          intro lv5
          rw [← e9]
          refine nd_istore_n hC dX37_isSo_61 (Nat.le_of_ble_eq_true rfl) ?_
          first | with_reducible refine nd_iincN hC dX37_isSo_62 rfl (Nat.le_of_ble_eq_true rfl) ?_ | refine nd_iinc hC dX37_isSo_62 rfl rfl (Nat.le_of_ble_eq_true rfl) ?_
          refine nd_goto hC (tgt := 5) dX37_isSo_65 (by decide) ?_
          refine nd_drop 5 ?_
          refine ih h3 f4 hP3 (fun j hj => ?_)
          by_cases e : j = i
          · subst e; rw [hLi]; exact decide_eq_true hc
          · exact ha j (by omega)
        generalize (List.range i).any (fun gs => decide (now gs < nk_likes N (sv_fr s) (sv_bk s) l folds gs)) = bb at *
        refine nd_iload_n hC dX37_isSo_42 rfl ?_
        refine nd_iload hC dX37_isSo_43 rfl ?_
        refine nd_aload_n hC dX37_isSo_45 rfl rfl ?_
        refine nd_get (ci := nX37) hC in_X37 rfl hb 4 (by decide) q2445 (fun _ z => z) rfl dX37_isSo_46 ?_
        refine nd_iload hC dX37_isSo_49 rfl ?_
        refine nd_ialoadN hC hn9 (by omega) (by omega) dX37_isSo_51 ?_
        refine nd_icmp_le hC (tgt := 59) dX37_isSo_52 (by decide) (fun hq2 => ?_) (fun hq2 => ?_)
        · rw [decide_eq_false (Int32.not_lt.mpr hq2), Bool.or_false] at J
          refine nd_iconst hC (v := nI 0) (by rfl) dX37_isSo_59 ?_
          refine nd_ior hC dX37_isSo_60 ?_
          rw [show (nd_b bb ||| nI 0 : Int32) = nd_b bb by cases bb <;> decide]
          exact J _
        · rw [decide_eq_true (Int32.not_le.mp hq2), Bool.or_true] at J
          refine nd_iconst hC (v := nI 1) (by rfl) dX37_isSo_55 ?_
          refine nd_goto hC (tgt := 60) dX37_isSo_56 (by decide) ?_
          refine nd_ior hC dX37_isSo_60 ?_
          rw [show (nd_b bb ||| nI 1 : Int32) = nd_b true by cases bb <;> decide]
          exact J _
      · have e : nk_better N (sv_fr s) (sv_bk s) l folds now = false := by
          unfold nk_better
          rw [nd_allF hi (by rw [hLi]; exact decide_eq_false (fun q => hc q)), Bool.false_and]
        rw [e] at hk
        refine nd_iconst hC (v := nI 0) (by rfl) dX37_isSo_40 ?_
        refine nd_ireturn hC rfl (by first | rfl | exact nd_b_nar _) (by omega) (by omega) dX37_isSo_41 ((hk h3 f4 hP3))
  exact L1 0 (Nat.zero_le _) h0 ck_fr.rfl hP (fun j hj => absurd hj (Nat.not_lt_zero _))
end BO91

