set_option maxRecDepth 100000
/-! ===== a look as one number ===== -/
def cd_col (c : Nat) (col : List Nat) : Nat → Nat
  | 0 => c
  | k + 1 => 13 * cd_col c col k + col.getD k 0
def cd_all (l : List (List Nat)) : Nat → Nat
  | 0 => 1
  | t + 1 => 13 * cd_col (cd_all l t) (l.getD t []) (l.getD t []).length + 12
theorem lk_step {fs : List Nat} {l : List (List Nat)} {k : Nat} (hv : lk_val l fs) (hk : k < fs.length) : (1 ≤ fs.getD k 0 / 10 ∧ fs.getD k 0 / 10 < (lk_run l (fs.take k)).length ∧ fs.getD k 0 % 10 < 4) ∧ lk_run l (fs.take (k + 1)) = lk_fold (lk_run l (fs.take k)) (fs.getD k 0 / 10) (fs.getD k 0 % 10) ∧ lk_val l (fs.take k) := by
  have e : fs = fs.take k ++ (fs.getD k 0 :: fs.drop (k + 1)) := by
    rw [List.getD_eq_getElem?_getD, List.getElem?_eq_getElem hk]
    show fs = fs.take k ++ (fs[k] :: fs.drop (k + 1))
    rw [← List.drop_eq_getElem_cons hk, List.take_append_drop]
  have hv2 := hv
  rw [e] at hv2
  obtain ⟨a, b⟩ := (lk_val_app _ _ _).mp hv2
  refine ⟨b.1, ?_, a⟩
  rw [l_take_snoc hk, lk_run_app]
  rfl
section CL4
variable {g : nd_G} {d : Nat} {K : nd_K} {h0 : nd_H} {L M n : Nat} {l : List (List Nat)}
theorem cl_code {h : nd_H} (hg : nd_OK g) (hL : ck_lk h L l) (hok : lk_ok n l) (hn : n ≤ 6) (hk : K (.inl (some (.long (lN (cd_all l l.length))))) h) : nd_M g mX4_code d 0 0 [.ref L] h K := by
  obtain ⟨w, hi, co, hL, rfl, hlc⟩ := hL
  have hwd := lk_width hok
  have hfl := lk_len hok
  refine nd_enter hg (by decide) rfl (Nat.le_of_ble_eq_true rfl) (fun X hC => ?_)
  refine nd_lconst hC (v := lN 1) (by rfl) dX4_code_0 ?_
  refine nd_lstore_n hC dX4_code_1 (Nat.le_of_ble_eq_true rfl) ?_
  refine nd_iconst hC (v := nI 0) (by rfl) dX4_code_2 ?_
  refine nd_istore_n hC dX4_code_3 (Nat.le_of_ble_eq_true rfl) ?_
  have L1 : ∀ t, t ≤ l.length → ∀ lv4, nd_W g mX4_code d 0 0 K X 4 [some (.ref L), some (.long (lN (cd_all l t))), none, some (.int (nI t)), lv4] [] h 0 0 := by
    refine nd_for _ _ ?_ ?_
    · intro lv4
      refine nd_iload_n hC dX4_code_4 rfl ?_
      refine nd_aload_n hC dX4_code_5 rfl rfl ?_
      refine nd_get (ci := nX4) hC in_X4 rfl hL.1 2 (by decide) q341 (fun _ z => z) rfl dX4_code_6 ?_
      first | with_reducible refine nd_icmp_geN hC (tgt := 65) (by omega) (by omega) dX4_code_9 (by decide) (fun hq => ?_) (fun hq => ?_) | refine nd_icmp_ge hC (tgt := 65) dX4_code_9 (by decide) (fun hq => ?_) (fun hq => ?_)
      · refine nd_lload_n hC dX4_code_65 rfl ?_
        refine nd_lreturn hC rfl (by omega) (by omega) dX4_code_66 (hk)
      · omega
    · intro t ht ih lv4
      have h1 := lk_one l t
      have hcc := hlc t ht
      refine nd_iload_n hC dX4_code_4 rfl ?_
      refine nd_aload_n hC dX4_code_5 rfl rfl ?_
      refine nd_get (ci := nX4) hC in_X4 rfl hL.1 2 (by decide) q341 (fun _ z => z) rfl dX4_code_6 ?_
      first | with_reducible refine nd_icmp_geN hC (tgt := 65) (by omega) (by omega) dX4_code_9 (by decide) (fun hq => ?_) (fun hq => ?_) | refine nd_icmp_ge hC (tgt := 65) dX4_code_9 (by decide) (fun hq => ?_) (fun hq => ?_)
      · omega
      · refine nd_iconst hC (v := nI 0) (by rfl) dX4_code_12 ?_
        refine nd_istore hC dX4_code_13 (Nat.le_of_ble_eq_true rfl) ?_
        have L2 : ∀ k, k ≤ (l.getD t []).length → nd_W g mX4_code d 0 0 K X 15 [some (.ref L), some (.long (lN (cd_col (cd_all l t) (l.getD t []) k))), none, some (.int (nI t)), some (.int (nI k))] [] h 0 0 := by
          refine nd_for _ _ ?_ ?_
          · refine nd_iload hC dX4_code_15 rfl ?_
            refine nd_aload_n hC dX4_code_17 rfl rfl ?_
            refine nd_get (ci := nX4) hC in_X4 rfl hL.1 1 (by decide) q336 (fun _ z => z) rfl dX4_code_18 ?_
            refine nd_iload_n hC dX4_code_21 rfl ?_
            refine nd_ialoadN hC hL.2.2.2 (by omega) (by omega) dX4_code_22 ?_
            refine nd_v_eq (congrArg Value.int (hcc.1)) ?_
            first | with_reducible refine nd_icmp_geN hC (tgt := 49) (by omega) (by omega) dX4_code_23 (by decide) (fun hq2 => ?_) (fun hq2 => ?_) | refine nd_icmp_ge hC (tgt := 49) dX4_code_23 (by decide) (fun hq2 => ?_) (fun hq2 => ?_)
            · refine nd_ldc2 hC q1000 dX4_code_49 ?_
              refine nd_v_eq (y := .long (lN 13)) (by rfl) ?_
              refine nd_lload_n hC dX4_code_52 rfl ?_
              first | with_reducible refine nd_lmulN hC dX4_code_53 ?_ | refine nd_lmul hC dX4_code_53 ?_
              refine nd_ldc2 hC q1001 dX4_code_54 ?_
              refine nd_v_eq (y := .long (lN 12)) (by rfl) ?_
              first | with_reducible refine nd_laddN hC dX4_code_57 ?_ | refine nd_ladd hC dX4_code_57 ?_
              refine nd_lstore_n hC dX4_code_58 (Nat.le_of_ble_eq_true rfl) ?_
              first | with_reducible refine nd_iincN hC dX4_code_59 rfl (Nat.le_of_ble_eq_true rfl) ?_ | refine nd_iinc hC dX4_code_59 rfl rfl (Nat.le_of_ble_eq_true rfl) ?_
              refine nd_goto hC (tgt := 4) dX4_code_62 (by decide) ?_
              exact ih _
            · omega
          · intro k hk1 ih2
            have hx := lk_at_lt hok hn (x := (l.getD t []).getD k 0) ⟨ht, hk1, rfl⟩
            refine nd_iload hC dX4_code_15 rfl ?_
            refine nd_aload_n hC dX4_code_17 rfl rfl ?_
            refine nd_get (ci := nX4) hC in_X4 rfl hL.1 1 (by decide) q336 (fun _ z => z) rfl dX4_code_18 ?_
            refine nd_iload_n hC dX4_code_21 rfl ?_
            refine nd_ialoadN hC hL.2.2.2 (by omega) (by omega) dX4_code_22 ?_
            refine nd_v_eq (congrArg Value.int (hcc.1)) ?_
            first | with_reducible refine nd_icmp_geN hC (tgt := 49) (by omega) (by omega) dX4_code_23 (by decide) (fun hq2 => ?_) (fun hq2 => ?_) | refine nd_icmp_ge hC (tgt := 49) dX4_code_23 (by decide) (fun hq2 => ?_) (fun hq2 => ?_)
            · omega
            · refine nd_ldc2 hC q1000 dX4_code_26 ?_
              refine nd_v_eq (y := .long (lN 13)) (by rfl) ?_
              refine nd_lload_n hC dX4_code_29 rfl ?_
              first | with_reducible refine nd_lmulN hC dX4_code_30 ?_ | refine nd_lmul hC dX4_code_30 ?_
              refine nd_aload_n hC dX4_code_31 rfl rfl ?_
              refine nd_get (ci := nX4) hC in_X4 rfl hL.1 0 (by decide) q332 (fun _ z => z) rfl dX4_code_32 ?_
              refine nd_iload_n hC dX4_code_35 rfl ?_
              refine nd_aaloadN hC rfl rfl hL.2.1 (by omega) (by omega) dX4_code_36 ?_
              refine nd_iload hC dX4_code_37 rfl ?_
              refine nd_ialoadN hC (hL.2.2.1 _ (by omega)) (by omega) (by omega) dX4_code_39 ?_
              refine nd_v_eq (congrArg Value.int (hcc.2 k hk1)) ?_
              first | with_reducible refine nd_i2lN hC (by omega) dX4_code_40 ?_ | refine nd_i2l hC dX4_code_40 ?_
              first | with_reducible refine nd_laddN hC dX4_code_41 ?_ | refine nd_ladd hC dX4_code_41 ?_
              refine nd_lstore_n hC dX4_code_42 (Nat.le_of_ble_eq_true rfl) ?_
              first | with_reducible refine nd_iincN hC dX4_code_43 rfl (Nat.le_of_ble_eq_true rfl) ?_ | refine nd_iinc hC dX4_code_43 rfl rfl (Nat.le_of_ble_eq_true rfl) ?_
              refine nd_goto hC (tgt := 15) dX4_code_46 (by decide) ?_
              exact ih2
        exact L2 0 (Nat.zero_le _)
  exact L1 0 (Nat.zero_le _) _
theorem cl_isLine {h : nd_H} (hg : nd_OK g) (hd : 1 ≤ d) (hL : ck_lk h L l) (hl : l.length ≤ 6) {v : Int64} (hk : K (.inl (some (.int (nd_b (decide (1 ≤ v.toInt ∧ v.toInt ≤ (l.length : Int) - 1)))))) h) : nd_M g mX4_isLine d 0 0 [.ref L, .long v] h K := by
  obtain ⟨w, hi, co, hL, rfl, hlc⟩ := hL
  refine nd_enter hg (by decide) rfl (Nat.le_of_ble_eq_true rfl) (fun X hC => ?_)
  refine nd_lload_n hC dX4_isLine_0 rfl ?_
  refine nd_lconst hC (v := lN 1) (by rfl) dX4_isLine_1 ?_
  refine nd_aload_n hC dX4_isLine_2 rfl rfl ?_
  refine nd_get (ci := nX4) hC in_X4 rfl hL.1 2 (by decide) q341 (fun _ z => z) rfl dX4_isLine_3 ?_
  refine nd_iconst hC (v := nI 1) (by rfl) dX4_isLine_6 ?_
  refine nd_isub hC dX4_isLine_7 ?_
  refine nd_i2l hC dX4_isLine_8 ?_
  refine nd_callSN (mm2 := mX1_isIn) (As := [_, _, _]) (mc2 := 0) (ms2 := 0) (d2 := d - 1) hC rfl q631 q149 q629 q630 lmX1_isIn (Nat.le_of_ble_eq_true rfl) (by omega) rfl (by exact Nat.le_of_ble_eq_true rfl) (by omega) (by omega) dX4_isLine_9 rfl ((ci_isIn hg ?_))
  have e : (decide (lN 1 ≤ v) && decide (v ≤ (nI l.length - nI 1).toInt64)) = decide (1 ≤ v.toInt ∧ v.toInt ≤ (l.length : Int) - 1) := by
    rw [Bool.eq_iff_iff, Bool.and_eq_true, nd_lle, nd_lle, nd_tl, nd_ti (by omega) (by omega), lN_toInt (by decide), decide_eq_true_iff]
    omega
  rw [e]
  refine nd_ireturn hC rfl (by first | rfl | exact nd_b_nar _) (by omega) (by omega) dX4_isLine_12 (hk)
theorem cl_become (hg : nd_OK g) (hL : ck_any h0 L) (hM : ck_lk h0 M l) (hLM : L + 9 ≤ M ∨ M + 9 ≤ L) (hok : lk_ok n l) (hn : n ≤ 6) (hk : ∀ h2, ck_fr L 9 h0 h2 → ck_lk h2 L l → K (.inl (some (.ref L))) h2) : nd_M g mX4_become d 0 0 [.ref L, .ref M] h0 K := by
  obtain ⟨w, hi, co, hL⟩ := hL
  obtain ⟨wM, hiM, coM, hM, rfl, hlc⟩ := hM
  have hM0 := hM
  have hwd := lk_width hok
  have hfl := lk_len hok
  have hF : ck_fr L 9 h0 h0 := ck_fr.rfl
  refine nd_enter hg (by decide) rfl (Nat.le_of_ble_eq_true rfl) (fun X hC => ?_)
  refine nd_aload_n hC dX4_become_0 rfl rfl ?_
  refine nd_aload_n hC dX4_become_1 rfl rfl ?_
  refine nd_get (ci := nX4) hC in_X4 rfl hM.1 2 (by decide) q341 (fun _ z => z) rfl dX4_become_2 ?_
  refine cl_put_w hC hL q341 dX4_become_5 (fun h hL fr => ?_)
  have hM := hM.fr fr (by omega)
  have hF := hF.trans fr
  refine nd_iconst hC (v := nI 0) (by rfl) dX4_become_8 ?_
  refine nd_istore_n hC dX4_become_9 (Nat.le_of_ble_eq_true rfl) ?_
  have L1 : ∀ c, c ≤ l.length → ∀ hi1 co1 h1, cw_L h1 L (nI l.length) hi1 co1 → ck_fr L 9 h0 h1 → (∀ j, j < c → ck_cl hi1 co1 j (l.getD j [])) → nd_W g mX4_become d 0 0 K X 10 [some (.ref L), some (.ref M), some (.int (nI c))] [] h1 0 0 := by
    refine nd_for _ _ ?_ ?_
    · intro hi1 co1 h hL hF hc
      refine nd_iload_n hC dX4_become_10 rfl ?_
      refine nd_aload_n hC dX4_become_11 rfl rfl ?_
      refine nd_get (ci := nX4) hC in_X4 rfl hL.1 2 (by decide) q341 (fun _ z => z) rfl dX4_become_12 ?_
      first | with_reducible refine nd_icmp_geN hC (tgt := 59) (by omega) (by omega) dX4_become_15 (by decide) (fun hq => ?_) (fun hq => ?_) | refine nd_icmp_ge hC (tgt := 59) dX4_become_15 (by decide) (fun hq => ?_) (fun hq => ?_)
      · refine nd_aload_n hC dX4_become_59 rfl rfl ?_
        refine nd_areturn hC rfl (by first | exact Or.inl ⟨_, rfl⟩ | exact Or.inr ⟨_, rfl⟩) (by rfl) (by omega) (by omega) dX4_become_60 ((hk h hF ⟨_, hi1, co1, hL, rfl, hc⟩))
      · omega
    · intro c hc1 ih hi1 co1 h hL hF hc
      have hM := hM0.fr hF (by omega)
      have hcc := hlc c hc1
      have h1 := lk_one l c
      refine nd_iload_n hC dX4_become_10 rfl ?_
      refine nd_aload_n hC dX4_become_11 rfl rfl ?_
      refine nd_get (ci := nX4) hC in_X4 rfl hL.1 2 (by decide) q341 (fun _ z => z) rfl dX4_become_12 ?_
      first | with_reducible refine nd_icmp_geN hC (tgt := 59) (by omega) (by omega) dX4_become_15 (by decide) (fun hq => ?_) (fun hq => ?_) | refine nd_icmp_ge hC (tgt := 59) dX4_become_15 (by decide) (fun hq => ?_) (fun hq => ?_)
      · omega
      · refine nd_aload_n hC dX4_become_18 rfl rfl ?_
        refine nd_get (ci := nX4) hC in_X4 rfl hL.1 1 (by decide) q336 (fun _ z => z) rfl dX4_become_19 ?_
        refine nd_iload_n hC dX4_become_22 rfl ?_
        refine nd_aload_n hC dX4_become_23 rfl rfl ?_
        refine nd_get (ci := nX4) hC in_X4 rfl hM.1 1 (by decide) q336 (fun _ z => z) rfl dX4_become_24 ?_
        refine nd_iload_n hC dX4_become_27 rfl ?_
        refine nd_ialoadN hC hM.2.2.2 (by omega) (by omega) dX4_become_28 ?_
        refine nd_v_eq (congrArg Value.int (hcc.1)) ?_
        refine cl_ast_hi hC hL (by omega) dX4_become_29 (fun h hL fr => ?_)
        have hM := hM.fr fr (by omega)
        have hF := hF.trans fr
        refine nd_aload_n hC dX4_become_30 rfl rfl ?_
        refine nd_get (ci := nX4) hC in_X4 rfl hM.1 0 (by decide) q332 (fun _ z => z) rfl dX4_become_31 ?_
        refine nd_iload_n hC dX4_become_34 rfl ?_
        refine nd_aaloadN hC rfl rfl hM.2.1 (by omega) (by omega) dX4_become_35 ?_
        refine nd_iconst hC (v := nI 0) (by rfl) dX4_become_36 ?_
        refine nd_aload_n hC dX4_become_37 rfl rfl ?_
        refine nd_get (ci := nX4) hC in_X4 rfl hL.1 0 (by decide) q332 (fun _ z => z) rfl dX4_become_38 ?_
        refine nd_iload_n hC dX4_become_41 rfl ?_
        refine nd_aaloadN hC rfl rfl hL.2.1 (by omega) (by omega) dX4_become_42 ?_
        refine nd_iconst hC (v := nI 0) (by rfl) dX4_become_43 ?_
        refine nd_aload_n hC dX4_become_44 rfl rfl ?_
        refine nd_get (ci := nX4) hC in_X4 rfl hL.1 1 (by decide) q336 (fun _ z => z) rfl dX4_become_45 ?_
        refine nd_iload_n hC dX4_become_48 rfl ?_
        refine nd_ialoadN hC hL.2.2.2 (by omega) (by omega) dX4_become_49 ?_
        refine nd_v_eq (congrArg Value.int (show upd hi1 c (nI (l.getD c []).length) c = nI (l.getD c []).length by rw [upd_s])) ?_
        refine nd_copyI hC q825 (hM.2.2.1 c (by omega)) (hL.2.2.1 c (by omega)) (by omega) (by omega) (by omega) (by omega) (by exact Nat.le_of_ble_eq_true rfl) dX4_become_50 ?_
        have hL2 := hL.sCo (t := c) (by omega) (va_cpy (coM c) (co1 c) 0 0 (l.getD c []).length)
        have hF2 := hF.trans (ck_fr.set (L := L) (n := 9) (b := L + 2 + c) (c := .inl (0, 6, .inl (va_cpy (coM c) (co1 c) 0 0 (l.getD c []).length))) (by omega))
        generalize h.set (L + 2 + c) (.inl (0, 6, .inl (va_cpy (coM c) (co1 c) 0 0 (l.getD c []).length))) = h2 at hL2 hF2 ⊢
        first | with_reducible refine nd_iincN hC dX4_become_53 rfl (Nat.le_of_ble_eq_true rfl) ?_ | refine nd_iinc hC dX4_become_53 rfl rfl (Nat.le_of_ble_eq_true rfl) ?_
        refine nd_goto hC (tgt := 10) dX4_become_56 (by decide) ?_
        refine ih _ _ h2 hL2 hF2 (fun j hj => ?_)
        by_cases e : j = c
        · subst e
          refine ⟨upd_s, fun i hi => ?_⟩
          rw [va_up_s]
          show (if 0 ≤ i ∧ i < 0 + (l.getD j []).length then coM j (0 + (i - 0)) else co1 j i) = _
          rw [if_pos (by omega), show 0 + (i - 0) = i by omega]
          exact hcc.2 i hi
        · exact ⟨by rw [upd_n e]; exact (hc j (by omega)).1, fun i hi => by rw [va_up_n _ _ e]; exact (hc j (by omega)).2 i hi⟩
  exact L1 0 (Nat.zero_le _) hi co h hL hF (fun j hj => absurd hj (Nat.not_lt_zero _))
end CL4

