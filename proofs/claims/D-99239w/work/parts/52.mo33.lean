set_option maxRecDepth 100000
theorem dd_why_le (P : sy_P) (z : Int) : dd_why P z ≤ 2 := by
  unfold dd_why
  repeat' split
  all_goals omega
theorem dd_why_rng {P : sy_P} {z : Int} (h : dd_why P z = 0) : -1 ≤ z ∧ z ≤ 2599 := by
  have := dd_why_0 h
  omega
theorem l2i_small {v : Int64} (h : -1 ≤ v.toInt ∧ v.toInt ≤ 2599) : v.toInt32.toInt = v.toInt := by
  rw [Int64.toInt_toInt32, Int.bmod_eq_of_le (by omega) (by omega)]
theorem dr_deed_le (x : Int32) : (dr_deed x).1 ≤ 1600 := by
  have b6 : dr_v (dr_s x) % 6 < 6 := Nat.mod_lt _ (by decide)
  have b5 : dr_v (dr_s x) % 5 < 5 := Nat.mod_lt _ (by decide)
  have b100 : dr_v (dr_s (dr_s x)) % 100 < 100 := Nat.mod_lt _ (by decide)
  have b4 : dr_v (dr_s (dr_s x)) % 4 < 4 := Nat.mod_lt _ (by decide)
  unfold dr_deed
  simp only []
  repeat' split
  all_goals simp only []
  all_goals omega
section MO33
variable {g : nd_G} {d : Nat} {K : nd_K} {h h0 : nd_H} {A : Nat → Nat → Int32} {F : Nat → Int32} {B : Nat → Nat → Int64} {f : Nat → Int32}
theorem mp_judge (hg : nd_OK g) (hd : 6 ≤ d) (x y : Int32) : mp_ok g h0 mX7_judge d [.int x, .int y] (mp_i (op_judge x y)) := by
  intro tt S A F B h K ht hI hS hw hk
  have h5 := sy_len5 hS
  have hn : sy_n S ≤ 6 := hS.1.1.1
  have hf2 := ty_f_le x S
  unfold mp_i op_judge at hk
  refine nd_enter hg (by decide) rfl (Nat.le_of_ble_eq_true rfl) (fun X hC => ?_)
  refine nd_aload_n hC dX7_judge_0 rfl rfl ?_
  refine nd_aload_n hC dX7_judge_1 rfl rfl ?_
  refine nd_iload_n hC dX7_judge_2 rfl ?_
  refine mo_callV (As := [_]) (d2 := d - 1) hC hw rfl lkX7_389 lyX7_389 (Nat.le_of_ble_eq_true rfl) (by omega) rfl (by exact Nat.le_of_ble_eq_true rfl) (Nat.zero_le _) (Nat.zero_le _) dX7_judge_3 rfl ((sp_trayFault hg (by omega) hI hS hw ?_))
  have JE : ∀ F1 h1, mo_W h0 A F1 B h1 → mo_I tt S A F1 B → ∀ e : Nat, F1 4 = nI e → 1 ≤ e → e ≤ 3 → (∀ A2 F2 B2 h2, mo_I (tt + 4) S A2 F2 B2 → F2 4 = nI e → mo_W h0 A2 F2 B2 h2 → K (.inl (some (.int (nI 0)))) h2) → nd_W g mX7_judge d 0 0 K X 33 [some (.ref 101), some (.int x), some (.int y), none, none, none, none] [] h1 0 0 := by
    intro F1 h hw hI1 e eF e1 e3 hk
    refine nd_aload_n hC dX7_judge_33 rfl rfl ?_
    refine mo_get_thrown hC hw rfl dX7_judge_34 ?_
    rw [eF]
    refine nd_if_le hC (tgt := 42) dX7_judge_37 (by decide) (fun hq => ?_) (fun hq => ?_)
    · exact absurd hq (nI_gt0 e1 (by omega))
    · refine nd_iconst hC (v := nI 0) (by rfl) dX7_judge_40 ?_
      refine nd_ireturn hC rfl (by first | rfl | exact nd_b_nar _) (by omega) (by omega) dX7_judge_41 ((hk A F1 B h (hI1.t (by omega)) eF hw))
  refine mo_put_thrown hC hw rfl dX7_judge_6 (fun h hw => ?_)
  refine nd_aload_n hC dX7_judge_9 rfl rfl ?_
  refine mo_get_thrown hC hw rfl dX7_judge_10 ?_
  rw [va_up_s]
  first | with_reducible refine nd_if_neB hC (tgt := 33) dX7_judge_13 (by decide) (fun hc => ?_) (fun hc => ?_) | with_reducible refine nd_if_neN hC (tgt := 33) (by omega) dX7_judge_13 (by decide) (fun hc => ?_) (fun hc => ?_) | refine nd_if_ne hC (tgt := 33) dX7_judge_13 (by decide) (fun hc => ?_) (fun hc => ?_)
  · have ej : jd_f x y S = ty_f x S := by unfold jd_f; rw [if_neg hc]
    rw [ej, if_neg hc] at hk
    exact JE _ h hw hI.th (ty_f x S) (va_up_s _ _ _) (by omega) (by omega) hk
  · have hc0 : ty_f x S = 0 := by omega
    refine nd_iload_n hC dX7_judge_16 rfl ?_
    first | with_reducible refine nd_i2lN hC (by omega) dX7_judge_17 ?_ | refine nd_i2l hC dX7_judge_17 ?_
    refine nd_lconst hC (v := lN 0) (by rfl) dX7_judge_18 ?_
    refine nd_ldc2 hC q3150 dX7_judge_19 ?_
    refine nd_v_eq (y := .long (lN 3)) (by rfl) ?_
    refine mo_callS (As := [_, _, _]) (d2 := d - 1) hC rfl lkX7_138 lyX7_138 (Nat.le_of_ble_eq_true rfl) (by omega) rfl (by exact Nat.le_of_ble_eq_true rfl) (Nat.zero_le _) (Nat.zero_le _) dX7_judge_22 rfl ((sp_within hg ?_))
    have e : (decide (lN 0 ≤ y.toInt64) && decide (y.toInt64 ≤ lN 3)) = op_in y 0 3 := by
      unfold op_in
      rw [Bool.eq_iff_iff, Bool.and_eq_true, nd_lle, nd_lle, nd_tl, lN_toInt (by decide), lN_toInt (by decide), decide_eq_true_iff]
      omega
    rw [e]
    first | with_reducible refine nd_if_neB hC (tgt := 33) dX7_judge_25 (by decide) (fun hy => ?_) (fun hy => ?_) | with_reducible refine nd_if_neN hC (tgt := 33) (by omega) dX7_judge_25 (by decide) (fun hy => ?_) (fun hy => ?_) | refine nd_if_ne hC (tgt := 33) dX7_judge_25 (by decide) (fun hy => ?_) (fun hy => ?_)
    · have ej : jd_f x y S = 0 := by unfold jd_f; rw [if_pos hc0, if_pos hy]
      rw [ej, if_pos rfl] at hk
      rw [hc0] at hw
      obtain ⟨t, q, htt, rfl, eq, ev⟩ := ty_f_0 hc0
      obtain ⟨u, hu, rfl⟩ := op_in_nat hy
      rw [ev] at hk
      have hvl : q.2.length ≤ 30 := (hS.2.2.1 t htt q eq).2
      generalize hR : jd_go (sy_p S) q.2 0 = R at hk
      refine nd_aload_n hC dX7_judge_33 rfl rfl ?_
      refine mo_get_thrown hC hw rfl dX7_judge_34 ?_
      rw [va_up_s]
      refine nd_if_le hC (tgt := 42) dX7_judge_37 (by decide) (fun hq => ?_) (fun hq => ?_)
      · refine nd_aload_n hC dX7_judge_42 rfl rfl ?_
        refine mo_callV (As := []) (d2 := d - 1) hC hw rfl lkX7_392 lyX7_392 (Nat.le_of_ble_eq_true rfl) (by omega) rfl (by exact Nat.le_of_ble_eq_true rfl) (Nat.zero_le _) (Nat.zero_le _) dX7_judge_43 rfl ((sp_putsAside hg (tt := tt) hS.1.2.1 hn hI.1.2.1 hw ?_))
        intro f2 h2 hsa hw
        have hI2 : mo_I tt (sy_st S (sy_c S)) (va_up A 23 f2) (va_up F 4 (nI 0)) B := hI.th.ar (j := 23) rfl
        refine nd_iconst hC (v := -1) (by rfl) dX7_judge_46 ?_
        refine nd_istore_n hC dX7_judge_47 (Nat.le_of_ble_eq_true rfl) ?_
        refine nd_iconst hC (v := nI 0) (by rfl) dX7_judge_48 ?_
        refine nd_istore hC dX7_judge_49 (Nat.le_of_ble_eq_true rfl) ?_
        refine nd_iconst hC (v := nI 0) (by rfl) dX7_judge_51 ?_
        refine nd_istore hC dX7_judge_52 (Nat.le_of_ble_eq_true rfl) ?_
        have JX : ∀ (s : sv) (A : Nat → Nat → Int32) h (place : Int32) (why : Nat) lv5 lv6, sv_ok (sy_n S) s → mo_I tt (sy_st S s) A (va_up F 4 (nI 0)) B → mo_sv (A 23) 0 (sy_c S) → (place, why, s) = R → mo_W h0 A (va_up F 4 (nI 0)) B h → nd_W g mX7_judge d 0 0 K X 122 [some (.ref 101), some (.int (nI t)), some (.int (nI u)), some (.int place), some (.int (nI why)), lv5, lv6] [] h 0 0 := by
          intro s A h place why lv5 lv6 hs hI hsa eR hw
          subst eR
          have hS2 : sy_ok (sy_st S s) := sy_set_ok hS ⟨hS.1.1, hs, hS.1.2.2⟩
          have h55 := sy_len5 hS2
          refine nd_aload_n hC dX7_judge_122 rfl rfl ?_
          refine nd_aload_n hC dX7_judge_123 rfl rfl ?_
          refine mo_callV (As := []) (d2 := d - 1) hC hw rfl lkX7_343 lyX7_343 (Nat.le_of_ble_eq_true rfl) (by omega) rfl (by exact Nat.le_of_ble_eq_true rfl) (Nat.zero_le _) (Nat.zero_le _) dX7_judge_124 rfl ((sp_now hg (by omega) hI hS2 hw ?_))
          intro A5 h5 hl5 kA5 hI5 hw
          refine mo_callV (As := [_]) (d2 := d - 1) hC hw rfl lkX7_256 lyX7_256 (Nat.le_of_ble_eq_true rfl) (by omega) rfl (by exact Nat.le_of_ble_eq_true rfl) (Nat.zero_le _) (Nat.zero_le _) dX7_judge_127 rfl ((sp_columnsAt hg hw (by omega) ?_))
          rw [hl5.1]
          refine nd_istore hC dX7_judge_130 (Nat.le_of_ble_eq_true rfl) ?_
          refine nd_aload_n hC dX7_judge_132 rfl rfl ?_
          refine mo_get_known hC hw rfl dX7_judge_133 ?_
          refine nd_bipush hC (v := nI 7) (by rfl) dX7_judge_136 ?_
          refine nd_ialoadN hC hw.known (by omega) (by decide) dX7_judge_138 ?_
          rw [hI5.fs.1]
          refine nd_istore hC dX7_judge_139 (Nat.le_of_ble_eq_true rfl) ?_
          refine nd_aload_n hC dX7_judge_141 rfl rfl ?_
          refine mo_callV (As := []) (d2 := d - 1) hC hw rfl lkX7_401 lyX7_401 (Nat.le_of_ble_eq_true rfl) (by omega) rfl (by exact Nat.le_of_ble_eq_true rfl) (Nat.zero_le _) (Nat.zero_le _) dX7_judge_142 rfl ((sp_putsBack hg hI5 hS2 hS.1.2.1 (by rw [kA5 23 rfl]; exact hsa) hw ?_))
          intro f6 h6 hI6 hw
          have hI7 : mo_I (tt + 4) S (va_up A5 0 f6) (va_up F 4 (nI 0)) B := hI6.t (by omega)
          refine nd_iload_n hC dX7_judge_145 rfl ?_
          obtain rfl | rfl | rfl | rfl : u = 0 ∨ u = 1 ∨ u = 2 ∨ u = 3 := by omega
          · rw [if_pos (show nI 0 = (0 : Int32) from rfl)] at hk
            first | with_reducible refine nd_if_neB hC (tgt := 153) dX7_judge_146 (by decide) (fun hq => ?_) (fun hq => ?_) | with_reducible refine nd_if_neN hC (tgt := 153) (by omega) dX7_judge_146 (by decide) (fun hq => ?_) (fun hq => ?_) | refine nd_if_ne hC (tgt := 153) dX7_judge_146 (by decide) (fun hq => ?_) (fun hq => ?_)
            · exact absurd rfl hq
            · refine nd_iload_n hC dX7_judge_149 rfl ?_
              refine nd_goto hC (tgt := 175) dX7_judge_150 (by decide) ?_
              refine nd_ireturn hC rfl (by first | rfl | exact nd_b_nar _) (by omega) (by omega) dX7_judge_175 ((hk _ _ _ _ hI7 (va_up_s _ _ _) hw))
          · rw [if_neg (by decide), if_pos rfl] at hk
            first | with_reducible refine nd_if_neB hC (tgt := 153) dX7_judge_146 (by decide) (fun hq => ?_) (fun hq => ?_) | with_reducible refine nd_if_neN hC (tgt := 153) (by omega) dX7_judge_146 (by decide) (fun hq => ?_) (fun hq => ?_) | refine nd_if_ne hC (tgt := 153) dX7_judge_146 (by decide) (fun hq => ?_) (fun hq => ?_)
            · refine nd_iload_n hC dX7_judge_153 rfl ?_
              refine nd_iconst hC (v := nI 1) (by rfl) dX7_judge_154 ?_
              first | with_reducible refine nd_icmp_neN hC (tgt := 163) (by omega) (by omega) dX7_judge_155 (by decide) (fun hq => ?_) (fun hq => ?_) | refine nd_icmp_ne hC (tgt := 163) dX7_judge_155 (by decide) (fun hq => ?_) (fun hq => ?_)
              · exact absurd rfl hq
              · refine nd_iload hC dX7_judge_158 rfl ?_
                refine nd_goto hC (tgt := 175) dX7_judge_160 (by decide) ?_
                refine nd_ireturn hC rfl (by first | rfl | exact nd_b_nar _) (by omega) (by omega) dX7_judge_175 ((hk _ _ _ _ hI7 (va_up_s _ _ _) hw))
            · exact absurd hq (by decide)
          · rw [if_neg (by decide), if_neg (by decide), if_pos rfl] at hk
            first | with_reducible refine nd_if_neB hC (tgt := 153) dX7_judge_146 (by decide) (fun hq => ?_) (fun hq => ?_) | with_reducible refine nd_if_neN hC (tgt := 153) (by omega) dX7_judge_146 (by decide) (fun hq => ?_) (fun hq => ?_) | refine nd_if_ne hC (tgt := 153) dX7_judge_146 (by decide) (fun hq => ?_) (fun hq => ?_)
            · refine nd_iload_n hC dX7_judge_153 rfl ?_
              refine nd_iconst hC (v := nI 1) (by rfl) dX7_judge_154 ?_
              first | with_reducible refine nd_icmp_neN hC (tgt := 163) (by omega) (by omega) dX7_judge_155 (by decide) (fun hq => ?_) (fun hq => ?_) | refine nd_icmp_ne hC (tgt := 163) dX7_judge_155 (by decide) (fun hq => ?_) (fun hq => ?_)
              · refine nd_iload_n hC dX7_judge_163 rfl ?_
                refine nd_iconst hC (v := nI 2) (by rfl) dX7_judge_164 ?_
                first | with_reducible refine nd_icmp_neN hC (tgt := 173) (by omega) (by omega) dX7_judge_165 (by decide) (fun hq => ?_) (fun hq => ?_) | refine nd_icmp_ne hC (tgt := 173) dX7_judge_165 (by decide) (fun hq => ?_) (fun hq => ?_)
                · exact absurd rfl hq
                · refine nd_iload hC dX7_judge_168 rfl ?_
                  refine nd_goto hC (tgt := 175) dX7_judge_170 (by decide) ?_
                  refine nd_ireturn hC rfl (by first | rfl | exact nd_b_nar _) (by omega) (by omega) dX7_judge_175 ((hk _ _ _ _ hI7 (va_up_s _ _ _) hw))
              · exact absurd hq (by decide)
            · exact absurd hq (by decide)
          · rw [if_neg (by decide), if_neg (by decide), if_neg (by decide)] at hk
            first | with_reducible refine nd_if_neB hC (tgt := 153) dX7_judge_146 (by decide) (fun hq => ?_) (fun hq => ?_) | with_reducible refine nd_if_neN hC (tgt := 153) (by omega) dX7_judge_146 (by decide) (fun hq => ?_) (fun hq => ?_) | refine nd_if_ne hC (tgt := 153) dX7_judge_146 (by decide) (fun hq => ?_) (fun hq => ?_)
            · refine nd_iload_n hC dX7_judge_153 rfl ?_
              refine nd_iconst hC (v := nI 1) (by rfl) dX7_judge_154 ?_
              first | with_reducible refine nd_icmp_neN hC (tgt := 163) (by omega) (by omega) dX7_judge_155 (by decide) (fun hq => ?_) (fun hq => ?_) | refine nd_icmp_ne hC (tgt := 163) dX7_judge_155 (by decide) (fun hq => ?_) (fun hq => ?_)
              · refine nd_iload_n hC dX7_judge_163 rfl ?_
                refine nd_iconst hC (v := nI 2) (by rfl) dX7_judge_164 ?_
                first | with_reducible refine nd_icmp_neN hC (tgt := 173) (by omega) (by omega) dX7_judge_165 (by decide) (fun hq => ?_) (fun hq => ?_) | refine nd_icmp_ne hC (tgt := 173) dX7_judge_165 (by decide) (fun hq => ?_) (fun hq => ?_)
                · refine nd_iload hC dX7_judge_173 rfl ?_
                  refine nd_ireturn hC rfl (by first | rfl | exact nd_b_nar _) (by omega) (by omega) dX7_judge_175 ((hk _ _ _ _ hI7 (va_up_s _ _ _) hw))
                · exact absurd hq (by decide)
              · exact absurd hq (by decide)
            · exact absurd hq (by decide)
        have L : ∀ k, k ≤ q.2.length → ∀ (s : sv) (A : Nat → Nat → Int32) h, sv_ok (sy_n S) s → mo_I tt (sy_st S s) A (va_up F 4 (nI 0)) B → mo_sv (A 23) 0 (sy_c S) → jd_go (sy_N S, s, sy_d S) (q.2.drop k) k = R → mo_W h0 A (va_up F 4 (nI 0)) B h → nd_W g mX7_judge d 0 0 K X 54 [some (.ref 101), some (.int (nI t)), some (.int (nI u)), some (.int (-1)), some (.int (nI 0)), some (.int (nI k)), none] [] h 0 0 := by
          refine nd_for _ _ ?_ ?_
          · intro s A h hs hI hsa eR hw
            rw [List.drop_length] at eR
            refine nd_iload hC dX7_judge_54 rfl ?_
            refine nd_aload_n hC dX7_judge_56 rfl rfl ?_
            refine mo_get_tMany hC hw rfl dX7_judge_57 ?_
            refine nd_iload_n hC dX7_judge_60 rfl ?_
            refine nd_ialoadN hC hw.tMany (by omega) (by decide) dX7_judge_61 ?_
            rw [((hI.2.2.1 t htt).2 q eq).2.1]
            first | with_reducible refine nd_icmp_geN hC (tgt := 122) (by omega) (by omega) dX7_judge_62 (by decide) (fun hc => ?_) (fun hc => ?_) | refine nd_icmp_ge hC (tgt := 122) dX7_judge_62 (by decide) (fun hc => ?_) (fun hc => ?_)
            · exact JX s A h _ _ _ _ hs hI hsa eR hw
            · omega
          · intro k hk1 ih s A h hs hI hsa eR hw
            obtain ⟨hts, hm, h30, hnum⟩ := (hI.2.2.1 t htt).2 q eq
            have hS2 : sy_ok (sy_st S s) := sy_set_ok hS ⟨hS.1.1, hs, hS.1.2.2⟩
            rw [nd_drop_cons hk1] at eR
            unfold jd_go at eR
            refine nd_iload hC dX7_judge_54 rfl ?_
            refine nd_aload_n hC dX7_judge_56 rfl rfl ?_
            refine mo_get_tMany hC hw rfl dX7_judge_57 ?_
            refine nd_iload_n hC dX7_judge_60 rfl ?_
            refine nd_ialoadN hC hw.tMany (by omega) (by decide) dX7_judge_61 ?_
            rw [hm]
            first | with_reducible refine nd_icmp_geN hC (tgt := 122) (by omega) (by omega) dX7_judge_62 (by decide) (fun hc => ?_) (fun hc => ?_) | refine nd_icmp_ge hC (tgt := 122) dX7_judge_62 (by decide) (fun hc => ?_) (fun hc => ?_)
            · omega
            · refine nd_iload_n hC dX7_judge_65 rfl ?_
              refine nd_iconst hC (v := -1) (by rfl) dX7_judge_66 ?_
              first | with_reducible refine nd_icmp_neN hC (tgt := 122) (by omega) (by omega) dX7_judge_67 (by decide) (fun hc2 => ?_) (fun hc2 => ?_) | refine nd_icmp_ne hC (tgt := 122) dX7_judge_67 (by decide) (fun hc2 => ?_) (fun hc2 => ?_)
              · exact absurd rfl hc2
              · refine nd_aload_n hC dX7_judge_70 rfl rfl ?_
                refine nd_aload_n hC dX7_judge_71 rfl rfl ?_
                refine mo_get_numbers hC hw rfl dX7_judge_72 ?_
                refine nd_bipush hC (v := nI 30) (by rfl) dX7_judge_75 ?_
                refine nd_iload_n hC dX7_judge_77 rfl ?_
                first | with_reducible refine nd_imulN hC dX7_judge_78 ?_ | refine nd_imul hC dX7_judge_78 ?_
                refine nd_iload hC dX7_judge_79 rfl ?_
                first | with_reducible refine nd_iaddN hC dX7_judge_81 ?_ | refine nd_iadd hC dX7_judge_81 ?_
                refine nd_laloadN hC hw.numbers (by omega) (by decide) dX7_judge_82 ?_
                rw [hnum k hk1]
                refine mo_callV (As := [_]) (d2 := d - 1) hC hw rfl lkX7_395 lyX7_395 (Nat.le_of_ble_eq_true rfl) (by omega) rfl (by exact Nat.le_of_ble_eq_true rfl) (Nat.zero_le _) (Nat.zero_le _) dX7_judge_83 rfl ((sp_whyTold hg (by omega) hI hS2 hw _ ?_))
                intro A2 h2 kA hI2 e23 hw
                have hsa2 : mo_sv (A2 23) 0 (sy_c S) := by rw [e23]; exact hsa
                obtain ⟨hts, hm, h30, hnum⟩ := (hI2.2.2.1 t htt).2 q eq
                have hle := dd_why_le (sy_N S, s, sy_d S) (q.2.getD k 0).toInt
                generalize hd2 : dd_why (sy_p (sy_st S s)) (q.2.getD k 0).toInt = dw
                have hd3 : dd_why (sy_N S, s, sy_d S) (q.2.getD k 0).toInt = dw := hd2
                rw [hd3] at eR hle
                refine nd_istore hC dX7_judge_86 (Nat.le_of_ble_eq_true rfl) ?_
                refine nd_iload hC dX7_judge_88 rfl ?_
                first | with_reducible refine nd_if_neB hC (tgt := 113) dX7_judge_90 (by decide) (fun hq => ?_) (fun hq => ?_) | with_reducible refine nd_if_neN hC (tgt := 113) (by omega) dX7_judge_90 (by decide) (fun hq => ?_) (fun hq => ?_) | refine nd_if_ne hC (tgt := 113) dX7_judge_90 (by decide) (fun hq => ?_) (fun hq => ?_)
                · rw [if_neg hq] at eR
                  refine nd_iload hC dX7_judge_113 rfl ?_
                  refine nd_istore_n hC dX7_judge_115 (Nat.le_of_ble_eq_true rfl) ?_
                  first | with_reducible refine nd_iincN hC dX7_judge_116 rfl (Nat.le_of_ble_eq_true rfl) ?_ | refine nd_iinc hC dX7_judge_116 rfl rfl (Nat.le_of_ble_eq_true rfl) ?_
                  refine nd_goto hC (tgt := 54) dX7_judge_119 (by decide) ?_
                  refine nd_iload hC dX7_judge_54 rfl ?_
                  refine nd_aload_n hC dX7_judge_56 rfl rfl ?_
                  refine mo_get_tMany hC hw rfl dX7_judge_57 ?_
                  refine nd_iload_n hC dX7_judge_60 rfl ?_
                  refine nd_ialoadN hC hw.tMany (by omega) (by decide) dX7_judge_61 ?_
                  rw [hm]
                  first | with_reducible refine nd_icmp_geN hC (tgt := 122) (by omega) (by omega) dX7_judge_62 (by decide) (fun hc3 => ?_) (fun hc3 => ?_) | refine nd_icmp_ge hC (tgt := 122) dX7_judge_62 (by decide) (fun hc3 => ?_) (fun hc3 => ?_)
                  · exact JX s A2 h2 _ _ _ _ hs hI2 hsa2 eR hw
                  · refine nd_iload_n hC dX7_judge_65 rfl ?_
                    refine nd_iconst hC (v := -1) (by rfl) dX7_judge_66 ?_
                    first | with_reducible refine nd_icmp_neN hC (tgt := 122) (by omega) (by omega) dX7_judge_67 (by decide) (fun hc4 => ?_) (fun hc4 => ?_) | refine nd_icmp_ne hC (tgt := 122) dX7_judge_67 (by decide) (fun hc4 => ?_) (fun hc4 => ?_)
                    · exact JX s A2 h2 _ _ _ _ hs hI2 hsa2 eR hw
                    · exact absurd hc4 (by intro q; have := congrArg Int32.toInt q; rw [nI_toInt (by omega)] at this; exact absurd this (by show ¬ _ = (-1 : Int); omega))
                · have hq : dw = 0 := by omega
                  rw [if_pos hq] at eR
                  rw [hq] at hd2 hd3 ⊢
                  have hs3 := dd_ok hS2.1 hd2
                  have hl2 := l2i_small (dd_why_rng hd2)
                  refine nd_aload_n hC dX7_judge_93 rfl rfl ?_
                  refine nd_aload_n hC dX7_judge_94 rfl rfl ?_
                  refine mo_get_numbers hC hw rfl dX7_judge_95 ?_
                  refine nd_bipush hC (v := nI 30) (by rfl) dX7_judge_98 ?_
                  refine nd_iload_n hC dX7_judge_100 rfl ?_
                  first | with_reducible refine nd_imulN hC dX7_judge_101 ?_ | refine nd_imul hC dX7_judge_101 ?_
                  refine nd_iload hC dX7_judge_102 rfl ?_
                  first | with_reducible refine nd_iaddN hC dX7_judge_104 ?_ | refine nd_iadd hC dX7_judge_104 ?_
                  refine nd_laloadN hC hw.numbers (by omega) (by decide) dX7_judge_105 ?_
                  rw [hnum k hk1]
                  first | with_reducible refine nd_l2iN hC dX7_judge_106 ?_ | refine nd_l2i hC dX7_judge_106 ?_
                  refine mo_callV (As := [_]) (d2 := d - 1) hC hw rfl lkX7_398 lyX7_398 (Nat.le_of_ble_eq_true rfl) (by omega) rfl (by exact Nat.le_of_ble_eq_true rfl) (Nat.zero_le _) (Nat.zero_le _) dX7_judge_107 rfl ((sp_does hg (by omega) hI2 hS2 hw (by rw [hl2]; exact hd2) ?_))
                  intro f3 h3 hI3 hw
                  rw [hl2] at hI3
                  refine nd_goto hC (tgt := 116) dX7_judge_110 (by decide) ?_
                  first | with_reducible refine nd_iincN hC dX7_judge_116 rfl (Nat.le_of_ble_eq_true rfl) ?_ | refine nd_iinc hC dX7_judge_116 rfl rfl (Nat.le_of_ble_eq_true rfl) ?_
                  refine nd_goto hC (tgt := 54) dX7_judge_119 (by decide) ?_
                  exact ih (dd_do s (q.2.getD k 0).toInt) _ _ hs3 hI3 hsa2 eR hw
        exact L 0 (Nat.zero_le _) (sy_c S) _ h2 hS.1.2.1 hI2 (by rw [va_up_s]; exact hsa) hR hw
      · exact absurd hq (by decide)
    · have ej : jd_f x y S = 3 := by unfold jd_f; rw [if_pos hc0, if_neg (by rw [hy]; decide)]
      rw [ej, if_neg (by decide)] at hk
      refine nd_aload_n hC dX7_judge_28 rfl rfl ?_
      refine nd_iconst hC (v := nI 3) (by rfl) dX7_judge_29 ?_
      refine mo_put_thrown hC hw rfl dX7_judge_30 (fun h hw => ?_)
      exact JE _ h hw hI.th.th 3 (va_up_s _ _ _) (by omega) (by omega) hk
theorem mp_perform (hg : nd_OK g) (hd : 5 ≤ d) (x : Int32) : mp_ok g h0 mX7_perform d [.int x] (mp_i (op_perform x)) := by
  intro tt S A F B h K ht hI hS hw hk
  have h5 := sy_len5 hS
  have hn : sy_n S ≤ 6 := hS.1.1.1
  have hf2 := ty_f_le x S
  unfold mp_i op_perform at hk
  refine nd_enter hg (by decide) rfl (Nat.le_of_ble_eq_true rfl) (fun X hC => ?_)
  refine nd_aload_n hC dX7_perform_0 rfl rfl ?_
  refine nd_aload_n hC dX7_perform_1 rfl rfl ?_
  refine nd_iload_n hC dX7_perform_2 rfl ?_
  refine mo_callV (As := [_]) (d2 := d - 1) hC hw rfl lkX7_389 lyX7_389 (Nat.le_of_ble_eq_true rfl) (by omega) rfl (by exact Nat.le_of_ble_eq_true rfl) (Nat.zero_le _) (Nat.zero_le _) dX7_perform_3 rfl ((sp_trayFault hg (by omega) hI hS hw ?_))
  refine mo_put_thrown hC hw rfl dX7_perform_6 (fun h hw => ?_)
  refine nd_aload_n hC dX7_perform_9 rfl rfl ?_
  refine mo_get_thrown hC hw rfl dX7_perform_10 ?_
  rw [va_up_s]
  by_cases hc : ty_f x S = 0
  · rw [if_pos hc] at hk
    rw [hc] at hw ⊢
    obtain ⟨t, q, htt, rfl, eq, ev⟩ := ty_f_0 hc
    rw [ev] at hk
    have hvl : q.2.length ≤ 30 := (hS.2.2.1 t htt q eq).2
    generalize hR : pf_go (sy_p S) q.2 0 = R at hk
    refine nd_if_le hC (tgt := 18) dX7_perform_13 (by decide) (fun hq => ?_) (fun hq => ?_)
    · refine nd_iconst hC (v := nI 0) (by rfl) dX7_perform_18 ?_
      refine nd_istore_n hC dX7_perform_19 (Nat.le_of_ble_eq_true rfl) ?_
      have JX : ∀ (P : sy_P) (A : Nat → Nat → Int32) h (k : Nat), mo_I tt (sy_set S P) A (va_up F 4 (nI 0)) B → (k, P) = R → mo_W h0 A (va_up F 4 (nI 0)) B h → nd_W g mX7_perform d 0 0 K X 92 [some (.ref 101), some (.int (nI t)), some (.int (nI k))] [] h 0 0 := by
        intro P A h k hI eR hw
        subst eR
        refine nd_iload_n hC dX7_perform_92 rfl ?_
        refine nd_ireturn hC rfl (by first | rfl | exact nd_b_nar _) (by omega) (by omega) dX7_perform_93 ((hk _ _ _ _ (hI.t (by omega)) (va_up_s _ _ _) hw))
      have L : ∀ k, k ≤ q.2.length → ∀ (P : sy_P) (A : Nat → Nat → Int32) h, sp_ok P → mo_I tt (sy_set S P) A (va_up F 4 (nI 0)) B → pf_go P (q.2.drop k) k = R → mo_W h0 A (va_up F 4 (nI 0)) B h → nd_W g mX7_perform d 0 0 K X 20 [some (.ref 101), some (.int (nI t)), some (.int (nI k))] [] h 0 0 := by
        refine nd_for _ _ ?_ ?_
        · intro P A h hP hI eR hw
          rw [List.drop_length] at eR
          refine nd_iload_n hC dX7_perform_20 rfl ?_
          refine nd_aload_n hC dX7_perform_21 rfl rfl ?_
          refine mo_get_tMany hC hw rfl dX7_perform_22 ?_
          refine nd_iload_n hC dX7_perform_25 rfl ?_
          refine nd_ialoadN hC hw.tMany (by omega) (by decide) dX7_perform_26 ?_
          rw [((hI.2.2.1 t htt).2 q eq).2.1]
          first | with_reducible refine nd_icmp_geN hC (tgt := 92) (by omega) (by omega) dX7_perform_27 (by decide) (fun hc => ?_) (fun hc => ?_) | refine nd_icmp_ge hC (tgt := 92) dX7_perform_27 (by decide) (fun hc => ?_) (fun hc => ?_)
          · exact JX P A h _ hI eR hw
          · omega
        · intro k hk1 ih P A h hP hI eR hw
          obtain ⟨hts, hm, h30, hnum⟩ := (hI.2.2.1 t htt).2 q eq
          have hS2 : sy_ok (sy_set S P) := sy_set_ok hS hP
          rw [nd_drop_cons hk1] at eR
          unfold pf_go at eR
          refine nd_iload_n hC dX7_perform_20 rfl ?_
          refine nd_aload_n hC dX7_perform_21 rfl rfl ?_
          refine mo_get_tMany hC hw rfl dX7_perform_22 ?_
          refine nd_iload_n hC dX7_perform_25 rfl ?_
          refine nd_ialoadN hC hw.tMany (by omega) (by decide) dX7_perform_26 ?_
          rw [hm]
          first | with_reducible refine nd_icmp_geN hC (tgt := 92) (by omega) (by omega) dX7_perform_27 (by decide) (fun hc => ?_) (fun hc => ?_) | refine nd_icmp_ge hC (tgt := 92) dX7_perform_27 (by decide) (fun hc => ?_) (fun hc => ?_)
          · omega
          · refine nd_aload_n hC dX7_perform_30 rfl rfl ?_
            refine nd_aload_n hC dX7_perform_31 rfl rfl ?_
            refine mo_get_numbers hC hw rfl dX7_perform_32 ?_
            refine nd_bipush hC (v := nI 30) (by rfl) dX7_perform_35 ?_
            refine nd_iload_n hC dX7_perform_37 rfl ?_
            first | with_reducible refine nd_imulN hC dX7_perform_38 ?_ | refine nd_imul hC dX7_perform_38 ?_
            refine nd_iload_n hC dX7_perform_39 rfl ?_
            first | with_reducible refine nd_iaddN hC dX7_perform_40 ?_ | refine nd_iadd hC dX7_perform_40 ?_
            refine nd_laloadN hC hw.numbers (by omega) (by decide) dX7_perform_41 ?_
            rw [hnum k hk1]
            refine mo_callV (As := [_]) (d2 := d - 1) hC hw rfl lkX7_395 lyX7_395 (Nat.le_of_ble_eq_true rfl) (by omega) rfl (by exact Nat.le_of_ble_eq_true rfl) (Nat.zero_le _) (Nat.zero_le _) dX7_perform_42 rfl ((sp_whyTold hg (by omega) hI hS2 hw _ ?_))
            intro A2 h2 kA hI2 e23 hw
            obtain ⟨hts, hm, h30, hnum⟩ := (hI2.2.2.1 t htt).2 q eq
            have hle := dd_why_le P (q.2.getD k 0).toInt
            generalize hd2 : dd_why (sy_p (sy_set S P)) (q.2.getD k 0).toInt = dw
            have hd3 : dd_why P (q.2.getD k 0).toInt = dw := hd2
            rw [hd3] at eR hle
            first | with_reducible refine nd_if_neB hC (tgt := 92) dX7_perform_45 (by decide) (fun hq => ?_) (fun hq => ?_) | with_reducible refine nd_if_neN hC (tgt := 92) (by omega) dX7_perform_45 (by decide) (fun hq => ?_) (fun hq => ?_) | refine nd_if_ne hC (tgt := 92) dX7_perform_45 (by decide) (fun hq => ?_) (fun hq => ?_)
            · rw [if_neg hq] at eR
              exact JX P A2 h2 k hI2 eR hw
            · have hq : dw = 0 := by omega
              rw [if_pos hq] at eR
              rw [hq] at hd2 hd3
              have hl2 := l2i_small (dd_why_rng hd2)
              have hs3 := dd_ok hP hd3
              refine nd_aload_n hC dX7_perform_48 rfl rfl ?_
              refine mo_get_numbers hC hw rfl dX7_perform_49 ?_
              refine nd_bipush hC (v := nI 30) (by rfl) dX7_perform_52 ?_
              refine nd_iload_n hC dX7_perform_54 rfl ?_
              first | with_reducible refine nd_imulN hC dX7_perform_55 ?_ | refine nd_imul hC dX7_perform_55 ?_
              refine nd_iload_n hC dX7_perform_56 rfl ?_
              first | with_reducible refine nd_iaddN hC dX7_perform_57 ?_ | refine nd_iadd hC dX7_perform_57 ?_
              refine nd_laloadN hC hw.numbers (by omega) (by decide) dX7_perform_58 ?_
              rw [hnum k hk1]
              refine nd_ldc2 hC q3196 dX7_perform_59 ?_
              refine nd_lcmp_eq hC (tgt := 70) dX7_perform_62 dX7_perform_63 (by decide) (fun hv => ?_) (fun hv => ?_)
              · have hv2 : (q.2.getD k 0).toInt = -1 := l_eq_neg1.mp hv
                rw [if_pos hv2] at eR
                refine nd_aload_n hC dX7_perform_70 rfl rfl ?_
                refine nd_aload_n hC dX7_perform_71 rfl rfl ?_
                refine mo_get_numbers hC hw rfl dX7_perform_72 ?_
                refine nd_bipush hC (v := nI 30) (by rfl) dX7_perform_75 ?_
                refine nd_iload_n hC dX7_perform_77 rfl ?_
                first | with_reducible refine nd_imulN hC dX7_perform_78 ?_ | refine nd_imul hC dX7_perform_78 ?_
                refine nd_iload_n hC dX7_perform_79 rfl ?_
                first | with_reducible refine nd_iaddN hC dX7_perform_80 ?_ | refine nd_iadd hC dX7_perform_80 ?_
                refine nd_laloadN hC hw.numbers (by omega) (by decide) dX7_perform_81 ?_
                rw [hnum k hk1]
                first | with_reducible refine nd_l2iN hC dX7_perform_82 ?_ | refine nd_l2i hC dX7_perform_82 ?_
                refine mo_callV (As := [_]) (d2 := d - 1) hC hw rfl lkX7_398 lyX7_398 (Nat.le_of_ble_eq_true rfl) (by omega) rfl (by exact Nat.le_of_ble_eq_true rfl) (Nat.zero_le _) (Nat.zero_le _) dX7_perform_83 rfl ((sp_does hg (by omega) hI2 hS2 hw (by rw [hl2]; exact hd2) ?_))
                intro f3 h3 hI3 hw
                rw [hl2, hv2] at hI3
                first | with_reducible refine nd_iincN hC dX7_perform_86 rfl (Nat.le_of_ble_eq_true rfl) ?_ | refine nd_iinc hC dX7_perform_86 rfl rfl (Nat.le_of_ble_eq_true rfl) ?_
                refine nd_goto hC (tgt := 20) dX7_perform_89 (by decide) ?_
                exact ih P _ _ hP hI3 eR hw
              · have hv2 : ¬ (q.2.getD k 0).toInt = -1 := fun e => hv (l_eq_neg1.mpr e)
                rw [if_neg hv2] at eR
                refine nd_aload_n hC dX7_perform_66 rfl rfl ?_
                refine mo_callV (As := []) (d2 := d - 1) hC hw rfl lkX7_362 lyX7_362 (Nat.le_of_ble_eq_true rfl) (by omega) rfl (by exact Nat.le_of_ble_eq_true rfl) (Nat.zero_le _) (Nat.zero_le _) dX7_perform_67 rfl ((sp_keepsS hg hI2 hS2 hw ?_))
                intro f3 h3 hkn hI3 hw
                have hS3 : sy_ok (sy_set S (sy_kp (sy_set S P))) := sy_set_ok hS (sy_kp_ok hS2)
                refine nd_aload_n hC dX7_perform_70 rfl rfl ?_
                refine nd_aload_n hC dX7_perform_71 rfl rfl ?_
                refine mo_get_numbers hC hw rfl dX7_perform_72 ?_
                refine nd_bipush hC (v := nI 30) (by rfl) dX7_perform_75 ?_
                refine nd_iload_n hC dX7_perform_77 rfl ?_
                first | with_reducible refine nd_imulN hC dX7_perform_78 ?_ | refine nd_imul hC dX7_perform_78 ?_
                refine nd_iload_n hC dX7_perform_79 rfl ?_
                first | with_reducible refine nd_iaddN hC dX7_perform_80 ?_ | refine nd_iadd hC dX7_perform_80 ?_
                refine nd_laloadN hC hw.numbers (by omega) (by decide) dX7_perform_81 ?_
                rw [hnum k hk1]
                first | with_reducible refine nd_l2iN hC dX7_perform_82 ?_ | refine nd_l2i hC dX7_perform_82 ?_
                refine mo_callV (As := [_]) (d2 := d - 1) hC hw rfl lkX7_398 lyX7_398 (Nat.le_of_ble_eq_true rfl) (by omega) rfl (by exact Nat.le_of_ble_eq_true rfl) (Nat.zero_le _) (Nat.zero_le _) dX7_perform_83 rfl ((sp_does hg (by omega) hI3 hS3 hw (by rw [hl2]; exact hd2) ?_))
                intro f4 h4 hI4 hw
                rw [hl2] at hI4
                first | with_reducible refine nd_iincN hC dX7_perform_86 rfl (Nat.le_of_ble_eq_true rfl) ?_ | refine nd_iinc hC dX7_perform_86 rfl rfl (Nat.le_of_ble_eq_true rfl) ?_
                refine nd_goto hC (tgt := 20) dX7_perform_89 (by decide) ?_
                have hP4 : sp_ok (P.1, dd_do P.2.1 (q.2.getD k 0).toInt, sv_keep P.2.2 P.2.1) := ⟨hP.1, hs3, (sy_kp_ok hS2).2.2⟩
                exact ih _ _ _ hP4 hI4 eR hw
      exact L 0 (Nat.zero_le _) (sy_p S) _ h hS.1 hI.th hR hw
    · exact absurd hq (by decide)
  · rw [if_neg hc] at hk
    refine nd_if_le hC (tgt := 18) dX7_perform_13 (by decide) (fun hq => ?_) (fun hq => ?_)
    · exact absurd hq (nI_gt0 (by omega) (by omega))
    · refine nd_iconst hC (v := nI 0) (by rfl) dX7_perform_16 ?_
      refine nd_ireturn hC rfl (by first | rfl | exact nd_b_nar _) (by omega) (by omega) dX7_perform_17 ((hk A _ B _ (hI.th.t (by omega)) (va_up_s _ _ _) hw))
theorem mp_evening (hg : nd_OK g) (hd : 5 ≤ d) (x y : Int32) : mp_ok g h0 mX7_evening d [.int x, .int y] (mp_i (op_evening x y)) := by
  intro tt S A F B h K ht hI hS hw hk
  unfold mp_i op_evening at hk
  refine nd_enter hg (by decide) rfl (Nat.le_of_ble_eq_true rfl) (fun X hC => ?_)
  refine nd_aload_n hC dX7_evening_0 rfl rfl ?_
  refine nd_iconst hC (v := nI 0) (by rfl) dX7_evening_1 ?_
  refine mo_put_thrown hC hw rfl dX7_evening_2 (fun h hw => ?_)
  refine nd_iload_n hC dX7_evening_5 rfl ?_
  first | with_reducible refine nd_i2lN hC (by omega) dX7_evening_6 ?_ | refine nd_i2l hC dX7_evening_6 ?_
  refine nd_lconst hC (v := lN 1) (by rfl) dX7_evening_7 ?_
  refine nd_ldc2 hC q3219 dX7_evening_8 ?_
  refine nd_v_eq (y := .long (lN 30)) (by rfl) ?_
  refine mo_callS (As := [_, _, _]) (d2 := d - 1) hC rfl lkX7_138 lyX7_138 (Nat.le_of_ble_eq_true rfl) (by omega) rfl (by exact Nat.le_of_ble_eq_true rfl) (Nat.zero_le _) (Nat.zero_le _) dX7_evening_11 rfl ((sp_within hg ?_))
  have e : (decide (lN 1 ≤ y.toInt64) && decide (y.toInt64 ≤ lN 30)) = op_in y 1 30 := by
    unfold op_in
    rw [Bool.eq_iff_iff, Bool.and_eq_true, nd_lle, nd_lle, nd_tl, lN_toInt (by decide), lN_toInt (by decide), decide_eq_true_iff]
    omega
  rw [e]
  first | with_reducible refine nd_if_neB hC (tgt := 23) dX7_evening_14 (by decide) (fun hc => ?_) (fun hc => ?_) | with_reducible refine nd_if_neN hC (tgt := 23) (by omega) dX7_evening_14 (by decide) (fun hc => ?_) (fun hc => ?_) | refine nd_if_ne hC (tgt := 23) dX7_evening_14 (by decide) (fun hc => ?_) (fun hc => ?_)
  · rw [if_pos hc] at hk
    obtain ⟨T, hT, rfl⟩ : ∃ a : Nat, (1 ≤ a ∧ a ≤ 30) ∧ y = nI a := by
      unfold op_in at hc
      rw [decide_eq_true_iff] at hc
      exact ⟨y.toInt.toNat, by omega, by rw [← Int32.toInt_inj, nI_toInt (by omega)]; omega⟩
    rw [nI_cl (by omega)] at hk
    generalize hR : ev_go T (sy_p S) x 0 = R at hk
    refine nd_aload_n hC dX7_evening_23 rfl rfl ?_
    refine nd_iload_n hC dX7_evening_24 rfl ?_
    refine mo_put_state hC hw rfl dX7_evening_25 (fun h hw => ?_)
    refine nd_iconst hC (v := nI 0) (by rfl) dX7_evening_28 ?_
    refine nd_istore_n hC dX7_evening_29 (Nat.le_of_ble_eq_true rfl) ?_
    refine nd_iconst hC (v := nI 0) (by rfl) dX7_evening_30 ?_
    refine nd_istore hC dX7_evening_31 (Nat.le_of_ble_eq_true rfl) ?_
    have L : ∀ k, k ≤ T → ∀ (P : sy_P) (n : Nat) (A : Nat → Nat → Int32) (F : Nat → Int32) h lv5, n ≤ k → sp_ok P → mo_I tt (sy_set S P) A F B → F 4 = nI 0 → ev_go (T - k) P (F 24) n = R → mo_W h0 A F B h → nd_W g mX7_evening d 0 0 K X 33 [some (.ref 101), some (.int x), some (.int (nI T)), some (.int (nI n)), some (.int (nI k)), lv5] [] h 0 0 := by
      refine nd_for _ _ ?_ ?_
      · intro P n A F h lv5 hnk hP hI e4 eR hw
        rw [Nat.sub_self] at eR
        refine nd_iload hC dX7_evening_33 rfl ?_
        refine nd_iload_n hC dX7_evening_35 rfl ?_
        first | with_reducible refine nd_icmp_geN hC (tgt := 82) (by omega) (by omega) dX7_evening_36 (by decide) (fun hc => ?_) (fun hc => ?_) | refine nd_icmp_ge hC (tgt := 82) dX7_evening_36 (by decide) (fun hc => ?_) (fun hc => ?_)
        · rw [← eR] at hk
          refine nd_iload_n hC dX7_evening_82 rfl ?_
          refine nd_ireturn hC rfl (by first | rfl | exact nd_b_nar _) (by omega) (by omega) dX7_evening_83 ((hk _ _ _ _ (hI.t (by omega)) e4 hw))
        · omega
      · intro k hk1 ih P n A F h lv5 hnk hP hI e4 eR hw
        have hS2 : sy_ok (sy_set S P) := sy_set_ok hS hP
        rw [show T - k = (T - (k + 1)) + 1 by omega] at eR
        unfold ev_go at eR
        refine nd_iload hC dX7_evening_33 rfl ?_
        refine nd_iload_n hC dX7_evening_35 rfl ?_
        first | with_reducible refine nd_icmp_geN hC (tgt := 82) (by omega) (by omega) dX7_evening_36 (by decide) (fun hc => ?_) (fun hc => ?_) | refine nd_icmp_ge hC (tgt := 82) dX7_evening_36 (by decide) (fun hc => ?_) (fun hc => ?_)
        · omega
        · refine nd_aload_n hC dX7_evening_39 rfl rfl ?_
          refine nd_aload_n hC dX7_evening_40 rfl rfl ?_
          refine nd_iconst hC (v := nI 4) (by rfl) dX7_evening_41 ?_
          refine mo_callV (As := [_]) (d2 := d - 1) hC hw rfl lkX7_410 lyX7_410 (Nat.le_of_ble_eq_true rfl) (by omega) rfl (by exact Nat.le_of_ble_eq_true rfl) (Nat.zero_le _) (Nat.zero_le _) dX7_evening_42 rfl ((sp_draw hg hw (by omega) (by omega) ?_))
          intro h2 hw
          have b4 : dr_v (F 24) % 4 < 4 := Nat.mod_lt _ (by decide)
          refine mo_callV (As := [_]) (d2 := d - 1) hC hw rfl lkX7_413 lyX7_413 (Nat.le_of_ble_eq_true rfl) (by omega) rfl (by exact Nat.le_of_ble_eq_true rfl) (Nat.zero_le _) (Nat.zero_le _) dX7_evening_45 rfl ((sp_drawn hg (by omega) hw b4 rfl (va_up_s _ _ _) ?_))
          intro h3 hw
          rw [va_up_up] at hw
          have hle := dr_deed_le (F 24)
          have hI3 := hI.uf (k := 24) (v := (dr_deed (F 24)).2) rfl
          have e43 : (va_up F 24 (dr_deed (F 24)).2) 4 = nI 0 := (va_up_n _ _ (by decide)).trans e4
          refine nd_istore hC dX7_evening_48 (Nat.le_of_ble_eq_true rfl) ?_
          refine nd_aload_n hC dX7_evening_50 rfl rfl ?_
          refine nd_iload hC dX7_evening_51 rfl ?_
          first | with_reducible refine nd_i2lN hC (by omega) dX7_evening_53 ?_ | refine nd_i2l hC dX7_evening_53 ?_
          refine mo_callV (As := [_]) (d2 := d - 1) hC hw rfl lkX7_395 lyX7_395 (Nat.le_of_ble_eq_true rfl) (by omega) rfl (by exact Nat.le_of_ble_eq_true rfl) (Nat.zero_le _) (Nat.zero_le _) dX7_evening_54 rfl ((sp_whyTold hg (by omega) hI3 hS2 hw _ ?_))
          intro A2 h2 kA hI4 e23 hw
          rw [lN_toInt (by omega)]
          have hle2 := dd_why_le P (dr_deed (F 24)).1
          generalize hd2 : dd_why (sy_p (sy_set S P)) ((dr_deed (F 24)).1 : Int) = dw
          have hd3 : dd_why P ((dr_deed (F 24)).1 : Int) = dw := hd2
          rw [hd3] at eR hle2
          first | with_reducible refine nd_if_eqB hC (tgt := 63) dX7_evening_57 (by decide) (fun hq => ?_) (fun hq => ?_) | with_reducible refine nd_if_eqN hC (tgt := 63) (by omega) dX7_evening_57 (by decide) (fun hq => ?_) (fun hq => ?_) | refine nd_if_eq hC (tgt := 63) dX7_evening_57 (by decide) (fun hq => ?_) (fun hq => ?_)
          · have hq : dw = 0 := by omega
            rw [if_pos hq] at eR
            rw [hq] at hd2 hd3
            have hs3 := dd_ok hP hd3
            refine nd_aload_n hC dX7_evening_63 rfl rfl ?_
            refine mo_callV (As := []) (d2 := d - 1) hC hw rfl lkX7_362 lyX7_362 (Nat.le_of_ble_eq_true rfl) (by omega) rfl (by exact Nat.le_of_ble_eq_true rfl) (Nat.zero_le _) (Nat.zero_le _) dX7_evening_64 rfl ((sp_keepsS hg hI4 hS2 hw ?_))
            intro f3 h3 hkn hI5 hw
            have hS3 : sy_ok (sy_set S (sy_kp (sy_set S P))) := sy_set_ok hS (sy_kp_ok hS2)
            refine nd_aload_n hC dX7_evening_67 rfl rfl ?_
            refine nd_iload hC dX7_evening_68 rfl ?_
            refine mo_callV (As := [_]) (d2 := d - 1) hC hw rfl lkX7_398 lyX7_398 (Nat.le_of_ble_eq_true rfl) (by omega) rfl (by exact Nat.le_of_ble_eq_true rfl) (Nat.zero_le _) (Nat.zero_le _) dX7_evening_70 rfl ((sp_does hg (by omega) hI5 hS3 hw (by rw [nI_toInt (by omega)]; exact hd2) ?_))
            intro f4 h4 hI6 hw
            rw [nI_toInt (by omega)] at hI6
            first | with_reducible refine nd_iincN hC dX7_evening_73 rfl (Nat.le_of_ble_eq_true rfl) ?_ | refine nd_iinc hC dX7_evening_73 rfl rfl (Nat.le_of_ble_eq_true rfl) ?_
            first | with_reducible refine nd_iincN hC dX7_evening_76 rfl (Nat.le_of_ble_eq_true rfl) ?_ | refine nd_iinc hC dX7_evening_76 rfl rfl (Nat.le_of_ble_eq_true rfl) ?_
            refine nd_goto hC (tgt := 33) dX7_evening_79 (by decide) ?_
            have hP4 : sp_ok (P.1, dd_do P.2.1 ((dr_deed (F 24)).1 : Int), sv_keep P.2.2 P.2.1) := ⟨hP.1, hs3, (sy_kp_ok hS2).2.2⟩
            exact ih _ (n + 1) _ _ _ _ (by omega) hP4 hI6 e43 (by rw [va_up_s]; exact eR) hw
          · rw [if_neg hq] at eR
            refine nd_goto hC (tgt := 76) dX7_evening_60 (by decide) ?_
            first | with_reducible refine nd_iincN hC dX7_evening_76 rfl (Nat.le_of_ble_eq_true rfl) ?_ | refine nd_iinc hC dX7_evening_76 rfl rfl (Nat.le_of_ble_eq_true rfl) ?_
            refine nd_goto hC (tgt := 33) dX7_evening_79 (by decide) ?_
            exact ih P n _ _ _ _ (by omega) hP hI4 e43 (by rw [va_up_s]; exact eR) hw
    exact L 0 (Nat.zero_le _) (sy_p S) 0 A _ h _ (by omega) hS.1 ((hI.th.uf (k := 24) (v := x) rfl)) ((va_up_n _ _ (by decide)).trans (va_up_s _ _ _)) (by rw [va_up_s]; exact hR) hw
  · rw [if_neg (by rw [hc]; decide)] at hk
    refine nd_aload_n hC dX7_evening_17 rfl rfl ?_
    refine nd_iconst hC (v := nI 1) (by rfl) dX7_evening_18 ?_
    refine mo_callV (As := [_]) (d2 := d - 1) hC hw rfl lkX7_244 lyX7_244 (Nat.le_of_ble_eq_true rfl) (by omega) rfl (by exact Nat.le_of_ble_eq_true rfl) (Nat.zero_le _) (Nat.zero_le _) dX7_evening_19 rfl ((sp_fails hg hw (fun h3 hw => ?_)))
    refine nd_ireturn hC rfl (by first | rfl | exact nd_b_nar _) (by omega) (by omega) dX7_evening_22 ((hk A _ _ h3 (hI.th.th.t (by omega)) (va_up_s _ _ _) hw))
end MO33

