set_option maxRecDepth 100000
theorem mo_I.nap {tt : Nat} {S S2 : sy_S} {A A2 : Nat → Nat → Int32} {F F2 : Nat → Int32} {B : Nat → Nat → Int64} (h : mo_I tt S A F B) (e1 : sy_i S2 = sy_i S) (e2 : sy_t S2 = sy_t S) (hA : ∀ k, (k = 2 ∨ k = 3 ∨ k = 36 ∨ k = 40 ∨ k = 41) → A2 k = A k) (h37 : F2 37 = F 37) (hk : mo_kn (A2 0) (sy_p S2)) (h6 : F2 6 = nI (sy_b S2).length) (h5 : ∀ i, i < (sy_b S2).length → A2 5 i = nI ((sy_b S2).getD i 0)) (h14 : F2 14 = nI (sy_fk S2)) (h15 : F2 15 = sy_fp S2) : mo_I tt S2 A2 F2 B := by
  obtain ⟨i1, i2, i3, i4, i5, i6, i7, i8⟩ := h
  unfold mo_tr at i3
  unfold mo_I mo_tr
  rw [e1, e2, hA 2 (by omega), hA 3 (by omega), hA 36 (by omega), hA 40 (by omega), hA 41 (by omega), h37]
  exact ⟨hk, i2, i3, h6, h5, h14, h15, i8⟩
theorem tx_kn_0 {f : Nat → Int32} (h : ∀ j, j < 2912 → f j = nI 0) : tx_kn f tx_0 := by
  refine ⟨⟨h 0 (by omega), h 1 (by omega), h 2 (by omega), fun i hi => absurd hi (Nat.not_lt_zero _), ⟨h 3 (by omega), fun i hi => absurd hi (Nat.not_lt_zero _)⟩, ⟨h 4 (by omega), fun i hi => absurd hi (Nat.not_lt_zero _)⟩, ⟨h 5 (by omega), fun i hi => absurd hi (Nat.not_lt_zero _)⟩⟩, ⟨h 7 (by omega), fun i hi => absurd hi (Nat.not_lt_zero _), fun i hi => absurd hi (Nat.not_lt_zero _), fun i hi => absurd hi (Nat.not_lt_zero _)⟩, h 6 (by omega), fun i hi => absurd hi (Nat.not_lt_zero _)⟩
theorem l_take_getD {xs : List Nat} {n i : Nat} (h : i < n) : (xs.take n).getD i 0 = xs.getD i 0 := by
  rw [List.getD_eq_getElem?_getD, List.getD_eq_getElem?_getD, List.getElem?_take_of_lt h]
theorem l_take_by {xs : List Nat} {n : Nat} (h : ∀ i, xs.getD i 0 < 256) (i : Nat) : (xs.take n).getD i 0 < 256 := by
  by_cases c : i < n
  · rw [l_take_getD c]; exact h i
  · rw [List.getD_eq_getElem?_getD, List.getElem?_eq_none (by rw [List.length_take]; omega)]; decide
section RT8
variable {g : nd_G} {d : Nat} {h0 : nd_H}
theorem mp_napkin (hg : nd_OK g) (hd : 62 ≤ d) (x : Int32) : mp_ok g h0 mX7_napkin d [.int x] (mp_i (op_napkin x)) := by
  intro tt S A F B h K ht hI hS hw hk
  have h900 : (sy_b S).length ≤ 900 := hS.2.2.2.1
  have e6 : F 6 = nI (sy_b S).length := hI.2.2.2.1
  unfold mp_i op_napkin at hk
  refine nd_enter hg (by decide) rfl (Nat.le_of_ble_eq_true rfl) (fun X hC => ?_)
  refine nd_aload_n hC dX7_napkin_0 rfl rfl ?_
  refine nd_iconst hC (v := nI 0) (by rfl) dX7_napkin_1 ?_
  refine mo_put_thrown hC hw rfl dX7_napkin_2 (fun h hw => ?_)
  refine nd_iload_n hC dX7_napkin_5 rfl ?_
  first | with_reducible refine nd_i2lN hC (by omega) dX7_napkin_6 ?_ | refine nd_i2l hC dX7_napkin_6 ?_
  refine nd_lconst hC (v := lN 0) (by rfl) dX7_napkin_7 ?_
  refine nd_aload_n hC dX7_napkin_8 rfl rfl ?_
  refine mo_get_taped hC hw rfl dX7_napkin_9 ?_
  refine nd_v_eq (congrArg Value.int (e6)) ?_
  first | with_reducible refine nd_i2lN hC (by omega) dX7_napkin_12 ?_ | refine nd_i2l hC dX7_napkin_12 ?_
  refine mo_callS (As := [_, _, _]) (d2 := d - 1) hC rfl lkX7_138 lyX7_138 (Nat.le_of_ble_eq_true rfl) (by omega) rfl (by exact Nat.le_of_ble_eq_true rfl) (Nat.zero_le _) (Nat.zero_le _) dX7_napkin_13 rfl ((sp_within hg ?_))
  have e : (decide (lN 0 ≤ x.toInt64) && decide (x.toInt64 ≤ lN (sy_b S).length)) = op_in x 0 ((sy_b S).length : Int) := by
    unfold op_in
    rw [Bool.eq_iff_iff, Bool.and_eq_true, nd_lle, nd_lle, nd_tl, lN_toInt (by omega), lN_toInt (by omega), decide_eq_true_iff]
    exact Iff.rfl
  rw [e]
  first | with_reducible refine nd_if_neB hC (tgt := 25) dX7_napkin_16 (by decide) (fun hc => ?_) (fun hc => ?_) | with_reducible refine nd_if_neN hC (tgt := 25) (by omega) dX7_napkin_16 (by decide) (fun hc => ?_) (fun hc => ?_) | refine nd_if_ne hC (tgt := 25) dX7_napkin_16 (by decide) (fun hc => ?_) (fun hc => ?_)
  · rw [if_pos hc] at hk
    obtain ⟨n, hn, rfl⟩ := op_in_nat hc
    rw [nI_cl (by omega)] at hk
    have eT : ((sy_b S).take n).length = n := by rw [List.length_take]; omega
    have hTp : ∀ A2 : Nat → Nat → Int32, (∀ k, k ≠ 1 → A2 k = A k) → tx_tp A2 ((sy_b S).take n) := by
      intro A2 hA
      refine ⟨by omega, fun i hi => ?_, l_take_by hS.2.2.2.2.1⟩
      rw [hA 5 (by omega), l_take_getD (by omega)]
      exact hI.2.2.2.2.1 i (by omega)
    have hro := tx_read_ok (T := (sy_b S).take n) (by omega)
    unfold op_napT at hk
    generalize eTT : (sy_b S).take n = T at *
    refine nd_aload_n hC dX7_napkin_25 rfl rfl ?_
    refine nd_iload_n hC dX7_napkin_26 rfl ?_
    refine mo_put_length hC hw rfl dX7_napkin_27 (fun h hw => ?_)
    refine nd_aload_n hC dX7_napkin_30 rfl rfl ?_
    refine nd_iconst hC (v := nI 0) (by rfl) dX7_napkin_31 ?_
    refine mo_put_taped hC hw rfl dX7_napkin_32 (fun h hw => ?_)
    refine nd_aload_n hC dX7_napkin_35 rfl rfl ?_
    refine nd_iconst hC (v := nI 0) (by rfl) dX7_napkin_36 ?_
    refine mo_put_head hC hw rfl dX7_napkin_37 (fun h hw => ?_)
    refine nd_aload_n hC dX7_napkin_40 rfl rfl ?_
    refine nd_iconst hC (v := nI 0) (by rfl) dX7_napkin_41 ?_
    refine mo_put_bad hC hw rfl dX7_napkin_42 (fun h hw => ?_)
    refine nd_aload_n hC dX7_napkin_45 rfl rfl ?_
    refine nd_iconst hC (v := nI 0) (by rfl) dX7_napkin_46 ?_
    refine mo_put_deep hC hw rfl dX7_napkin_47 (fun h hw => ?_)
    refine nd_iconst hC (v := nI 0) (by rfl) dX7_napkin_50 ?_
    refine nd_istore_n hC dX7_napkin_51 (Nat.le_of_ble_eq_true rfl) ?_
    generalize eF : va_up (va_up (va_up (va_up (va_up (va_up F 4 (nI 0)) 7 (nI n)) 6 (nI 0)) 8 (nI 0)) 12 (nI 0)) 16 (nI 0) = F1 at hw
    have g4 : F1 4 = nI 0 := by rw [← eF]; rfl
    have g6 : F1 6 = nI 0 := by rw [← eF]; rfl
    have g7 : F1 7 = nI n := by rw [← eF]; rfl
    have g8 : F1 8 = nI 0 := by rw [← eF]; rfl
    have g12 : F1 12 = nI 0 := by rw [← eF]; rfl
    have g16 : F1 16 = nI 0 := by rw [← eF]; rfl
    have g37 : F1 37 = F 37 := by rw [← eF]; rfl
    clear eF
    have JE : ∀ (e : Nat × Nat) A4 F4 h4, mo_W h0 A4 F4 B h4 → (∀ k, k ≠ 1 → A4 k = A k) → tx_u F1 F4 → tx_Z T 0 (.inr e) F4 → tx_read T = .inr e → nd_W g mX7_napkin d 0 0 K X 97 [some (.ref 101), some (.int (nI n)), some (.int (nI 2912))] [] h4 0 0 := by
      intro e A4 F4 h4 hw frA frF hZ er
      obtain ⟨z1, z2, z3, z4⟩ := hZ
      rw [er] at hk
      refine nd_aload_n hC dX7_napkin_97 rfl rfl ?_
      refine nd_aload_n hC dX7_napkin_98 rfl rfl ?_
      refine mo_get_bad hC hw rfl dX7_napkin_99 ?_
      refine nd_v_eq (congrArg Value.int (z1)) ?_
      refine mo_put_faultKind hC hw rfl dX7_napkin_102 (fun h hw => ?_)
      refine nd_aload_n hC dX7_napkin_105 rfl rfl ?_
      refine nd_aload_n hC dX7_napkin_106 rfl rfl ?_
      refine mo_get_bad hC hw rfl dX7_napkin_107 ?_
      refine nd_v_eq (congrArg Value.int (z1)) ?_
      first | with_reducible refine nd_if_neB hC (tgt := 117) dX7_napkin_110 (by decide) (fun hq => ?_) (fun hq => ?_) | with_reducible refine nd_if_neN hC (tgt := 117) (by omega) dX7_napkin_110 (by decide) (fun hq => ?_) (fun hq => ?_) | refine nd_if_ne hC (tgt := 117) dX7_napkin_110 (by decide) (fun hq => ?_) (fun hq => ?_)
      · refine nd_aload_n hC dX7_napkin_117 rfl rfl ?_
        refine mo_get_badPlace hC hw rfl dX7_napkin_118 ?_
        refine nd_v_eq (congrArg Value.int (z2)) ?_
        refine mo_put_faultPlace hC hw rfl dX7_napkin_121 (fun h hw => ?_)
        refine nd_aload_n hC dX7_napkin_124 rfl rfl ?_
        refine mo_get_bad hC hw rfl dX7_napkin_125 ?_
        refine nd_v_eq (congrArg Value.int (z1)) ?_
        first | with_reducible refine nd_if_eqB hC (tgt := 139) dX7_napkin_128 (by decide) (fun hq2 => ?_) (fun hq2 => ?_) | with_reducible refine nd_if_eqN hC (tgt := 139) (by omega) dX7_napkin_128 (by decide) (fun hq2 => ?_) (fun hq2 => ?_) | refine nd_if_eq hC (tgt := 139) dX7_napkin_128 (by decide) (fun hq2 => ?_) (fun hq2 => ?_)
        · omega
        · refine nd_bipush hC (v := -10) (by rfl) dX7_napkin_131 ?_
          refine nd_aload_n hC dX7_napkin_133 rfl rfl ?_
          refine mo_get_bad hC hw rfl dX7_napkin_134 ?_
          refine nd_v_eq (congrArg Value.int (z1)) ?_
          first | with_reducible refine nd_isubN hC (by omega) dX7_napkin_137 ?_ | refine nd_isub hC dX7_napkin_137 ?_
          refine nd_ireturn hC rfl rfl (by omega) (by omega) dX7_napkin_138 (hk A4 _ B h ?_ ?_ hw)
          · refine (hI.t (by omega)).nap rfl rfl (fun k hk => frA k (by omega)) ?_ (by show mo_kn (A4 0) S.1; rw [frA 0 (by omega)]; exact hI.1) ?_ (fun i hi => absurd hi (Nat.not_lt_zero _)) rfl rfl
            · exact (frF 37 (by omega)).trans g37
            · exact (frF 6 (by omega)).trans g6
          · exact (frF 4 (by omega)).trans g4
      · omega
    have JG : ∀ N A4 F4 h4, mo_W h0 A4 F4 B h4 → (∀ k, k ≠ 1 → A4 k = A k) → tx_u F1 F4 → F4 12 = nI 0 → tx_kn (A4 1) N → tx_read T = .inl N → nd_W g mX7_napkin d 0 0 K X 97 [some (.ref 101), some (.int (nI n)), some (.int (nI 2912))] [] h4 0 0 := by
      intro N A4 F4 h4 hw frA frF z12 hkn er
      rw [er] at hk hro
      refine nd_aload_n hC dX7_napkin_97 rfl rfl ?_
      refine nd_aload_n hC dX7_napkin_98 rfl rfl ?_
      refine mo_get_bad hC hw rfl dX7_napkin_99 ?_
      refine nd_v_eq (congrArg Value.int (z12)) ?_
      refine mo_put_faultKind hC hw rfl dX7_napkin_102 (fun h hw => ?_)
      refine nd_aload_n hC dX7_napkin_105 rfl rfl ?_
      refine nd_aload_n hC dX7_napkin_106 rfl rfl ?_
      refine mo_get_bad hC hw rfl dX7_napkin_107 ?_
      refine nd_v_eq (congrArg Value.int (z12)) ?_
      first | with_reducible refine nd_if_neB hC (tgt := 117) dX7_napkin_110 (by decide) (fun hq => ?_) (fun hq => ?_) | with_reducible refine nd_if_neN hC (tgt := 117) (by omega) dX7_napkin_110 (by decide) (fun hq => ?_) (fun hq => ?_) | refine nd_if_ne hC (tgt := 117) dX7_napkin_110 (by decide) (fun hq => ?_) (fun hq => ?_)
      · exact absurd rfl hq
      · refine nd_iconst hC (v := -1) (by rfl) dX7_napkin_113 ?_
        refine nd_goto hC (tgt := 121) dX7_napkin_114 (by decide) ?_
        refine mo_put_faultPlace hC hw rfl dX7_napkin_121 (fun h hw => ?_)
        refine nd_aload_n hC dX7_napkin_124 rfl rfl ?_
        refine mo_get_bad hC hw rfl dX7_napkin_125 ?_
        refine nd_v_eq (congrArg Value.int (z12)) ?_
        first | with_reducible refine nd_if_eqB hC (tgt := 139) dX7_napkin_128 (by decide) (fun hq2 => ?_) (fun hq2 => ?_) | with_reducible refine nd_if_eqN hC (tgt := 139) (by omega) dX7_napkin_128 (by decide) (fun hq2 => ?_) (fun hq2 => ?_) | refine nd_if_eq hC (tgt := 139) dX7_napkin_128 (by decide) (fun hq2 => ?_) (fun hq2 => ?_)
        · refine nd_iconst hC (v := nI 0) (by rfl) dX7_napkin_139 ?_
          refine nd_istore_n hC dX7_napkin_140 (Nat.le_of_ble_eq_true rfl) ?_
          have L : ∀ k, k ≤ 2912 → ∀ f2 h2, (∀ j, j < k → f2 j = A4 1 j) → mo_W h0 (va_up A4 0 f2) (va_up (va_up F4 14 (nI 0)) 15 (-1)) B h2 → nd_W g mX7_napkin d 0 0 K X 141 [some (.ref 101), some (.int (nI n)), some (.int (nI k))] [] h2 0 0 := by
            refine nd_for _ _ ?_ ?_
            · intro f2 h e1 hw
              have hk2 := mo_kn_congr (tx_nk_ok hro.1 hro.2) hkn e1
              refine nd_iload_n hC dX7_napkin_141 rfl ?_
              refine nd_sipush hC (v := nI 2912) (by rfl) dX7_napkin_142 ?_
              first | with_reducible refine nd_icmp_geN hC (tgt := 166) (by omega) (by omega) dX7_napkin_145 (by decide) (fun hq => ?_) (fun hq => ?_) | refine nd_icmp_ge hC (tgt := 166) dX7_napkin_145 (by decide) (fun hq => ?_) (fun hq => ?_)
              · refine nd_aload_n hC dX7_napkin_166 rfl rfl ?_
                refine mo_get_known hC hw rfl dX7_napkin_167 ?_
                refine nd_iconst hC (v := nI 0) (by rfl) dX7_napkin_170 ?_
                refine nd_ialoadN hC hw.known (by omega) (by decide) dX7_napkin_171 ?_
                refine nd_v_eq (congrArg Value.int (hk2.1.1)) ?_
                refine nd_ireturn hC rfl rfl (by omega) (by omega) dX7_napkin_172 (hk _ _ B h ?_ ?_ hw)
                · refine (hI.t (by omega)).nap rfl rfl (fun k hk => by rw [va_up_n _ _ (by omega)]; exact frA k (by omega)) ?_ hk2 ?_ (fun i hi => absurd hi (Nat.not_lt_zero _)) rfl rfl
                  · exact (frF 37 (by omega)).trans g37
                  · exact (frF 6 (by omega)).trans g6
                · exact (frF 4 (by omega)).trans g4
              · omega
            · intro k hk1 ih f2 h e1 hw
              refine nd_iload_n hC dX7_napkin_141 rfl ?_
              refine nd_sipush hC (v := nI 2912) (by rfl) dX7_napkin_142 ?_
              first | with_reducible refine nd_icmp_geN hC (tgt := 166) (by omega) (by omega) dX7_napkin_145 (by decide) (fun hq => ?_) (fun hq => ?_) | refine nd_icmp_ge hC (tgt := 166) dX7_napkin_145 (by decide) (fun hq => ?_) (fun hq => ?_)
              · omega
              · refine nd_aload_n hC dX7_napkin_148 rfl rfl ?_
                refine mo_get_known hC hw rfl dX7_napkin_149 ?_
                refine nd_iload_n hC dX7_napkin_152 rfl ?_
                refine nd_aload_n hC dX7_napkin_153 rfl rfl ?_
                refine mo_get_telling hC hw rfl dX7_napkin_154 ?_
                refine nd_iload_n hC dX7_napkin_157 rfl ?_
                refine nd_ialoadN hC hw.telling (by omega) (by decide) dX7_napkin_158 ?_
                refine mo_ast_known hC hw (by omega) dX7_napkin_159 (fun h hw => ?_)
                try simp only [va_up_up, va_up_s] at hw
                first | with_reducible refine nd_iincN hC dX7_napkin_160 rfl (Nat.le_of_ble_eq_true rfl) ?_ | refine nd_iinc hC dX7_napkin_160 rfl rfl (Nat.le_of_ble_eq_true rfl) ?_
                refine nd_goto hC (tgt := 141) dX7_napkin_163 (by decide) ?_
                refine ih _ h (fun j hj => ?_) hw
                by_cases e : j = k
                · subst e; rw [upd_s]; rfl
                · rw [upd_n (by omega)]; exact e1 j (by omega)
          exact L 0 (Nat.zero_le _) (A4 0) h (fun i hi => absurd hi (Nat.not_lt_zero _)) (by rw [va_up_id]; exact hw)
        · exact absurd rfl hq2
    have L2 : ∀ fu N p A4 F4 h4, T.length < p + fu → p ≤ T.length → tx_NI N → N.2.2.2.1 ≤ p → mo_W h0 A4 F4 B h4 → (∀ k, k ≠ 1 → A4 k = A k) → tx_u F1 F4 → tx_F T p 0 F4 → tx_kn (A4 1) N → tx_read T = tx_all T fu N p → nd_W g mX7_napkin d 0 0 K X 76 [some (.ref 101), some (.int (nI n)), some (.int (nI 2912))] [] h4 0 0 := by
      intro fu
      induction fu with
      | zero => intro N p A4 F4 h4 hf hp; omega
      | succ fu ih =>
        intro N p A4 F4 h4 hf hp hN hl hw frA frF hF hkn er
        have hkl := tx_k_lt T p
        have hZ : tx_Z T 0 (.inl ([], p)) F4 := hF
        obtain ⟨f7, f8, f9, f10, f11, f12, f16⟩ := id hF
        rw [tx_all] at er
        refine nd_aload_n hC dX7_napkin_76 rfl rfl ?_
        refine mo_get_bad hC hw rfl dX7_napkin_77 ?_
        refine nd_v_eq (congrArg Value.int (f12)) ?_
        first | with_reducible refine nd_if_neB hC (tgt := 97) dX7_napkin_80 (by decide) (fun hq => ?_) (fun hq => ?_) | with_reducible refine nd_if_neN hC (tgt := 97) (by omega) dX7_napkin_80 (by decide) (fun hq => ?_) (fun hq => ?_) | refine nd_if_ne hC (tgt := 97) dX7_napkin_80 (by decide) (fun hq => ?_) (fun hq => ?_)
        · exact absurd rfl hq
        · refine nd_aload_n hC dX7_napkin_83 rfl rfl ?_
          refine mo_get_token hC hw rfl dX7_napkin_84 ?_
          refine nd_v_eq (congrArg Value.int (f10)) ?_
          first | with_reducible refine nd_if_eqB hC (tgt := 97) dX7_napkin_87 (by decide) (fun hz => ?_) (fun hz => ?_) | with_reducible refine nd_if_eqN hC (tgt := 97) (by omega) dX7_napkin_87 (by decide) (fun hz => ?_) (fun hz => ?_) | refine nd_if_eq hC (tgt := 97) dX7_napkin_87 (by decide) (fun hz => ?_) (fun hz => ?_)
          · rw [if_pos hz] at er
            exact JG N A4 F4 h4 hw frA frF f12 hkn er
          · rw [if_neg hz] at er
            refine nd_aload_n hC dX7_napkin_90 rfl rfl ?_
            refine mo_callV (As := []) (d2 := d - 1) hC hw rfl lkX7_247 lyX7_247 (Nat.le_of_ble_eq_true rfl) (by omega) rfl (by exact Nat.le_of_ble_eq_true rfl) (Nat.zero_le _) (Nat.zero_le _) dX7_napkin_91 rfl ((sr_line hg (by omega) hw (hTp A4 frA) hp hZ hN hl hkn (fun A5 F5 h5 hw fr5A fr5 hLZ => ?_)))
            refine nd_goto hC (tgt := 76) dX7_napkin_94 (by decide) ?_
            cases e1 : tx_line T N p with
            | inr e =>
              rw [e1] at hLZ er
              have hLZ2 : tx_Z T 0 (.inr e) F5 := hLZ
              have z1 := hLZ2.1
              have z34 := hLZ2.2.2
              refine nd_aload_n hC dX7_napkin_76 rfl rfl ?_
              refine mo_get_bad hC hw rfl dX7_napkin_77 ?_
              refine nd_v_eq (congrArg Value.int (z1)) ?_
              first | with_reducible refine nd_if_neB hC (tgt := 97) dX7_napkin_80 (by decide) (fun hq2 => ?_) (fun hq2 => ?_) | with_reducible refine nd_if_neN hC (tgt := 97) (by omega) dX7_napkin_80 (by decide) (fun hq2 => ?_) (fun hq2 => ?_) | refine nd_if_ne hC (tgt := 97) dX7_napkin_80 (by decide) (fun hq2 => ?_) (fun hq2 => ?_)
              · exact JE e A5 F5 h5 hw (tx_k1 frA fr5A) (frF.trans fr5) hLZ2 er
              · omega
            | inl y =>
              rw [e1] at hLZ er
              obtain ⟨a1, a2, a3, a4⟩ := tx_NI_line (by omega) hp hN e1
              exact ih y.1 y.2 A5 F5 h5 (by omega) a3 a1 (by omega) hw (tx_k1 frA fr5A) (frF.trans fr5) hLZ.1 hLZ.2 er
    have L1 : ∀ k, k ≤ 2912 → ∀ f1 h, (∀ j, j < k → f1 j = nI 0) → mo_W h0 (va_up A 1 f1) F1 B h → nd_W g mX7_napkin d 0 0 K X 52 [some (.ref 101), some (.int (nI n)), some (.int (nI k))] [] h 0 0 := by
      refine nd_for _ _ ?_ ?_
      · intro f1 h e1 hw
        refine nd_iload_n hC dX7_napkin_52 rfl ?_
        refine nd_sipush hC (v := nI 2912) (by rfl) dX7_napkin_53 ?_
        first | with_reducible refine nd_icmp_geN hC (tgt := 72) (by omega) (by omega) dX7_napkin_56 (by decide) (fun hq => ?_) (fun hq => ?_) | refine nd_icmp_ge hC (tgt := 72) dX7_napkin_56 (by decide) (fun hq => ?_) (fun hq => ?_)
        · have hA1 : ∀ k, k ≠ 1 → (va_up A 1 f1) k = A k := fun k hk => va_up_n _ _ hk
          refine nd_aload_n hC dX7_napkin_72 rfl rfl ?_
          refine mo_callV (As := []) (d2 := d - 1) hC hw rfl lkX7_131 lyX7_131 (Nat.le_of_ble_eq_true rfl) (by omega) rfl (by exact Nat.le_of_ble_eq_true rfl) (Nat.zero_le _) (Nat.zero_le _) dX7_napkin_73 rfl ((sr_on (T := T) (p := 0) (dp := 0) hg (by omega) hw (hTp _ hA1) (Nat.zero_le _) (by rw [g7, eT]) g8 g12 g16 (fun F2 h2 hw fr hF => ?_)))
          exact L2 (T.length + 1) tx_0 0 _ F2 h2 (by omega) (Nat.zero_le _) tx_0_ok (Nat.zero_le _) hw hA1 (tx_y.on fr).u hF (by rw [va_up_s]; exact tx_kn_0 e1) rfl
        · omega
      · intro k hk1 ih f1 h e1 hw
        refine nd_iload_n hC dX7_napkin_52 rfl ?_
        refine nd_sipush hC (v := nI 2912) (by rfl) dX7_napkin_53 ?_
        first | with_reducible refine nd_icmp_geN hC (tgt := 72) (by omega) (by omega) dX7_napkin_56 (by decide) (fun hq => ?_) (fun hq => ?_) | refine nd_icmp_ge hC (tgt := 72) dX7_napkin_56 (by decide) (fun hq => ?_) (fun hq => ?_)
        · omega
        · refine nd_aload_n hC dX7_napkin_59 rfl rfl ?_
          refine mo_get_telling hC hw rfl dX7_napkin_60 ?_
          refine nd_iload_n hC dX7_napkin_63 rfl ?_
          refine nd_iconst hC (v := nI 0) (by rfl) dX7_napkin_64 ?_
          refine mo_ast_telling hC hw (by omega) dX7_napkin_65 (fun h hw => ?_)
          try simp only [va_up_up, va_up_s] at hw
          first | with_reducible refine nd_iincN hC dX7_napkin_66 rfl (Nat.le_of_ble_eq_true rfl) ?_ | refine nd_iinc hC dX7_napkin_66 rfl rfl (Nat.le_of_ble_eq_true rfl) ?_
          refine nd_goto hC (tgt := 52) dX7_napkin_69 (by decide) ?_
          refine ih _ h (fun j hj => ?_) hw
          by_cases e : j = k
          · subst e; rw [upd_s]
          · rw [upd_n (by omega)]; exact e1 j (by omega)
    exact L1 0 (Nat.zero_le _) (A 1) h (fun i hi => absurd hi (Nat.not_lt_zero _)) (by rw [va_up_id]; exact hw)
  · rw [if_neg (by rw [hc]; decide)] at hk
    refine nd_aload_n hC dX7_napkin_19 rfl rfl ?_
    refine nd_iconst hC (v := nI 1) (by rfl) dX7_napkin_20 ?_
    refine mo_callV (As := [_]) (d2 := d - 1) hC hw rfl lkX7_244 lyX7_244 (Nat.le_of_ble_eq_true rfl) (by omega) rfl (by exact Nat.le_of_ble_eq_true rfl) (Nat.zero_le _) (Nat.zero_le _) dX7_napkin_21 rfl ((sp_fails hg hw (fun h3 hw3 => ?_)))
    refine nd_ireturn hC rfl (by first | rfl | exact nd_b_nar _) (by omega) (by omega) dX7_napkin_24 ((hk A _ _ h3 (hI.th.th.t (by omega)) (va_up_s _ _ _) hw3))
end RT8

