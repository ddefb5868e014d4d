set_option maxRecDepth 100000
theorem l_take_snoc {s : List Nat} {k : Nat} (h : k < s.length) : s.take (k + 1) = s.take k ++ [s.getD k 0] := by
  rw [List.take_succ, List.getD_eq_getElem?_getD, List.getElem?_eq_getElem h]; rfl
theorem lk_flat_get {n t : Nat} (h : t < n) : (lk_flat n).getD t [] = [2 * t + 1] := by
  simp [lk_flat, List.getD_eq_getElem?_getD, h]
theorem lk_flat_length (n : Nat) : (lk_flat n).length = n := by simp [lk_flat]
section CL2
variable {g : nd_G} {d : Nat} {K : nd_K} {h0 : nd_H} {L M n : Nat} {l : List (List Nat)}
theorem cl_flat (hg : nd_OK g) (hL : ck_any h0 L) (hn : n ≤ 6) (hk : ∀ h2, ck_fr L 9 h0 h2 → ck_lk h2 L (lk_flat n) → K (.inl (some (.ref L))) h2) : nd_M g mX4_flat d 0 0 [.ref L, .int (nI n)] h0 K := by
  obtain ⟨w, hi, co, hL⟩ := hL
  have hF : ck_fr L 9 h0 h0 := ck_fr.rfl
  refine nd_enter hg (by decide) rfl (Nat.le_of_ble_eq_true rfl) (fun X hC => ?_)
  refine nd_aload_n hC dX4_flat_0 rfl rfl ?_
  refine nd_iload_n hC dX4_flat_1 rfl ?_
  refine cl_put_w hC hL q341 dX4_flat_2 (fun h hL fr => ?_)
  have hF := hF.trans fr
  refine nd_iconst hC (v := nI 0) (by rfl) dX4_flat_5 ?_
  refine nd_istore_n hC dX4_flat_6 (Nat.le_of_ble_eq_true rfl) ?_
  have L1 : ∀ c, c ≤ n → ∀ hi1 co1 h1, cw_L h1 L (nI n) hi1 co1 → ck_fr L 9 h0 h1 → (∀ j, j < c → ck_cl hi1 co1 j [2 * j + 1]) → nd_W g mX4_flat d 0 0 K X 7 [some (.ref L), some (.int (nI n)), some (.int (nI c))] [] h1 0 0 := by
    refine nd_for _ _ ?_ ?_
    · intro hi1 co1 h hL hF hc
      refine nd_iload_n hC dX4_flat_7 rfl ?_
      refine nd_iload_n hC dX4_flat_8 rfl ?_
      first | with_reducible refine nd_icmp_geN hC (tgt := 38) (by omega) (by omega) dX4_flat_9 (by decide) (fun hq => ?_) (fun hq => ?_) | refine nd_icmp_ge hC (tgt := 38) dX4_flat_9 (by decide) (fun hq => ?_) (fun hq => ?_)
      · refine nd_aload_n hC dX4_flat_38 rfl rfl ?_
        refine nd_areturn hC rfl (by first | exact Or.inl ⟨_, rfl⟩ | exact Or.inr ⟨_, rfl⟩) (by rfl) (by omega) (by omega) dX4_flat_39 ((hk h hF ⟨_, hi1, co1, hL, by rw [lk_flat_length], fun t ht => by rw [lk_flat_length] at ht; rw [lk_flat_get ht]; exact hc t ht⟩))
      · omega
    · intro c hc1 ih hi1 co1 h hL hF hc
      refine nd_iload_n hC dX4_flat_7 rfl ?_
      refine nd_iload_n hC dX4_flat_8 rfl ?_
      first | with_reducible refine nd_icmp_geN hC (tgt := 38) (by omega) (by omega) dX4_flat_9 (by decide) (fun hq => ?_) (fun hq => ?_) | refine nd_icmp_ge hC (tgt := 38) dX4_flat_9 (by decide) (fun hq => ?_) (fun hq => ?_)
      · omega
      · refine nd_aload_n hC dX4_flat_12 rfl rfl ?_
        refine nd_get (ci := nX4) hC in_X4 rfl hL.1 1 (by decide) q336 (fun _ z => z) rfl dX4_flat_13 ?_
        refine nd_iload_n hC dX4_flat_16 rfl ?_
        refine nd_iconst hC (v := nI 1) (by rfl) dX4_flat_17 ?_
        refine cl_ast_hi hC hL (by omega) dX4_flat_18 (fun h hL fr => ?_)
        have hF := hF.trans fr
        refine nd_aload_n hC dX4_flat_19 rfl rfl ?_
        refine nd_get (ci := nX4) hC in_X4 rfl hL.1 0 (by decide) q332 (fun _ z => z) rfl dX4_flat_20 ?_
        refine nd_iload_n hC dX4_flat_23 rfl ?_
        refine nd_aaloadN hC rfl rfl hL.2.1 (by omega) (by omega) dX4_flat_24 ?_
        refine nd_iconst hC (v := nI 0) (by rfl) dX4_flat_25 ?_
        refine nd_iconst hC (v := nI 2) (by rfl) dX4_flat_26 ?_
        refine nd_iload_n hC dX4_flat_27 rfl ?_
        first | with_reducible refine nd_imulN hC dX4_flat_28 ?_ | refine nd_imul hC dX4_flat_28 ?_
        refine nd_iconst hC (v := nI 1) (by rfl) dX4_flat_29 ?_
        first | with_reducible refine nd_iaddN hC dX4_flat_30 ?_ | refine nd_iadd hC dX4_flat_30 ?_
        refine cl_ast_co hC hL (by omega) (by omega) dX4_flat_31 (fun h hL fr => ?_)
        have hF := hF.trans fr
        first | with_reducible refine nd_iincN hC dX4_flat_32 rfl (Nat.le_of_ble_eq_true rfl) ?_ | refine nd_iinc hC dX4_flat_32 rfl rfl (Nat.le_of_ble_eq_true rfl) ?_
        refine nd_goto hC (tgt := 7) dX4_flat_35 (by decide) ?_
        refine ih _ _ h hL hF (fun j hj => ?_)
        by_cases e : j = c
        · subst e
          refine ⟨upd_s, fun i hi => ?_⟩
          have e0 : i = 0 := by simp at hi; exact hi
          subst e0
          rw [va_up_s, upd_s]; rfl
        · refine ⟨by rw [upd_n e]; exact (hc j (by omega)).1, fun i hi => ?_⟩
          rw [va_up_n _ _ e]; exact (hc j (by omega)).2 i hi
  exact L1 0 (Nat.zero_le _) hi co h hL hF (fun j hj => absurd hj (Nat.not_lt_zero _))
theorem cl_folded (hg : nd_OK g) (hd : 2 ≤ d) (hL : ck_any h0 L) (hM : ck_lk h0 M l) (hLM : L + 9 ≤ M ∨ M + 9 ≤ L) (hok : lk_ok n l) (hn : n ≤ 6) {line way : Nat} (h1 : 1 ≤ line) (h2 : line < l.length) (hw : way < 4) (hk : ∀ h2, ck_fr L 9 h0 h2 → ck_lk h2 L (lk_fold l line way) → K (.inl (some (.ref L))) h2) : nd_M g mX4_folded d 0 0 [.ref L, .ref M, .int (nI line), .int (nI way)] h0 K := by
  obtain ⟨w, hi, co, hL⟩ := hL
  obtain ⟨wM, hiM, coM, hM, rfl, hlc⟩ := hM
  have hwd := lk_width hok
  have hfl := lk_len hok
  have hM0 := hM
  have hF : ck_fr L 9 h0 h0 := ck_fr.rfl
  have hWdef : lk_wide l.length line = max line (l.length - line) := rfl
  refine nd_enter hg (by decide) rfl (Nat.le_of_ble_eq_true rfl) (fun X hC => ?_)
  refine nd_aload_n hC dX4_folded_0 rfl rfl ?_
  refine nd_iload_n hC dX4_folded_1 rfl ?_
  refine nd_aload_n hC dX4_folded_2 rfl rfl ?_
  refine nd_get (ci := nX4) hC in_X4 rfl hM.1 2 (by decide) q341 (fun _ z => z) rfl dX4_folded_3 ?_
  refine nd_iload_n hC dX4_folded_6 rfl ?_
  first | with_reducible refine nd_isubN hC (by omega) dX4_folded_7 ?_ | refine nd_isub hC dX4_folded_7 ?_
  first | ((with_reducible refine nd_tst2 ?_); refine nd_mmaxN hC (by omega) (by omega) q468 (by omega) (by omega) (by exact Nat.le_of_ble_eq_true rfl) dX4_folded_8 ?_) | refine nd_mmax hC q468 (by omega) (by omega) (by exact Nat.le_of_ble_eq_true rfl) dX4_folded_8 ?_
  refine cl_put_w hC hL q341 dX4_folded_11 (fun h hL fr => ?_)
  have hM := hM.fr fr (by omega)
  have hF := hF.trans fr
  refine nd_iconst hC (v := nI 0) (by rfl) dX4_folded_14 ?_
  refine nd_istore hC dX4_folded_15 (Nat.le_of_ble_eq_true rfl) ?_
  rw [← hWdef] at hL
  generalize hW : lk_wide l.length line = W at *
  have hW6 : W ≤ 6 := by omega
  have L1 : ∀ dd, dd ≤ W → ∀ hi1 co1 h1 lv5 lv6 lv7 lv8 lv9 lv10, cw_L h1 L (nI W) hi1 co1 → ck_fr L 9 h0 h1 → (∀ j, j < dd → ck_cl hi1 co1 (if way < 2 then j else W - 1 - j) (lk_ft l line way W (if way < 2 then j else W - 1 - j))) → nd_W g mX4_folded d 0 0 K X 17 [some (.ref L), some (.ref M), some (.int (nI line)), some (.int (nI way)), some (.int (nI dd)), lv5, lv6, lv7, lv8, lv9, lv10] [] h1 0 0 := by
    refine nd_for _ _ ?_ ?_
    · intro hi1 co1 h lv5 lv6 lv7 lv8 lv9 lv10 hL hF hc
      refine nd_iload hC dX4_folded_17 rfl ?_
      refine nd_aload_n hC dX4_folded_19 rfl rfl ?_
      refine nd_get (ci := nX4) hC in_X4 rfl hL.1 2 (by decide) q341 (fun _ z => z) rfl dX4_folded_20 ?_
      first | with_reducible refine nd_icmp_geN hC (tgt := 191) (by omega) (by omega) dX4_folded_23 (by decide) (fun hq => ?_) (fun hq => ?_) | refine nd_icmp_ge hC (tgt := 191) dX4_folded_23 (by decide) (fun hq => ?_) (fun hq => ?_)
      · refine nd_aload_n hC dX4_folded_191 rfl rfl ?_
        refine nd_areturn hC rfl (by exact Or.inl ⟨_, rfl⟩) (by rfl) (by omega) (by omega) dX4_folded_192 (hk h hF ⟨_, hi1, co1, hL, by rw [lk_fold_length, hW], fun t ht => ?_⟩)
        rw [lk_fold_length, hW] at ht
        rw [lk_fold_get _ _ _ (by rw [hW]; exact ht), hW]
        have := hc (if way < 2 then t else W - 1 - t) (by split <;> omega)
        have e : (if way < 2 then (if way < 2 then t else W - 1 - t) else W - 1 - (if way < 2 then t else W - 1 - t)) = t := by split <;> omega
        rw [e] at this
        exact this
      · omega
    · intro dd hdd ih hi1 co1 h lv5 lv6 lv7 lv8 lv9 lv10 hL hF hc
      have hM := hM0.fr hF (by omega)
      generalize hT : (if way < 2 then dd else W - 1 - dd) = t at *
      have ht6 : t < 6 := by rw [← hT]; split <;> omega
      have htW : t < W := by rw [← hT]; split <;> omega
      have ot : ∀ j, j < dd → (if way < 2 then j else W - 1 - j) ≠ t := by intro j hj; rw [← hT]; split <;> omega
      -- the two columns
      have fL : ck_from l (nI (line - 1) - nI dd) (if dd < line then l.getD (line - 1 - dd) [] else []) := by
        by_cases q : dd < line
        · rw [if_pos q]; exact Or.inl ⟨line - 1 - dd, by omega, pk_sub (by omega), rfl⟩
        · rw [if_neg q]; exact Or.inr ⟨by rw [Int32.lt_iff_toInt_lt, nd_ti (by omega) (by omega)]; show ((line - 1 : Nat) : Int) - dd < 0; omega, rfl⟩
      have hlen : (if dd < line then l.getD (line - 1 - dd) [] else []).length + (l.getD (line + dd) []).length ≤ 6 := by
        by_cases q : dd < line
        · rw [if_pos q]; have := lk_two l (line - 1 - dd) (line + dd) (by omega); omega
        · rw [if_neg q]; have := lk_one l (line + dd); simp only [List.length_nil]; omega
      have eft : lk_ft l line way W t = if way % 2 = 1 then lk_turn (if way < 2 then (if dd < line then l.getD (line - 1 - dd) [] else []) else l.getD (line + dd) []) ++ (if way < 2 then l.getD (line + dd) [] else (if dd < line then l.getD (line - 1 - dd) [] else [])) else (if way < 2 then l.getD (line + dd) [] else (if dd < line then l.getD (line - 1 - dd) [] else [])) ++ lk_turn (if way < 2 then (if dd < line then l.getD (line - 1 - dd) [] else []) else l.getD (line + dd) []) := by
        have e : (if way < 2 then t else W - 1 - t) = dd := by rw [← hT]; split <;> omega
        unfold lk_ft
        rw [e]
      generalize (if dd < line then l.getD (line - 1 - dd) [] else []) = Lf at *
      have J185 : ∀ h4 hi4 co4 lv5 lv6 lv7 lv8 lv9 lv10, cw_L h4 L (nI W) hi4 co4 → ck_fr L 9 h0 h4 → ck_cl hi4 co4 t (lk_ft l line way W t) → ck_o t hi1 hi4 co1 co4 → nd_W g mX4_folded d 0 0 K X 185 [some (.ref L), some (.ref M), some (.int (nI line)), some (.int (nI way)), some (.int (nI dd)), lv5, lv6, lv7, lv8, lv9, lv10] [] h4 0 0 := by
        intro h hi4 co4 lv5 lv6 lv7 lv8 lv9 lv10 hL hF hcc ho
        first | with_reducible refine nd_iincN hC dX4_folded_185 rfl (Nat.le_of_ble_eq_true rfl) ?_ | refine nd_iinc hC dX4_folded_185 rfl rfl (Nat.le_of_ble_eq_true rfl) ?_
        refine nd_goto hC (tgt := 17) dX4_folded_188 (by decide) ?_
        refine ih hi4 co4 h _ _ _ _ _ _ hL hF (fun j hj => ?_)
        by_cases e : j = dd
        · subst e; rw [hT]; exact hcc
        · have e1 := ho _ (ot j (by omega))
          have e2 := hc j (by omega)
          exact ⟨e1.1.trans e2.1, fun i hi => by rw [e1.2]; exact e2.2 i hi⟩
      have ADD : ∀ (sv : Int32) (S : List Nat), ck_from l sv S → ∀ c h3 hi3 co3 lv6 lv7 (gv : Int32) lv10, cw_L h3 L (nI W) hi3 co3 → ck_fr L 9 h0 h3 → ck_cl hi3 co3 t c → c.length + S.length ≤ 6 → ck_o t hi1 hi3 co1 co3 → (∀ lv10 h4 hi4 co4, cw_L h4 L (nI W) hi4 co4 → ck_fr L 9 h0 h4 → ck_cl hi4 co4 t (c ++ S) → ck_o t hi1 hi4 co1 co4 → nd_W g mX4_folded d 0 0 K X 170 [some (.ref L), some (.ref M), some (.int (nI line)), some (.int (nI way)), some (.int (nI dd)), some (.int (nI t)), lv6, lv7, some (.int sv), some (.int gv), lv10] [] h4 0 0) → nd_W g mX4_folded d 0 0 K X 128 [some (.ref L), some (.ref M), some (.int (nI line)), some (.int (nI way)), some (.int (nI dd)), some (.int (nI t)), lv6, lv7, some (.int sv), some (.int gv), lv10] [] h3 0 0 := by
        intro sv S hS c h hi3 co3 lv6 lv7 gv lv10 hL hF hcc h6 ho k170
        rcases hS with ⟨f, hf, rfl, rfl⟩ | ⟨hneg, rfl⟩
        · have hcf := hlc f hf
          have hlf := lk_one l f
          refine nd_iload hC dX4_folded_128 rfl ?_
          refine nd_if_lt hC (tgt := 170) dX4_folded_130 (by decide) (fun hq => ?_) (fun hq => ?_)
          · exact absurd hq (by rw [Int32.lt_iff_toInt_lt, nI_toInt (by omega)]; show ¬ (f : Int) < 0; omega)
          · refine nd_iconst hC (v := nI 0) (by rfl) dX4_folded_133 ?_
            refine nd_istore hC dX4_folded_134 (Nat.le_of_ble_eq_true rfl) ?_
            have L2 : ∀ k, k ≤ (l.getD f []).length → ∀ h4 hi4 co4, cw_L h4 L (nI W) hi4 co4 → ck_fr L 9 h0 h4 → ck_cl hi4 co4 t (c ++ (l.getD f []).take k) → ck_o t hi1 hi4 co1 co4 → nd_W g mX4_folded d 0 0 K X 136 [some (.ref L), some (.ref M), some (.int (nI line)), some (.int (nI way)), some (.int (nI dd)), some (.int (nI t)), lv6, lv7, some (.int (nI f)), some (.int gv), some (.int (nI k))] [] h4 0 0 := by
              refine nd_for _ _ ?_ ?_
              · intro h hi4 co4 hL hF hcc ho
                have hM := hM0.fr hF (by omega)
                refine nd_iload hC dX4_folded_136 rfl ?_
                refine nd_aload_n hC dX4_folded_138 rfl rfl ?_
                refine nd_get (ci := nX4) hC in_X4 rfl hM.1 1 (by decide) q336 (fun _ z => z) rfl dX4_folded_139 ?_
                refine nd_iload hC dX4_folded_142 rfl ?_
                refine nd_ialoadN hC hM.2.2.2 (by omega) (by omega) dX4_folded_144 ?_
                refine nd_v_eq (congrArg Value.int (hcf.1)) ?_
                first | with_reducible refine nd_icmp_geN hC (tgt := 170) (by omega) (by omega) dX4_folded_145 (by decide) (fun hq2 => ?_) (fun hq2 => ?_) | refine nd_icmp_ge hC (tgt := 170) dX4_folded_145 (by decide) (fun hq2 => ?_) (fun hq2 => ?_)
                · exact k170 _ h hi4 co4 hL hF (by rw [List.take_length] at hcc; exact hcc) ho
                · omega
              · intro k hk1 ih h hi4 co4 hL hF hcc ho
                have hM := hM0.fr hF (by omega)
                have hc6 : (c ++ (l.getD f []).take k).length < 6 := by rw [List.length_append, List.length_take]; omega
                refine nd_iload hC dX4_folded_136 rfl ?_
                refine nd_aload_n hC dX4_folded_138 rfl rfl ?_
                refine nd_get (ci := nX4) hC in_X4 rfl hM.1 1 (by decide) q336 (fun _ z => z) rfl dX4_folded_139 ?_
                refine nd_iload hC dX4_folded_142 rfl ?_
                refine nd_ialoadN hC hM.2.2.2 (by omega) (by omega) dX4_folded_144 ?_
                refine nd_v_eq (congrArg Value.int (hcf.1)) ?_
                first | with_reducible refine nd_icmp_geN hC (tgt := 170) (by omega) (by omega) dX4_folded_145 (by decide) (fun hq2 => ?_) (fun hq2 => ?_) | refine nd_icmp_ge hC (tgt := 170) dX4_folded_145 (by decide) (fun hq2 => ?_) (fun hq2 => ?_)
                · omega
                · refine nd_aload_n hC dX4_folded_148 rfl rfl ?_
                  refine nd_iload hC dX4_folded_149 rfl ?_
                  refine nd_aload_n hC dX4_folded_151 rfl rfl ?_
                  refine nd_get (ci := nX4) hC in_X4 rfl hM.1 0 (by decide) q332 (fun _ z => z) rfl dX4_folded_152 ?_
                  refine nd_iload hC dX4_folded_155 rfl ?_
                  refine nd_aaloadN hC rfl rfl hM.2.1 (by omega) (by omega) dX4_folded_157 ?_
                  refine nd_iload hC dX4_folded_158 rfl ?_
                  refine nd_ialoadN hC (hM.2.2.1 _ (by omega)) (by omega) (by omega) dX4_folded_160 ?_
                  refine nd_v_eq (congrArg Value.int (hcf.2 k hk1)) ?_
                  refine nd_callV (mm2 := mX4_adds) (As := [_, _]) (mc2 := 0) (ms2 := 0) (d2 := d - 1) hC rfl lkX4_44 ⟨rfl, lmX4_adds⟩ (hL.1) rfl (Nat.le_of_ble_eq_true rfl) (by omega) rfl (by exact Nat.le_of_ble_eq_true rfl) (by omega) (by omega) dX4_folded_161 rfl ((cl_adds hg hL ht6 hcc hc6 (fun h2 hi5 co5 fr hL5 hc5 ho5 => ?_)))
                  first | with_reducible refine nd_iincN hC dX4_folded_164 rfl (Nat.le_of_ble_eq_true rfl) ?_ | refine nd_iinc hC dX4_folded_164 rfl rfl (Nat.le_of_ble_eq_true rfl) ?_
                  refine nd_goto hC (tgt := 136) dX4_folded_167 (by decide) ?_
                  exact ih h2 hi5 co5 hL5 (hF.trans fr) (by rw [l_take_snoc hk1, ← List.append_assoc]; exact hc5) (ho.trans ho5)
            exact L2 0 (Nat.zero_le _) h hi3 co3 hL hF (by simpa using hcc) ho
        · refine nd_iload hC dX4_folded_128 rfl ?_
          refine nd_if_lt hC (tgt := 170) dX4_folded_130 (by decide) (fun hq => ?_) (fun hq => ?_)
          · exact k170 _ h hi3 co3 hL hF (by simpa using hcc) ho
          · exact absurd hneg hq
      have J112 : ∀ (sv gv : Int32) (S G : List Nat), ck_from l sv S → ck_from l gv G → G.length + S.length ≤ 6 → lk_ft l line way W t = (if way % 2 = 1 then lk_turn G ++ S else S ++ lk_turn G) → ∀ lv6 lv7 lv10 h3 hi3 co3, cw_L h3 L (nI W) hi3 co3 → ck_fr L 9 h0 h3 → ck_cl hi3 co3 t [] → ck_o t hi1 hi3 co1 co3 → nd_W g mX4_folded d 0 0 K X 112 [some (.ref L), some (.ref M), some (.int (nI line)), some (.int (nI way)), some (.int (nI dd)), some (.int (nI t)), lv6, lv7, some (.int sv), some (.int gv), lv10] [] h3 0 0 := by
        intro sv gv S G hS hG hl6 ef lv6 lv7 lv10 h hi3 co3 hL hF hcc ho
        have hM := hM0.fr hF (by omega)
        by_cases hp : way % 2 = 1
        · rw [if_pos hp] at ef
          refine nd_iload_n hC dX4_folded_112 rfl ?_
          refine nd_iconst hC (v := nI 2) (by rfl) dX4_folded_113 ?_
          first | with_reducible refine nd_iremN hC (by omega) (by omega) (by omega) dX4_folded_114 ?_ | refine nd_irem hC (by decide) dX4_folded_114 ?_
          refine nd_iconst hC (v := nI 1) (by rfl) dX4_folded_115 ?_
          first | with_reducible refine nd_icmp_neN hC (tgt := 128) (by omega) (by omega) dX4_folded_116 (by decide) (fun hq => ?_) (fun hq => ?_) | refine nd_icmp_ne hC (tgt := 128) dX4_folded_116 (by decide) (fun hq => ?_) (fun hq => ?_)
          · omega
          · refine nd_aload_n hC dX4_folded_119 rfl rfl ?_
            refine nd_aload_n hC dX4_folded_120 rfl rfl ?_
            refine nd_iload hC dX4_folded_121 rfl ?_
            refine nd_iload hC dX4_folded_123 rfl ?_
            refine nd_callV (mm2 := mX4_turns) (As := [_, _, _]) (mc2 := 0) (ms2 := 0) (d2 := d - 1) hC rfl lkX4_40 ⟨rfl, lmX4_turns⟩ (hL.1) rfl (Nat.le_of_ble_eq_true rfl) (by omega) rfl (by exact Nat.le_of_ble_eq_true rfl) (by omega) (by omega) dX4_folded_125 rfl ((cl_turns hg (by omega) hL hM hLM (by omega) hlc hG ht6 hcc (by simp only [List.length_nil]; omega) (fun h4 hi4 co4 fr hL4 hc4 ho4 => ?_)))
            refine ADD sv S hS _ h4 hi4 co4 _ _ _ _ hL4 (hF.trans fr) hc4 (by rw [List.nil_append, lk_turn_length]; omega) (ho.trans ho4) (fun lv10 h hi5 co5 hL5 hF5 hc5 ho5 => ?_)
            refine nd_iload_n hC dX4_folded_170 rfl ?_
            refine nd_iconst hC (v := nI 2) (by rfl) dX4_folded_171 ?_
            first | with_reducible refine nd_iremN hC (by omega) (by omega) (by omega) dX4_folded_172 ?_ | refine nd_irem hC (by decide) dX4_folded_172 ?_
            first | with_reducible refine nd_if_neB hC (tgt := 185) dX4_folded_173 (by decide) (fun hq2 => ?_) (fun hq2 => ?_) | with_reducible refine nd_if_neN hC (tgt := 185) (by omega) dX4_folded_173 (by decide) (fun hq2 => ?_) (fun hq2 => ?_) | refine nd_if_ne hC (tgt := 185) dX4_folded_173 (by decide) (fun hq2 => ?_) (fun hq2 => ?_)
            · exact J185 h hi5 co5 _ _ _ _ _ _ hL5 hF5 (by rw [ef]; simpa using hc5) ho5
            · omega
        · rw [if_neg hp] at ef
          refine nd_iload_n hC dX4_folded_112 rfl ?_
          refine nd_iconst hC (v := nI 2) (by rfl) dX4_folded_113 ?_
          first | with_reducible refine nd_iremN hC (by omega) (by omega) (by omega) dX4_folded_114 ?_ | refine nd_irem hC (by decide) dX4_folded_114 ?_
          refine nd_iconst hC (v := nI 1) (by rfl) dX4_folded_115 ?_
          first | with_reducible refine nd_icmp_neN hC (tgt := 128) (by omega) (by omega) dX4_folded_116 (by decide) (fun hq => ?_) (fun hq => ?_) | refine nd_icmp_ne hC (tgt := 128) dX4_folded_116 (by decide) (fun hq => ?_) (fun hq => ?_)
          · refine ADD sv S hS _ h hi3 co3 _ _ _ _ hL hF hcc (by simp only [List.length_nil]; omega) ho (fun lv10 h hi5 co5 hL5 hF5 hc5 ho5 => ?_)
            refine nd_iload_n hC dX4_folded_170 rfl ?_
            refine nd_iconst hC (v := nI 2) (by rfl) dX4_folded_171 ?_
            first | with_reducible refine nd_iremN hC (by omega) (by omega) (by omega) dX4_folded_172 ?_ | refine nd_irem hC (by decide) dX4_folded_172 ?_
            first | with_reducible refine nd_if_neB hC (tgt := 185) dX4_folded_173 (by decide) (fun hq2 => ?_) (fun hq2 => ?_) | with_reducible refine nd_if_neN hC (tgt := 185) (by omega) dX4_folded_173 (by decide) (fun hq2 => ?_) (fun hq2 => ?_) | refine nd_if_ne hC (tgt := 185) dX4_folded_173 (by decide) (fun hq2 => ?_) (fun hq2 => ?_)
            · omega
            · have hM := hM0.fr hF5 (by omega)
              refine nd_aload_n hC dX4_folded_176 rfl rfl ?_
              refine nd_aload_n hC dX4_folded_177 rfl rfl ?_
              refine nd_iload hC dX4_folded_178 rfl ?_
              refine nd_iload hC dX4_folded_180 rfl ?_
              refine nd_callV (mm2 := mX4_turns) (As := [_, _, _]) (mc2 := 0) (ms2 := 0) (d2 := d - 1) hC rfl lkX4_40 ⟨rfl, lmX4_turns⟩ (hL5.1) rfl (Nat.le_of_ble_eq_true rfl) (by omega) rfl (by exact Nat.le_of_ble_eq_true rfl) (by omega) (by omega) dX4_folded_182 rfl ((cl_turns hg (by omega) hL5 hM hLM (by omega) hlc hG ht6 hc5 (by rw [List.nil_append]; omega) (fun h4 hi4 co4 fr hL4 hc4 ho4 => ?_)))
              exact J185 h4 hi4 co4 _ _ _ _ _ _ hL4 (hF5.trans fr) (by rw [ef]; simpa using hc4) (ho5.trans ho4)
          · omega
      have J74 : ∀ (rv : Int32) lv7 lv8 lv9 lv10, ck_from l rv (l.getD (line + dd) []) → nd_W g mX4_folded d 0 0 K X 74 [some (.ref L), some (.ref M), some (.int (nI line)), some (.int (nI way)), some (.int (nI dd)), some (.int (nI t)), some (.int (nI (line - 1) - nI dd)), lv7, lv8, lv9, lv10] [.int rv] h 0 0 := by
        intro rv lv7 lv8 lv9 lv10 fR
        refine nd_istore hC dX4_folded_74 (Nat.le_of_ble_eq_true rfl) ?_
        refine nd_aload_n hC dX4_folded_76 rfl rfl ?_
        refine nd_get (ci := nX4) hC in_X4 rfl hL.1 1 (by decide) q336 (fun _ z => z) rfl dX4_folded_77 ?_
        refine nd_iload hC dX4_folded_80 rfl ?_
        refine nd_iconst hC (v := nI 0) (by rfl) dX4_folded_82 ?_
        refine cl_ast_hi hC hL (by omega) dX4_folded_83 (fun h hL fr => ?_)
        have hM := hM.fr fr (by omega)
        have hF := hF.trans fr
        refine nd_iload_n hC dX4_folded_84 rfl ?_
        refine nd_iconst hC (v := nI 2) (by rfl) dX4_folded_85 ?_
        have hc0 : ck_cl (upd hi1 t (nI 0)) co1 t [] := ⟨upd_s, fun i hi => absurd hi (Nat.not_lt_zero _)⟩
        have ho0 : ck_o t hi1 (upd hi1 t (nI 0)) co1 co1 := fun j hj => ⟨upd_n hj, rfl⟩
        by_cases hw2 : way < 2
        · simp only [hw2, if_true] at eft
          first | with_reducible refine nd_icmp_geN hC (tgt := 94) (by omega) (by omega) dX4_folded_86 (by decide) (fun hq => ?_) (fun hq => ?_) | refine nd_icmp_ge hC (tgt := 94) dX4_folded_86 (by decide) (fun hq => ?_) (fun hq => ?_)
          · omega
          · refine nd_iload hC dX4_folded_89 rfl ?_
            refine nd_goto hC (tgt := 96) dX4_folded_91 (by decide) ?_
            refine nd_istore hC dX4_folded_96 (Nat.le_of_ble_eq_true rfl) ?_
            refine nd_iload_n hC dX4_folded_98 rfl ?_
            refine nd_iconst hC (v := nI 2) (by rfl) dX4_folded_99 ?_
            first | with_reducible refine nd_icmp_geN hC (tgt := 108) (by omega) (by omega) dX4_folded_100 (by decide) (fun hq2 => ?_) (fun hq2 => ?_) | refine nd_icmp_ge hC (tgt := 108) dX4_folded_100 (by decide) (fun hq2 => ?_) (fun hq2 => ?_)
            · omega
            · refine nd_iload hC dX4_folded_103 rfl ?_
              refine nd_goto hC (tgt := 110) dX4_folded_105 (by decide) ?_
              refine nd_istore hC dX4_folded_110 (Nat.le_of_ble_eq_true rfl) ?_
              exact J112 _ _ _ _ fR fL hlen eft _ _ _ h _ _ hL hF hc0 ho0
        · simp only [hw2, if_false] at eft
          first | with_reducible refine nd_icmp_geN hC (tgt := 94) (by omega) (by omega) dX4_folded_86 (by decide) (fun hq => ?_) (fun hq => ?_) | refine nd_icmp_ge hC (tgt := 94) dX4_folded_86 (by decide) (fun hq => ?_) (fun hq => ?_)
          · refine nd_iload hC dX4_folded_94 rfl ?_
            refine nd_istore hC dX4_folded_96 (Nat.le_of_ble_eq_true rfl) ?_
            refine nd_iload_n hC dX4_folded_98 rfl ?_
            refine nd_iconst hC (v := nI 2) (by rfl) dX4_folded_99 ?_
            first | with_reducible refine nd_icmp_geN hC (tgt := 108) (by omega) (by omega) dX4_folded_100 (by decide) (fun hq2 => ?_) (fun hq2 => ?_) | refine nd_icmp_ge hC (tgt := 108) dX4_folded_100 (by decide) (fun hq2 => ?_) (fun hq2 => ?_)
            · refine nd_iload hC dX4_folded_108 rfl ?_
              refine nd_istore hC dX4_folded_110 (Nat.le_of_ble_eq_true rfl) ?_
              exact J112 _ _ _ _ fL fR (by omega) eft _ _ _ h _ _ hL hF hc0 ho0
            · omega
          · omega
      have J45 : ∀ lv5 lv6 lv7 lv8 lv9 lv10, nd_W g mX4_folded d 0 0 K X 45 [some (.ref L), some (.ref M), some (.int (nI line)), some (.int (nI way)), some (.int (nI dd)), lv5, lv6, lv7, lv8, lv9, lv10] [.int (nI t)] h 0 0 := by
        intro lv5 lv6 lv7 lv8 lv9 lv10
        refine nd_istore hC dX4_folded_45 (Nat.le_of_ble_eq_true rfl) ?_
        refine nd_iload_n hC dX4_folded_47 rfl ?_
        refine nd_iconst hC (v := nI 1) (by rfl) dX4_folded_48 ?_
        first | with_reducible refine nd_isubN hC (by omega) dX4_folded_49 ?_ | refine nd_isub hC dX4_folded_49 ?_
        refine nd_iload hC dX4_folded_50 rfl ?_
        first | with_reducible refine nd_isubN hC (by omega) dX4_folded_52 ?_ | refine nd_isub hC dX4_folded_52 ?_
        refine nd_istore hC dX4_folded_53 (Nat.le_of_ble_eq_true rfl) ?_
        refine nd_iload_n hC dX4_folded_55 rfl ?_
        refine nd_iload hC dX4_folded_56 rfl ?_
        first | with_reducible refine nd_iaddN hC dX4_folded_58 ?_ | refine nd_iadd hC dX4_folded_58 ?_
        refine nd_aload_n hC dX4_folded_59 rfl rfl ?_
        refine nd_get (ci := nX4) hC in_X4 rfl hM.1 2 (by decide) q341 (fun _ z => z) rfl dX4_folded_60 ?_
        first | with_reducible refine nd_icmp_geN hC (tgt := 73) (by omega) (by omega) dX4_folded_63 (by decide) (fun hr => ?_) (fun hr => ?_) | refine nd_icmp_ge hC (tgt := 73) dX4_folded_63 (by decide) (fun hr => ?_) (fun hr => ?_)
        · refine nd_iconst hC (v := -1) (by rfl) dX4_folded_73 ?_
          exact J74 _ _ _ _ _ (Or.inr ⟨by decide, by rw [List.getD_eq_getElem?_getD, List.getElem?_eq_none (by omega)]; rfl⟩)
        · refine nd_iload_n hC dX4_folded_66 rfl ?_
          refine nd_iload hC dX4_folded_67 rfl ?_
          first | with_reducible refine nd_iaddN hC dX4_folded_69 ?_ | refine nd_iadd hC dX4_folded_69 ?_
          refine nd_goto hC (tgt := 74) dX4_folded_70 (by decide) ?_
          exact J74 _ _ _ _ _ (Or.inl ⟨_, hr, rfl, rfl⟩)
      refine nd_iload hC dX4_folded_17 rfl ?_
      refine nd_aload_n hC dX4_folded_19 rfl rfl ?_
      refine nd_get (ci := nX4) hC in_X4 rfl hL.1 2 (by decide) q341 (fun _ z => z) rfl dX4_folded_20 ?_
      first | with_reducible refine nd_icmp_geN hC (tgt := 191) (by omega) (by omega) dX4_folded_23 (by decide) (fun hq => ?_) (fun hq => ?_) | refine nd_icmp_ge hC (tgt := 191) dX4_folded_23 (by decide) (fun hq => ?_) (fun hq => ?_)
      · omega
      · refine nd_iload_n hC dX4_folded_26 rfl ?_
        refine nd_iconst hC (v := nI 2) (by rfl) dX4_folded_27 ?_
        by_cases hw2 : way < 2
        · rw [if_pos hw2] at hT
          subst hT
          first | with_reducible refine nd_icmp_geN hC (tgt := 36) (by omega) (by omega) dX4_folded_28 (by decide) (fun hq2 => ?_) (fun hq2 => ?_) | refine nd_icmp_ge hC (tgt := 36) dX4_folded_28 (by decide) (fun hq2 => ?_) (fun hq2 => ?_)
          · omega
          · refine nd_iload hC dX4_folded_31 rfl ?_
            refine nd_goto hC (tgt := 45) dX4_folded_33 (by decide) ?_
            exact J45 _ _ _ _ _ _
        · rw [if_neg hw2] at hT
          first | with_reducible refine nd_icmp_geN hC (tgt := 36) (by omega) (by omega) dX4_folded_28 (by decide) (fun hq2 => ?_) (fun hq2 => ?_) | refine nd_icmp_ge hC (tgt := 36) dX4_folded_28 (by decide) (fun hq2 => ?_) (fun hq2 => ?_)
          · refine nd_aload_n hC dX4_folded_36 rfl rfl ?_
            refine nd_get (ci := nX4) hC in_X4 rfl hL.1 2 (by decide) q341 (fun _ z => z) rfl dX4_folded_37 ?_
            refine nd_iconst hC (v := nI 1) (by rfl) dX4_folded_40 ?_
            first | with_reducible refine nd_isubN hC (by omega) dX4_folded_41 ?_ | refine nd_isub hC dX4_folded_41 ?_
            refine nd_iload hC dX4_folded_42 rfl ?_
            first | with_reducible refine nd_isubN hC (by omega) dX4_folded_44 ?_ | refine nd_isub hC dX4_folded_44 ?_
            rw [hT]
            exact J45 _ _ _ _ _ _
          · omega
  exact L1 0 (Nat.zero_le _) hi co h _ _ _ _ _ _ hL hF (fun j hj => absurd hj (Nat.not_lt_zero _))
end CL2

