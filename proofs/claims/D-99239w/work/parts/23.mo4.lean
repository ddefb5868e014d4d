set_option maxRecDepth 100000
section MO4
variable {g : nd_G} {d : Nat} {K : nd_K} {h h0 : nd_H} {A : Nat → Nat → Int32} {F : Nat → Int32} {B : Nat → Nat → Int64} {f : Nat → Int32}
theorem nd_ofInt {x : Int32} {c : Nat} (h : x.toInt = (c : Int)) (hc : c < 2 ^ 31) : x = nI c := Int32.toInt_inj.mp (by rw [h, nI_toInt hc])
/-- the invariant of 'folds': row p + 1 up to column t -/
def mo_fi (f f2 : Nat → Int32) (p W t : Nat) (ft : Nat → List Nat) : Prop := f2 (43 * (p + 1)) = nI W ∧ (∀ i, i < 43 * (p + 1) → f2 i = f i) ∧ ∀ t2, t2 < t → mo_cl f2 (p + 1) t2 (ft t2)
theorem mo_fi_keep {f f2 f3 : Nat → Int32} {p W t : Nat} {ft : Nat → List Nat} (h : mo_fi f f2 p W t ft) (ht : t < 6) (hl : ∀ t2, (ft t2).length ≤ 6) (hf : ∀ i, i ≠ 43 * (p + 1) + 1 + t → (i < 43 * (p + 1) + 7 + 6 * t ∨ 43 * (p + 1) + 7 + 6 * t + 6 ≤ i) → f3 i = f2 i) : mo_fi f f3 p W t ft := by
  refine ⟨(hf _ (by omega) (by omega)).trans h.1, fun i hi => (hf i (by omega) (by omega)).trans (h.2.1 i hi), fun t2 h2 => ?_⟩
  refine mo_cl_same (h.2.2 t2 h2) (hf _ (by omega) (by omega)) (fun k hk => ?_)
  have := hl t2
  exact hf _ (by omega) (by omega)
theorem mo_lk_row {f f2 : Nat → Int32} {p : Nat} {l : List (List Nat)} {n : Nat} (h : mo_lk f p l) (hok : lk_ok n l) (hn : n ≤ 6) (hf : ∀ i, i < 43 * (p + 1) → f2 i = f i) : mo_lk f2 p l := by
  have h6 := lk_width hok
  refine ⟨(hf _ (by omega)).trans h.1, fun t ht => mo_cl_same (h.2 t ht) (hf _ (by omega)) (fun k hk => ?_)⟩
  have := lk_one l t
  rw [lk_len hok] at this
  exact hf _ (by omega)
theorem sp_folds (hg : nd_OK g) (hd : 2 ≤ d) (hw : mo_W h0 (va_up A 19 f) F B h) {p line way n : Nat} {l : List (List Nat)} (hp : p ≤ 9) (hl : mo_lk f p l) (hok : lk_ok n l) (hn : n ≤ 6) (h1 : 1 ≤ line) (h2 : line < l.length) (hway : way < 4)
    (hk : ∀ f2 h2, (∀ i, i < 43 * (p + 1) → f2 i = f i) → mo_lk f2 (p + 1) (lk_fold l line way) → mo_W h0 (va_up A 19 f2) F B h2 → K (.inl none) h2) : nd_M g mX7_folds d 0 0 [.ref 101, .int (nI p), .int (nI line), .int (nI way)] h K := by
  have hw6 := lk_width hok
  have hfok : lk_ok n (lk_fold l line way) := lk_fold_ok hok h1 h2
  have hlens : ∀ t, (lk_ft l line way (lk_wide l.length line) t).length ≤ 6 := by
    intro t
    have q := (lk_ft_half l line way (lk_wide l.length line) t h1 h2).length_eq
    rw [List.length_map, List.length_map, List.length_append] at q
    have e3 : ∀ dd, ((l.take line).reverse.getD dd []).length + ((l.drop line).getD dd []).length ≤ 6 := by
      intro dd
      rw [show (l.drop line).getD dd [] = l.getD (line + dd) [] by rw [List.getD_eq_getElem?_getD, List.getD_eq_getElem?_getD, List.getElem?_drop]]
      have hL : (l.take line).length = line := by rw [List.length_take]; omega
      have hfl := lk_len hok
      by_cases hdd : dd < line
      · rw [lk_rev_get _ (by rw [hL]; exact hdd), hL]
        rw [List.getD_eq_getElem?_getD, List.getElem?_take_of_lt (by omega), ← List.getD_eq_getElem?_getD]
        have := lk_two l (line - 1 - dd) (line + dd) (by omega)
        omega
      · rw [List.getD_eq_getElem?_getD, List.getElem?_eq_none (by rw [List.length_reverse, hL]; omega)]
        have := lk_one l (line + dd)
        simp only [Option.getD_none, List.length_nil]
        omega
    have := e3 (if way < 2 then t else lk_wide l.length line - 1 - t)
    omega
  generalize hW : lk_wide l.length line = W at hlens
  have hWl : W < l.length ∧ 1 ≤ W := by rw [← hW]; unfold lk_wide; omega
  refine nd_enter hg (by decide) rfl (Nat.le_of_ble_eq_true rfl) (fun X hC => ?_)
  refine nd_aload_n hC dX7_folds_0 rfl rfl ?_
  refine nd_iload_n hC dX7_folds_1 rfl ?_
  refine mo_callV (As := [_]) (d2 := d - 1) hC hw rfl lkX7_256 lyX7_256 (Nat.le_of_ble_eq_true rfl) (by omega) rfl (by exact Nat.le_of_ble_eq_true rfl) (Nat.zero_le _) (Nat.zero_le _) dX7_folds_2 rfl ((sp_columnsAt hg hw (by omega) ?_))
  refine nd_v_eq (y := .int (nI l.length)) (by rw [va_up_s, hl.1]) ?_
  refine nd_istore hC dX7_folds_5 (Nat.le_of_ble_eq_true rfl) ?_
  refine nd_iload_n hC dX7_folds_7 rfl ?_
  refine nd_iload hC dX7_folds_8 rfl ?_
  refine nd_iload_n hC dX7_folds_10 rfl ?_
  first | with_reducible refine nd_isubN hC (by omega) dX7_folds_11 ?_ | refine nd_isub hC dX7_folds_11 ?_
  first | ((with_reducible refine nd_tst2 ?_); refine nd_mmaxN hC (by omega) (by omega) q3022 (by omega) (by omega) (by exact Nat.le_of_ble_eq_true rfl) dX7_folds_12 ?_) | refine nd_mmax hC q3022 (by omega) (by omega) (by exact Nat.le_of_ble_eq_true rfl) dX7_folds_12 ?_
  refine nd_v_eq (y := .int (nI W)) (by rw [← hW]; rfl) ?_
  have J27 : nd_W g mX7_folds d 0 0 K X 27 [some (.ref 101), some (.int (nI p)), some (.int (nI line)), some (.int (nI way)), some (.int (nI l.length)), some (.int (nI W)), none, none, none, none, none, none] [.int (nd_b (decide (way < 2)))] h 0 0 := by
    have J41 : nd_W g mX7_folds d 0 0 K X 41 [some (.ref 101), some (.int (nI p)), some (.int (nI line)), some (.int (nI way)), some (.int (nI l.length)), some (.int (nI W)), some (.int (nd_b (decide (way < 2)))), none, none, none, none, none] [.int (nd_b (decide (way % 2 = 1)))] h 0 0 := by
      refine nd_istore hC dX7_folds_41 (Nat.le_of_ble_eq_true rfl) ?_
      refine nd_aload_n hC dX7_folds_43 rfl rfl ?_
      refine mo_get_lies hC hw rfl dX7_folds_44 ?_
      refine nd_bipush hC (v := nI 43) (by rfl) dX7_folds_47 ?_
      refine nd_iload_n hC dX7_folds_49 rfl ?_
      refine nd_iconst hC (v := nI 1) (by rfl) dX7_folds_50 ?_
      first | with_reducible refine nd_iaddN hC dX7_folds_51 ?_ | refine nd_iadd hC dX7_folds_51 ?_
      first | with_reducible refine nd_imulN hC dX7_folds_52 ?_ | refine nd_imul hC dX7_folds_52 ?_
      refine nd_iload hC dX7_folds_53 rfl ?_
      refine mo_ast_lies hC hw (by omega) dX7_folds_55 (fun h hw => ?_)
      try simp only [va_up_up, va_up_s] at hw
      refine nd_iconst hC (v := nI 0) (by rfl) dX7_folds_56 ?_
      refine nd_istore hC dX7_folds_57 (Nat.le_of_ble_eq_true rfl) ?_
      have L : ∀ t, t ≤ W → ∀ f2 h2, mo_fi f f2 p W t (lk_ft l line way W) → mo_W h0 (va_up A 19 f2) F B h2 → nd_W g mX7_folds d 0 0 K X 59 [some (.ref 101), some (.int (nI p)), some (.int (nI line)), some (.int (nI way)), some (.int (nI l.length)), some (.int (nI W)), some (.int (nd_b (decide (way < 2)))), some (.int (nd_b (decide (way % 2 = 1)))), some (.int (nI t)), none, none, none] [] h2 0 0 := by
        refine nd_for W _ ?_ ?_
        · intro f2 h hf hw
          refine nd_iload hC dX7_folds_59 rfl ?_
          refine nd_iload hC dX7_folds_61 rfl ?_
          first | with_reducible refine nd_icmp_geN hC (tgt := 233) (by omega) (by omega) dX7_folds_63 (by decide) (fun hc => ?_) (fun hc => ?_) | refine nd_icmp_ge hC (tgt := 233) dX7_folds_63 (by decide) (fun hc => ?_) (fun hc => ?_)
          · refine nd_return hC rfl (by omega) (by omega) dX7_folds_233 ((hk f2 h hf.2.1 ⟨by rw [hf.1, lk_fold_length, hW], fun t ht => ?_⟩ hw))
            rw [lk_fold_length, hW] at ht
            rw [lk_fold_get l line way (by rw [hW]; exact ht), hW]
            exact hf.2.2 t ht
          · omega
        · intro t ht ih f2 h hf hw
          refine nd_iload hC dX7_folds_59 rfl ?_
          refine nd_iload hC dX7_folds_61 rfl ?_
          first | with_reducible refine nd_icmp_geN hC (tgt := 233) (by omega) (by omega) dX7_folds_63 (by decide) (fun hc => ?_) (fun hc => ?_) | refine nd_icmp_ge hC (tgt := 233) dX7_folds_63 (by decide) (fun hc => ?_) (fun hc => ?_)
          · omega
          refine nd_aload_n hC dX7_folds_66 rfl rfl ?_
          refine mo_get_lies hC hw rfl dX7_folds_67 ?_
          refine nd_bipush hC (v := nI 43) (by rfl) dX7_folds_70 ?_
          refine nd_iload_n hC dX7_folds_72 rfl ?_
          refine nd_iconst hC (v := nI 1) (by rfl) dX7_folds_73 ?_
          first | with_reducible refine nd_iaddN hC dX7_folds_74 ?_ | refine nd_iadd hC dX7_folds_74 ?_
          first | with_reducible refine nd_imulN hC dX7_folds_75 ?_ | refine nd_imul hC dX7_folds_75 ?_
          refine nd_iconst hC (v := nI 1) (by rfl) dX7_folds_76 ?_
          first | with_reducible refine nd_iaddN hC dX7_folds_77 ?_ | refine nd_iadd hC dX7_folds_77 ?_
          refine nd_iload hC dX7_folds_78 rfl ?_
          first | with_reducible refine nd_iaddN hC dX7_folds_80 ?_ | refine nd_iadd hC dX7_folds_80 ?_
          refine nd_iconst hC (v := nI 0) (by rfl) dX7_folds_81 ?_
          refine mo_ast_lies hC hw (by omega) dX7_folds_82 (fun h hw => ?_)
          try simp only [va_up_up, va_up_s] at hw
          generalize hdd : (if way < 2 then t else W - 1 - t) = dd
          have hddW : dd < W := by rw [← hdd]; split <;> omega
          generalize hG : (if way < 2 then (if dd < line then l.getD (line - 1 - dd) [] else []) else l.getD (line + dd) []) = G
          generalize hS : (if way < 2 then l.getD (line + dd) [] else (if dd < line then l.getD (line - 1 - dd) [] else [])) = S
          have hft : lk_ft l line way W t = if way % 2 = 1 then lk_turn G ++ S else S ++ lk_turn G := by
            rw [← hG, ← hS]; unfold lk_ft; simp only [hdd]
          have hsum : G.length + S.length ≤ 6 := by
            have q := hlens t
            rw [hft] at q
            split at q <;> (rw [List.length_append, lk_turn_length] at q; omega)
          have hf3 : mo_fi f (upd f2 (43 * (p + 1) + 1 + t) (nI 0)) p W t (lk_ft l line way W) := mo_fi_keep hf (by omega) hlens (fun i h1 h2 => upd_n h1)
          have hcl0 : mo_cl (upd f2 (43 * (p + 1) + 1 + t) (nI 0)) (p + 1) t [] := ⟨by rw [upd_s]; rfl, fun k hk => by simp at hk⟩
          generalize upd f2 (43 * (p + 1) + 1 + t) (nI 0) = f3 at hw hf3 hcl0
          -- a column is put (or none, where there is none)
          have J227 : ∀ (gv sv : Int32) f4 h4, mo_fi f f4 p W t (lk_ft l line way W) → mo_cl f4 (p + 1) t (lk_ft l line way W t) → mo_W h0 (va_up A 19 f4) F B h4 → nd_W g mX7_folds d 0 0 K X 227 [some (.ref 101), some (.int (nI p)), some (.int (nI line)), some (.int (nI way)), some (.int (nI l.length)), some (.int (nI W)), some (.int (nd_b (decide (way < 2)))), some (.int (nd_b (decide (way % 2 = 1)))), some (.int (nI t)), some (.int (nI dd)), some (.int gv), some (.int sv)] [] h4 0 0 := by
            intro gv sv f4 h hf4 hcl hw
            first | with_reducible refine nd_iincN hC dX7_folds_227 rfl (Nat.le_of_ble_eq_true rfl) ?_ | refine nd_iinc hC dX7_folds_227 rfl rfl (Nat.le_of_ble_eq_true rfl) ?_
            refine nd_goto hC (tgt := 59) dX7_folds_230 (by decide) ?_
            refine nd_drop 9 ?_
            refine nd_drop 10 ?_
            refine nd_drop 11 ?_
            refine ih f4 h ⟨hf4.1, hf4.2.1, fun t2 h2 => ?_⟩ hw
            by_cases e : t2 = t
            · subst e; exact hcl
            · exact hf4.2.2 t2 (by omega)
          have key : ∀ (x : Int32) (z : Int), x.toInt = z → (decide (lN 0 ≤ x.toInt64) && decide (x.toInt64 ≤ lN (l.length - 1))) = decide (0 ≤ z ∧ z ≤ (l.length - 1 : Nat)) := fun x z hx => nd_wi hx (by omega)
          have hrow : ∀ f4, mo_fi f f4 p W t (lk_ft l line way W) → mo_lk f4 p l := fun f4 q => mo_lk_row hl hok hn q.2.1
          have J142 : ∀ (gv sv : Int32), gv.toInt = (if way < 2 then (line : Int) - 1 - dd else (line : Int) + dd) → sv.toInt = (if way < 2 then (line : Int) + dd else (line : Int) - 1 - dd) → nd_W g mX7_folds d 0 0 K X 142 [some (.ref 101), some (.int (nI p)), some (.int (nI line)), some (.int (nI way)), some (.int (nI l.length)), some (.int (nI W)), some (.int (nd_b (decide (way < 2)))), some (.int (nd_b (decide (way % 2 = 1)))), some (.int (nI t)), some (.int (nI dd)), some (.int gv), some (.int sv)] [] h 0 0 := by
            intro gv sv hgv hsv
            -- what lies at 'goes' and 'stays'
            have hGn : ¬ (0 ≤ gv.toInt ∧ gv.toInt ≤ (l.length - 1 : Nat)) → G = [] := by
              intro q
              rw [hgv] at q
              rw [← hG]
              by_cases hwy : way < 2
              · rw [if_pos hwy] at q ⊢
                rw [if_neg (by omega)]
              · rw [if_neg hwy] at q ⊢
                rw [List.getD_eq_getElem?_getD, List.getElem?_eq_none (by omega)]; rfl
            have hSn : ¬ (0 ≤ sv.toInt ∧ sv.toInt ≤ (l.length - 1 : Nat)) → S = [] := by
              intro q
              rw [hsv] at q
              rw [← hS]
              by_cases hwy : way < 2
              · rw [if_pos hwy] at q ⊢
                rw [List.getD_eq_getElem?_getD, List.getElem?_eq_none (by omega)]; rfl
              · rw [if_neg hwy] at q ⊢
                rw [if_neg (by omega)]
            have hGi : (0 ≤ gv.toInt ∧ gv.toInt ≤ (l.length - 1 : Nat)) → ∃ c, c < l.length ∧ gv = nI c ∧ l.getD c [] = G := by
              intro q
              refine ⟨gv.toInt.toNat, by omega, nd_ofInt (by omega) (by omega), ?_⟩
              rw [← hG, hgv]
              rw [hgv] at q
              by_cases hwy : way < 2
              · simp only [hwy, if_true] at q ⊢
                rw [if_pos (by omega)]
                congr 1
                omega
              · simp only [hwy, if_false] at q ⊢
                congr 1
            have hSi : (0 ≤ sv.toInt ∧ sv.toInt ≤ (l.length - 1 : Nat)) → ∃ c, c < l.length ∧ sv = nI c ∧ l.getD c [] = S := by
              intro q
              refine ⟨sv.toInt.toNat, by omega, nd_ofInt (by omega) (by omega), ?_⟩
              rw [← hS, hsv]
              rw [hsv] at q
              by_cases hwy : way < 2
              · simp only [hwy, if_true] at q ⊢
                congr 1
              · simp only [hwy, if_false] at q ⊢
                rw [if_pos (by omega)]
                congr 1
                omega
            have J197 : ∀ f4 h4, mo_fi f f4 p W t (lk_ft l line way W) → mo_cl f4 (p + 1) t ((bif decide (way % 2 = 1) then lk_turn G else []) ++ S) → mo_W h0 (va_up A 19 f4) F B h4 → nd_W g mX7_folds d 0 0 K X 197 [some (.ref 101), some (.int (nI p)), some (.int (nI line)), some (.int (nI way)), some (.int (nI l.length)), some (.int (nI W)), some (.int (nd_b (decide (way < 2)))), some (.int (nd_b (decide (way % 2 = 1)))), some (.int (nI t)), some (.int (nI dd)), some (.int gv), some (.int sv)] [] h4 0 0 := by
              intro f4 h hf4 hcl hw
              refine nd_iload hC dX7_folds_197 rfl ?_
              first | with_reducible refine nd_if_neB hC (tgt := 227) dX7_folds_199 (by decide) (fun hc => ?_) (fun hc => ?_) | with_reducible refine nd_if_neN hC (tgt := 227) (by omega) dX7_folds_199 (by decide) (fun hc => ?_) (fun hc => ?_) | refine nd_if_ne hC (tgt := 227) dX7_folds_199 (by decide) (fun hc => ?_) (fun hc => ?_)
              · refine J227 gv sv f4 h hf4 ?_ hw
                rw [hft, if_pos (of_decide_eq_true hc)]
                rw [hc] at hcl
                exact hcl
              · rw [hc] at hcl
                have hc := of_decide_eq_false hc
                refine nd_iload hC dX7_folds_202 rfl ?_
                first | with_reducible refine nd_i2lN hC (by omega) dX7_folds_204 ?_ | refine nd_i2l hC dX7_folds_204 ?_
                refine nd_lconst hC (v := lN 0) (by rfl) dX7_folds_205 ?_
                refine nd_iload hC dX7_folds_206 rfl ?_
                refine nd_iconst hC (v := nI 1) (by rfl) dX7_folds_208 ?_
                first | with_reducible refine nd_isubN hC (by omega) dX7_folds_209 ?_ | refine nd_isub hC dX7_folds_209 ?_
                first | with_reducible refine nd_i2lN hC (by omega) dX7_folds_210 ?_ | refine nd_i2l hC dX7_folds_210 ?_
                refine mo_callS (As := [_, _, _]) (d2 := d - 1) hC rfl lkX7_138 lyX7_138 (Nat.le_of_ble_eq_true rfl) (by omega) rfl (by exact Nat.le_of_ble_eq_true rfl) (Nat.zero_le _) (Nat.zero_le _) dX7_folds_211 rfl ((sp_within hg ?_))
                rw [key gv _ rfl]
                first | with_reducible refine nd_if_eqB hC (tgt := 227) dX7_folds_214 (by decide) (fun hq => ?_) (fun hq => ?_) | with_reducible refine nd_if_eqN hC (tgt := 227) (by omega) dX7_folds_214 (by decide) (fun hq => ?_) (fun hq => ?_) | refine nd_if_eq hC (tgt := 227) dX7_folds_214 (by decide) (fun hq => ?_) (fun hq => ?_)
                · have hq := of_decide_eq_false hq
                  refine J227 gv sv f4 h hf4 ?_ hw
                  rw [hft, if_neg hc, hGn hq]
                  simpa [lk_turn] using hcl
                · have hq := of_decide_eq_true hq
                  obtain ⟨c, q1, q2, q3⟩ := hGi hq
                  subst q2
                  refine nd_aload_n hC dX7_folds_217 rfl rfl ?_
                  refine nd_iload_n hC dX7_folds_218 rfl ?_
                  refine nd_iload hC dX7_folds_219 rfl ?_
                  refine nd_iconst hC (v := nI 1) (by rfl) dX7_folds_221 ?_
                  refine nd_iload hC dX7_folds_222 rfl ?_
                  refine mo_callV (As := [_, _, _, _]) (d2 := d - 1) hC hw rfl lkX7_273 lyX7_273 (Nat.le_of_ble_eq_true rfl) (by omega) rfl (by exact Nat.le_of_ble_eq_true rfl) (Nat.zero_le _) (Nat.zero_le _) dX7_folds_224 rfl ((sp_puts (b := true) hg (by omega) hw (by omega) (by omega) (by omega) ((hrow f4 hf4).2 c q1) hcl (by rw [q3]; simp; omega) ?_))
                  intro f5 h hf5 hcl5 hw
                  refine J227 _ sv f5 h (mo_fi_keep hf4 (by omega) hlens hf5) ?_ hw
                  rw [hft, if_neg hc, ← q3]
                  simpa using hcl5
            have J172 : ∀ f4 h4, mo_fi f f4 p W t (lk_ft l line way W) → mo_cl f4 (p + 1) t (bif decide (way % 2 = 1) then lk_turn G else []) → mo_W h0 (va_up A 19 f4) F B h4 → nd_W g mX7_folds d 0 0 K X 172 [some (.ref 101), some (.int (nI p)), some (.int (nI line)), some (.int (nI way)), some (.int (nI l.length)), some (.int (nI W)), some (.int (nd_b (decide (way < 2)))), some (.int (nd_b (decide (way % 2 = 1)))), some (.int (nI t)), some (.int (nI dd)), some (.int gv), some (.int sv)] [] h4 0 0 := by
              intro f4 h hf4 hcl hw
              refine nd_iload hC dX7_folds_172 rfl ?_
              first | with_reducible refine nd_i2lN hC (by omega) dX7_folds_174 ?_ | refine nd_i2l hC dX7_folds_174 ?_
              refine nd_lconst hC (v := lN 0) (by rfl) dX7_folds_175 ?_
              refine nd_iload hC dX7_folds_176 rfl ?_
              refine nd_iconst hC (v := nI 1) (by rfl) dX7_folds_178 ?_
              first | with_reducible refine nd_isubN hC (by omega) dX7_folds_179 ?_ | refine nd_isub hC dX7_folds_179 ?_
              first | with_reducible refine nd_i2lN hC (by omega) dX7_folds_180 ?_ | refine nd_i2l hC dX7_folds_180 ?_
              refine mo_callS (As := [_, _, _]) (d2 := d - 1) hC rfl lkX7_138 lyX7_138 (Nat.le_of_ble_eq_true rfl) (by omega) rfl (by exact Nat.le_of_ble_eq_true rfl) (Nat.zero_le _) (Nat.zero_le _) dX7_folds_181 rfl ((sp_within hg ?_))
              rw [key sv _ rfl]
              first | with_reducible refine nd_if_eqB hC (tgt := 197) dX7_folds_184 (by decide) (fun hq => ?_) (fun hq => ?_) | with_reducible refine nd_if_eqN hC (tgt := 197) (by omega) dX7_folds_184 (by decide) (fun hq => ?_) (fun hq => ?_) | refine nd_if_eq hC (tgt := 197) dX7_folds_184 (by decide) (fun hq => ?_) (fun hq => ?_)
              · have hq := of_decide_eq_false hq
                refine J197 f4 h hf4 ?_ hw
                rw [hSn hq, List.append_nil]
                exact hcl
              · have hq := of_decide_eq_true hq
                obtain ⟨c, q1, q2, q3⟩ := hSi hq
                subst q2
                refine nd_aload_n hC dX7_folds_187 rfl rfl ?_
                refine nd_iload_n hC dX7_folds_188 rfl ?_
                refine nd_iload hC dX7_folds_189 rfl ?_
                refine nd_iconst hC (v := nI 0) (by rfl) dX7_folds_191 ?_
                refine nd_iload hC dX7_folds_192 rfl ?_
                refine mo_callV (As := [_, _, _, _]) (d2 := d - 1) hC hw rfl lkX7_273 lyX7_273 (Nat.le_of_ble_eq_true rfl) (by omega) rfl (by exact Nat.le_of_ble_eq_true rfl) (Nat.zero_le _) (Nat.zero_le _) dX7_folds_194 rfl ((sp_puts (b := false) hg (by omega) hw (by omega) (by omega) (by omega) ((hrow f4 hf4).2 c q1) hcl (by rw [q3]; cases decide (way % 2 = 1) <;> simp [lk_turn_length] <;> omega) ?_))
                intro f5 h hf5 hcl5 hw
                refine J197 f5 h (mo_fi_keep hf4 (by omega) hlens hf5) ?_ hw
                rw [← q3]
                exact hcl5
            refine nd_iload hC dX7_folds_142 rfl ?_
            first | with_reducible refine nd_if_eqB hC (tgt := 172) dX7_folds_144 (by decide) (fun hc => ?_) (fun hc => ?_) | with_reducible refine nd_if_eqN hC (tgt := 172) (by omega) dX7_folds_144 (by decide) (fun hc => ?_) (fun hc => ?_) | refine nd_if_eq hC (tgt := 172) dX7_folds_144 (by decide) (fun hc => ?_) (fun hc => ?_)
            · refine J172 f3 h hf3 ?_ hw
              rw [hc]
              exact hcl0
            · refine nd_iload hC dX7_folds_147 rfl ?_
              first | with_reducible refine nd_i2lN hC (by omega) dX7_folds_149 ?_ | refine nd_i2l hC dX7_folds_149 ?_
              refine nd_lconst hC (v := lN 0) (by rfl) dX7_folds_150 ?_
              refine nd_iload hC dX7_folds_151 rfl ?_
              refine nd_iconst hC (v := nI 1) (by rfl) dX7_folds_153 ?_
              first | with_reducible refine nd_isubN hC (by omega) dX7_folds_154 ?_ | refine nd_isub hC dX7_folds_154 ?_
              first | with_reducible refine nd_i2lN hC (by omega) dX7_folds_155 ?_ | refine nd_i2l hC dX7_folds_155 ?_
              refine mo_callS (As := [_, _, _]) (d2 := d - 1) hC rfl lkX7_138 lyX7_138 (Nat.le_of_ble_eq_true rfl) (by omega) rfl (by exact Nat.le_of_ble_eq_true rfl) (Nat.zero_le _) (Nat.zero_le _) dX7_folds_156 rfl ((sp_within hg ?_))
              rw [key gv _ rfl]
              first | with_reducible refine nd_if_eqB hC (tgt := 172) dX7_folds_159 (by decide) (fun hq => ?_) (fun hq => ?_) | with_reducible refine nd_if_eqN hC (tgt := 172) (by omega) dX7_folds_159 (by decide) (fun hq => ?_) (fun hq => ?_) | refine nd_if_eq hC (tgt := 172) dX7_folds_159 (by decide) (fun hq => ?_) (fun hq => ?_)
              · have hq := of_decide_eq_false hq
                refine J172 f3 h hf3 ?_ hw
                rw [hc, hGn hq]
                exact hcl0
              · have hq := of_decide_eq_true hq
                obtain ⟨c, q1, q2, q3⟩ := hGi hq
                subst q2
                refine nd_aload_n hC dX7_folds_162 rfl rfl ?_
                refine nd_iload_n hC dX7_folds_163 rfl ?_
                refine nd_iload hC dX7_folds_164 rfl ?_
                refine nd_iconst hC (v := nI 1) (by rfl) dX7_folds_166 ?_
                refine nd_iload hC dX7_folds_167 rfl ?_
                refine mo_callV (As := [_, _, _, _]) (d2 := d - 1) hC hw rfl lkX7_273 lyX7_273 (Nat.le_of_ble_eq_true rfl) (by omega) rfl (by exact Nat.le_of_ble_eq_true rfl) (Nat.zero_le _) (Nat.zero_le _) dX7_folds_169 rfl ((sp_puts (b := true) hg (by omega) hw (by omega) (by omega) (by omega) ((hrow f3 hf3).2 c q1) hcl0 (by rw [q3]; simp; omega) ?_))
                intro f5 h hf5 hcl5 hw
                refine J172 f5 h (mo_fi_keep hf3 (by omega) hlens hf5) ?_ hw
                rw [hc, ← q3]
                simpa using hcl5
          have J102 : nd_W g mX7_folds d 0 0 K X 100 [some (.ref 101), some (.int (nI p)), some (.int (nI line)), some (.int (nI way)), some (.int (nI l.length)), some (.int (nI W)), some (.int (nd_b (decide (way < 2)))), some (.int (nd_b (decide (way % 2 = 1)))), some (.int (nI t)), none, none, none] [.int (nI dd)] h 0 0 := by
            refine nd_istore hC dX7_folds_100 (Nat.le_of_ble_eq_true rfl) ?_
            refine nd_iload hC dX7_folds_102 rfl ?_
            first | with_reducible refine nd_if_eqB hC (tgt := 116) dX7_folds_104 (by decide) (fun hc => ?_) (fun hc => ?_) | with_reducible refine nd_if_eqN hC (tgt := 116) (by omega) dX7_folds_104 (by decide) (fun hc => ?_) (fun hc => ?_) | refine nd_if_eq hC (tgt := 116) dX7_folds_104 (by decide) (fun hc => ?_) (fun hc => ?_)
            · have hc := of_decide_eq_false hc
              refine nd_iload_n hC dX7_folds_116 rfl ?_
              refine nd_iload hC dX7_folds_117 rfl ?_
              first | with_reducible refine nd_iaddN hC dX7_folds_119 ?_ | refine nd_iadd hC dX7_folds_119 ?_
              refine nd_istore hC dX7_folds_120 (Nat.le_of_ble_eq_true rfl) ?_
              refine nd_iload hC dX7_folds_122 rfl ?_
              first | with_reducible refine nd_if_eqB hC (tgt := 134) dX7_folds_124 (by decide) (fun hq => ?_) (fun hq => ?_) | with_reducible refine nd_if_eqN hC (tgt := 134) (by omega) dX7_folds_124 (by decide) (fun hq => ?_) (fun hq => ?_) | refine nd_if_eq hC (tgt := 134) dX7_folds_124 (by decide) (fun hq => ?_) (fun hq => ?_)
              · refine nd_iload_n hC dX7_folds_134 rfl ?_
                refine nd_iconst hC (v := nI 1) (by rfl) dX7_folds_135 ?_
                first | with_reducible refine nd_isubN hC (by omega) dX7_folds_136 ?_ | refine nd_isub hC dX7_folds_136 ?_
                refine nd_iload hC dX7_folds_137 rfl ?_
                first | with_reducible refine nd_isubN hC (by omega) dX7_folds_139 ?_ | refine nd_isub hC dX7_folds_139 ?_
                refine nd_istore hC dX7_folds_140 (Nat.le_of_ble_eq_true rfl) ?_
                refine J142 _ _ ?_ ?_
                · rw [if_neg hc, nI_toInt (by omega)]; omega
                · rw [if_neg hc, nd_ti (by omega) (by omega)]; omega
              · exact absurd (of_decide_eq_true hq) hc
            · have hc := of_decide_eq_true hc
              refine nd_iload_n hC dX7_folds_107 rfl ?_
              refine nd_iconst hC (v := nI 1) (by rfl) dX7_folds_108 ?_
              first | with_reducible refine nd_isubN hC (by omega) dX7_folds_109 ?_ | refine nd_isub hC dX7_folds_109 ?_
              refine nd_iload hC dX7_folds_110 rfl ?_
              first | with_reducible refine nd_isubN hC (by omega) dX7_folds_112 ?_ | refine nd_isub hC dX7_folds_112 ?_
              refine nd_goto hC (tgt := 120) dX7_folds_113 (by decide) ?_
              refine nd_istore hC dX7_folds_120 (Nat.le_of_ble_eq_true rfl) ?_
              refine nd_iload hC dX7_folds_122 rfl ?_
              first | with_reducible refine nd_if_eqB hC (tgt := 134) dX7_folds_124 (by decide) (fun hq => ?_) (fun hq => ?_) | with_reducible refine nd_if_eqN hC (tgt := 134) (by omega) dX7_folds_124 (by decide) (fun hq => ?_) (fun hq => ?_) | refine nd_if_eq hC (tgt := 134) dX7_folds_124 (by decide) (fun hq => ?_) (fun hq => ?_)
              · exact absurd hc (of_decide_eq_false hq)
              · refine nd_iload_n hC dX7_folds_127 rfl ?_
                refine nd_iload hC dX7_folds_128 rfl ?_
                first | with_reducible refine nd_iaddN hC dX7_folds_130 ?_ | refine nd_iadd hC dX7_folds_130 ?_
                refine nd_goto hC (tgt := 140) dX7_folds_131 (by decide) ?_
                refine nd_istore hC dX7_folds_140 (Nat.le_of_ble_eq_true rfl) ?_
                refine J142 _ _ ?_ ?_
                · rw [if_pos hc, nd_ti (by omega) (by omega)]; omega
                · rw [if_pos hc, nI_toInt (by omega)]; omega
          refine nd_iload hC dX7_folds_83 rfl ?_
          first | with_reducible refine nd_if_eqB hC (tgt := 93) dX7_folds_85 (by decide) (fun hc => ?_) (fun hc => ?_) | with_reducible refine nd_if_eqN hC (tgt := 93) (by omega) dX7_folds_85 (by decide) (fun hc => ?_) (fun hc => ?_) | refine nd_if_eq hC (tgt := 93) dX7_folds_85 (by decide) (fun hc => ?_) (fun hc => ?_)
          · have hc := of_decide_eq_false hc
            rw [if_neg hc] at hdd
            refine nd_iload hC dX7_folds_93 rfl ?_
            refine nd_iconst hC (v := nI 1) (by rfl) dX7_folds_95 ?_
            first | with_reducible refine nd_isubN hC (by omega) dX7_folds_96 ?_ | refine nd_isub hC dX7_folds_96 ?_
            refine nd_iload hC dX7_folds_97 rfl ?_
            first | with_reducible refine nd_isubN hC (by omega) dX7_folds_99 ?_ | refine nd_isub hC dX7_folds_99 ?_
            refine nd_v_eq (y := .int (nI dd)) (by rw [hdd]) ?_
            exact J102
          · have hc := of_decide_eq_true hc
            rw [if_pos hc] at hdd
            refine nd_iload hC dX7_folds_88 rfl ?_
            refine nd_goto hC (tgt := 100) dX7_folds_90 (by decide) ?_
            refine nd_v_eq (y := .int (nI dd)) (by rw [hdd]) ?_
            exact J102
      refine L 0 (Nat.zero_le _) _ _ ⟨by rw [upd_s], fun i hi => upd_n (by omega), fun t2 h2 => by omega⟩ hw
    refine nd_istore hC dX7_folds_27 (Nat.le_of_ble_eq_true rfl) ?_
    refine nd_iload_n hC dX7_folds_29 rfl ?_
    refine nd_iconst hC (v := nI 2) (by rfl) dX7_folds_30 ?_
    first | with_reducible refine nd_iremN hC (by omega) (by omega) (by omega) dX7_folds_31 ?_ | refine nd_irem hC (by decide) dX7_folds_31 ?_
    refine nd_iconst hC (v := nI 1) (by rfl) dX7_folds_32 ?_
    first | with_reducible refine nd_icmp_neN hC (tgt := 40) (by omega) (by omega) dX7_folds_33 (by decide) (fun hc => ?_) (fun hc => ?_) | refine nd_icmp_ne hC (tgt := 40) dX7_folds_33 (by decide) (fun hc => ?_) (fun hc => ?_)
    · refine nd_iconst hC (v := nI 0) (by rfl) dX7_folds_40 ?_
      rw [show decide (way % 2 = 1) = false from decide_eq_false hc] at J41
      exact J41
    · refine nd_iconst hC (v := nI 1) (by rfl) dX7_folds_36 ?_
      refine nd_goto hC (tgt := 41) dX7_folds_37 (by decide) ?_
      rw [show decide (way % 2 = 1) = true from decide_eq_true hc] at J41
      exact J41
  refine nd_istore hC dX7_folds_15 (Nat.le_of_ble_eq_true rfl) ?_
  refine nd_iload_n hC dX7_folds_17 rfl ?_
  refine nd_iconst hC (v := nI 2) (by rfl) dX7_folds_18 ?_
  first | with_reducible refine nd_icmp_geN hC (tgt := 26) (by omega) (by omega) dX7_folds_19 (by decide) (fun hc => ?_) (fun hc => ?_) | refine nd_icmp_ge hC (tgt := 26) dX7_folds_19 (by decide) (fun hc => ?_) (fun hc => ?_)
  · refine nd_iconst hC (v := nI 0) (by rfl) dX7_folds_26 ?_
    rw [show decide (way < 2) = false from decide_eq_false (by omega)] at J27
    exact J27
  · refine nd_iconst hC (v := nI 1) (by rfl) dX7_folds_22 ?_
    refine nd_goto hC (tgt := 27) dX7_folds_23 (by decide) ?_
    rw [show decide (way < 2) = true from decide_eq_true (by omega)] at J27
    exact J27
end MO4

