set_option maxRecDepth 100000
/-! the reference's looks: row p of 'lies' -/
def mo_cl (f : Nat → Int32) (p t : Nat) (e : List Nat) : Prop := f (43 * p + 1 + t) = nI e.length ∧ ∀ k, k < e.length → f (43 * p + 7 + 6 * t + k) = nI (e.getD k 0)
def mo_lk (f : Nat → Int32) (p : Nat) (l : List (List Nat)) : Prop := f (43 * p) = nI l.length ∧ ∀ t, t < l.length → mo_cl f p t (l.getD t [])
theorem mo_cl_push {f : Nat → Int32} {p t x : Nat} {e : List Nat} (h : mo_cl f p t e) (ht : t < 6) : mo_cl (upd (upd f (43 * p + 7 + 6 * t + e.length) (nI x)) (43 * p + 1 + t) (nI (e.length + 1))) p t (e ++ [x]) := by
  refine ⟨by rw [upd_s]; simp, fun k hk => ?_⟩
  rw [upd_n (by omega)]
  by_cases e1 : k = e.length
  · subst e1
    rw [upd_s]
    simp
  · rw [upd_n (by omega)]
    have hk2 : k < e.length := by simp at hk; omega
    rw [h.2 k hk2]
    simp [List.getD_eq_getElem?_getD, List.getElem?_append_left hk2]
theorem mo_cl_same {f f2 : Nat → Int32} {p t : Nat} {e : List Nat} (h : mo_cl f p t e) (h1 : f2 (43 * p + 1 + t) = f (43 * p + 1 + t)) (h2 : ∀ k, k < e.length → f2 (43 * p + 7 + 6 * t + k) = f (43 * p + 7 + 6 * t + k)) : mo_cl f2 p t e := ⟨h1.trans h.1, fun k hk => (h2 k hk).trans (h.2 k hk)⟩
theorem mo_take_succ {e : List Nat} {i : Nat} (h : i < e.length) : e.take (i + 1) = e.take i ++ [e.getD i 0] := by
  rw [List.take_succ, List.getElem?_eq_getElem h, List.getD_eq_getElem?_getD, List.getElem?_eq_getElem h]; rfl
theorem lk_turn_get {c : List Nat} {i : Nat} (h : i < c.length) : (lk_turn c).getD i 0 = c.getD (c.length - 1 - i) 0 ^^^ 1 := by
  unfold lk_turn
  rw [List.getD_eq_getElem?_getD, List.getElem?_map, List.getElem?_reverse h, List.getElem?_eq_getElem (by omega), List.getD_eq_getElem?_getD, List.getElem?_eq_getElem (by omega)]
  rfl
section MO2
variable {g : nd_G} {d : Nat} {K : nd_K} {h h0 : nd_H} {A : Nat → Nat → Int32} {F : Nat → Int32} {B : Nat → Nat → Int64} {f : Nat → Int32}
theorem sp_cells (hg : nd_OK g) (hw : mo_W h0 A F B h) (hk : K (.inl (some (.int (A 0 1)))) h) : nd_M g mX7_cells d 0 0 [.ref 101] h K := by
  refine nd_enter hg (by decide) rfl (Nat.le_of_ble_eq_true rfl) (fun X hC => ?_)
  refine nd_aload_n hC dX7_cells_0 rfl rfl ?_
  refine mo_get_known hC hw rfl dX7_cells_1 ?_
  refine nd_iconst hC (v := nI 1) (by rfl) dX7_cells_4 ?_
  refine nd_ialoadN hC hw.known (by omega) (by decide) dX7_cells_5 ?_
  refine nd_ireturn hC rfl (by first | rfl | exact nd_b_nar _) (by omega) (by omega) dX7_cells_6 (hk)
theorem sp_laysFlat (hg : nd_OK g) (hd : 1 ≤ d) {n : Nat} (hw : mo_W h0 A F B h) (hc : A 0 1 = nI n) (hn : n ≤ 6) (hk : ∀ f2 h2, mo_lk f2 0 (lk_flat n) → mo_W h0 (va_up A 19 f2) F B h2 → K (.inl none) h2) : nd_M g mX7_laysFlat d 0 0 [.ref 101] h K := by
  refine nd_enter hg (by decide) rfl (Nat.le_of_ble_eq_true rfl) (fun X hC => ?_)
  refine nd_aload_n hC dX7_laysFlat_0 rfl rfl ?_
  refine mo_get_lies hC hw rfl dX7_laysFlat_1 ?_
  refine nd_iconst hC (v := nI 0) (by rfl) dX7_laysFlat_4 ?_
  refine nd_aload_n hC dX7_laysFlat_5 rfl rfl ?_
  refine mo_callV (As := []) (d2 := d - 1) hC hw rfl lkX7_253 lyX7_253 (Nat.le_of_ble_eq_true rfl) (by omega) rfl (by exact Nat.le_of_ble_eq_true rfl) (Nat.zero_le _) (Nat.zero_le _) dX7_laysFlat_6 rfl ((sp_cells hg hw ?_))
  rw [hc]
  refine mo_ast_lies hC hw (by omega) dX7_laysFlat_9 (fun h hw => ?_)
  try simp only [va_up_up, va_up_s] at hw
  refine nd_iconst hC (v := nI 0) (by rfl) dX7_laysFlat_10 ?_
  refine nd_istore_n hC dX7_laysFlat_11 (Nat.le_of_ble_eq_true rfl) ?_
  have L : ∀ i, i ≤ n → ∀ f2 h2, f2 0 = nI n → (∀ t, t < i → f2 (1 + t) = nI 1 ∧ f2 (7 + 6 * t) = nI (2 * t + 1)) → mo_W h0 (va_up A 19 f2) F B h2 → nd_W g mX7_laysFlat d 0 0 K X 12 [some (.ref 101), some (.int (nI i))] [] h2 0 0 := by
    refine nd_for n _ ?_ ?_
    · intro f2 h h1 h2 hw
      refine nd_iload_n hC dX7_laysFlat_12 rfl ?_
      refine nd_aload_n hC dX7_laysFlat_13 rfl rfl ?_
      refine mo_callV (As := []) (d2 := d - 1) hC hw rfl lkX7_253 lyX7_253 (Nat.le_of_ble_eq_true rfl) (by omega) rfl (by exact Nat.le_of_ble_eq_true rfl) (Nat.zero_le _) (Nat.zero_le _) dX7_laysFlat_14 rfl ((sp_cells hg hw ?_))
      refine nd_v_eq (y := .int (nI n)) (by rw [va_up_n A f2 (by decide)]; rw [hc]) ?_
      first | with_reducible refine nd_icmp_geN hC (tgt := 52) (by omega) (by omega) dX7_laysFlat_17 (by decide) (fun hc => ?_) (fun hc => ?_) | refine nd_icmp_ge hC (tgt := 52) dX7_laysFlat_17 (by decide) (fun hc => ?_) (fun hc => ?_)
      · refine nd_return hC rfl (by omega) (by omega) dX7_laysFlat_52 ((hk f2 h ⟨by simpa [lk_flat] using h1, fun t ht => ?_⟩ hw))
        have ht2 : t < n := by simpa [lk_flat] using ht
        have e : (lk_flat n).getD t [] = [2 * t + 1] := by simp [lk_flat, List.getD_eq_getElem?_getD, ht2]
        rw [e]
        exact ⟨by simpa [Nat.add_comm] using (h2 t ht2).1, fun k hk => by
          have e2 : k = 0 := by simpa using hk
          subst e2
          simpa using (h2 t ht2).2⟩
      · omega
    · intro i hi ih f2 h h1 h2 hw
      refine nd_iload_n hC dX7_laysFlat_12 rfl ?_
      refine nd_aload_n hC dX7_laysFlat_13 rfl rfl ?_
      refine mo_callV (As := []) (d2 := d - 1) hC hw rfl lkX7_253 lyX7_253 (Nat.le_of_ble_eq_true rfl) (by omega) rfl (by exact Nat.le_of_ble_eq_true rfl) (Nat.zero_le _) (Nat.zero_le _) dX7_laysFlat_14 rfl ((sp_cells hg hw ?_))
      refine nd_v_eq (y := .int (nI n)) (by rw [va_up_n A f2 (by decide)]; rw [hc]) ?_
      first | with_reducible refine nd_icmp_geN hC (tgt := 52) (by omega) (by omega) dX7_laysFlat_17 (by decide) (fun hc => ?_) (fun hc => ?_) | refine nd_icmp_ge hC (tgt := 52) dX7_laysFlat_17 (by decide) (fun hc => ?_) (fun hc => ?_)
      · omega
      · refine nd_aload_n hC dX7_laysFlat_20 rfl rfl ?_
        refine mo_get_lies hC hw rfl dX7_laysFlat_21 ?_
        refine nd_iconst hC (v := nI 1) (by rfl) dX7_laysFlat_24 ?_
        refine nd_iload_n hC dX7_laysFlat_25 rfl ?_
        first | with_reducible refine nd_iaddN hC dX7_laysFlat_26 ?_ | refine nd_iadd hC dX7_laysFlat_26 ?_
        refine nd_iconst hC (v := nI 1) (by rfl) dX7_laysFlat_27 ?_
        refine mo_ast_lies hC hw (by omega) dX7_laysFlat_28 (fun h hw => ?_)
        try simp only [va_up_up, va_up_s] at hw
        refine nd_aload_n hC dX7_laysFlat_29 rfl rfl ?_
        refine mo_get_lies hC hw rfl dX7_laysFlat_30 ?_
        refine nd_bipush hC (v := nI 7) (by rfl) dX7_laysFlat_33 ?_
        refine nd_bipush hC (v := nI 6) (by rfl) dX7_laysFlat_35 ?_
        refine nd_iload_n hC dX7_laysFlat_37 rfl ?_
        first | with_reducible refine nd_imulN hC dX7_laysFlat_38 ?_ | refine nd_imul hC dX7_laysFlat_38 ?_
        first | with_reducible refine nd_iaddN hC dX7_laysFlat_39 ?_ | refine nd_iadd hC dX7_laysFlat_39 ?_
        refine nd_iconst hC (v := nI 2) (by rfl) dX7_laysFlat_40 ?_
        refine nd_iload_n hC dX7_laysFlat_41 rfl ?_
        first | with_reducible refine nd_imulN hC dX7_laysFlat_42 ?_ | refine nd_imul hC dX7_laysFlat_42 ?_
        refine nd_iconst hC (v := nI 1) (by rfl) dX7_laysFlat_43 ?_
        first | with_reducible refine nd_iaddN hC dX7_laysFlat_44 ?_ | refine nd_iadd hC dX7_laysFlat_44 ?_
        refine mo_ast_lies hC hw (by omega) dX7_laysFlat_45 (fun h hw => ?_)
        try simp only [va_up_up, va_up_s] at hw
        first | with_reducible refine nd_iincN hC dX7_laysFlat_46 rfl (Nat.le_of_ble_eq_true rfl) ?_ | refine nd_iinc hC dX7_laysFlat_46 rfl rfl (Nat.le_of_ble_eq_true rfl) ?_
        refine nd_goto hC (tgt := 12) dX7_laysFlat_49 (by decide) ?_
        refine ih _ _ ?_ (fun t ht => ?_) hw
        · rw [upd_n (by omega), upd_n (by omega)]; exact h1
        · by_cases e : t = i
          · subst e
            rw [upd_n (by omega), upd_s, upd_s]
            exact ⟨rfl, by rw [Nat.mul_comm]⟩
          · rw [upd_n (by omega), upd_n (by omega), upd_n (by omega), upd_n (by omega)]
            exact h2 t (by omega)
  exact L 0 (Nat.zero_le _) _ _ (by rw [upd_s]) (fun t ht => by omega) hw
end MO2

