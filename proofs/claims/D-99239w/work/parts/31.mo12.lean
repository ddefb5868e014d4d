set_option maxRecDepth 100000
/-- a tray's numbers -/
def mo_tr (A : Nat → Nat → Int32) (B : Nat → Nat → Int64) (t : Nat) (v : List Int64) : Prop := A 41 t = nI v.length ∧ v.length ≤ 30 ∧ ∀ i, i < v.length → B 42 (30 * t + i) = v.getD i 0
section MO12
variable {g : nd_G} {d : Nat} {K : nd_K} {h h0 : nd_H} {A : Nat → Nat → Int32} {F : Nat → Int32} {B : Nat → Nat → Int64} {f : Nat → Int32}
theorem sp_lookAt (hg : nd_OK g) (hd : 2 ≤ d) (hw : mo_W h0 A F B h) {p n : Nat} {l : List (List Nat)} (hp : p ≤ 10) (hc0 : A 0 1 = nI n) (hl : mo_lk (A 19) p l) (hok : lk_ok n l) (hn : n ≤ 6) (hk : ∀ f2 h2, mo_W h0 (va_up A 20 f2) F B h2 → K (.inl (some (.long (lN (lk_code l n))))) h2) : nd_M g mX7_lookAt d 0 0 [.ref 101, .int (nI p)] h K := by
  refine nd_enter hg (by decide) rfl (Nat.le_of_ble_eq_true rfl) (fun X hC => ?_)
  refine nd_aload_n hC dX7_lookAt_0 rfl rfl ?_
  refine nd_iload_n hC dX7_lookAt_1 rfl ?_
  refine mo_callV (As := [_]) (d2 := d - 1) hC hw rfl lkX7_302 lyX7_302 (Nat.le_of_ble_eq_true rfl) (by omega) rfl (by exact Nat.le_of_ble_eq_true rfl) (Nat.zero_le _) (Nat.zero_le _) dX7_lookAt_2 rfl ((sp_laysPlaces hg (by omega) hw hp hl hok hn ?_))
  intro f2 h hpl hw
  have e0 : (va_up A 20 f2) 0 1 = nI n := by rw [va_up_n A f2 (by decide)]; exact hc0
  refine nd_lconst hC (v := lN 0) (by rfl) dX7_lookAt_5 ?_
  refine nd_lstore_n hC dX7_lookAt_6 (Nat.le_of_ble_eq_true rfl) ?_
  refine nd_iconst hC (v := nI 0) (by rfl) dX7_lookAt_7 ?_
  refine nd_istore hC dX7_lookAt_8 (Nat.le_of_ble_eq_true rfl) ?_
  have L : ∀ c, c ≤ n → nd_W g mX7_lookAt d 0 0 K X 10 [some (.ref 101), some (.int (nI p)), some (.long (lN (lk_code l c))), none, some (.int (nI c))] [] h 0 0 := by
    refine nd_for n _ ?_ ?_
    · refine nd_iload hC dX7_lookAt_10 rfl ?_
      refine nd_aload_n hC dX7_lookAt_12 rfl rfl ?_
      refine mo_callV (As := []) (d2 := d - 1) hC hw rfl lkX7_253 lyX7_253 (Nat.le_of_ble_eq_true rfl) (by omega) rfl (by exact Nat.le_of_ble_eq_true rfl) (Nat.zero_le _) (Nat.zero_le _) dX7_lookAt_13 rfl ((sp_cells hg hw ?_))
      rw [e0]
      first | with_reducible refine nd_icmp_geN hC (tgt := 40) (by omega) (by omega) dX7_lookAt_16 (by decide) (fun hc => ?_) (fun hc => ?_) | refine nd_icmp_ge hC (tgt := 40) dX7_lookAt_16 (by decide) (fun hc => ?_) (fun hc => ?_)
      · refine nd_lload_n hC dX7_lookAt_40 rfl ?_
        refine nd_lreturn hC rfl (by omega) (by omega) dX7_lookAt_41 ((hk f2 h hw))
      · omega
    · intro c hc ih
      have hps := lk_pos_lt hok hn hc
      refine nd_iload hC dX7_lookAt_10 rfl ?_
      refine nd_aload_n hC dX7_lookAt_12 rfl rfl ?_
      refine mo_callV (As := []) (d2 := d - 1) hC hw rfl lkX7_253 lyX7_253 (Nat.le_of_ble_eq_true rfl) (by omega) rfl (by exact Nat.le_of_ble_eq_true rfl) (Nat.zero_le _) (Nat.zero_le _) dX7_lookAt_13 rfl ((sp_cells hg hw ?_))
      rw [e0]
      first | with_reducible refine nd_icmp_geN hC (tgt := 40) (by omega) (by omega) dX7_lookAt_16 (by decide) (fun hc => ?_) (fun hc => ?_) | refine nd_icmp_ge hC (tgt := 40) dX7_lookAt_16 (by decide) (fun hc => ?_) (fun hc => ?_)
      · omega
      refine nd_ldc2 hC q3249 dX7_lookAt_19 ?_
      refine nd_v_eq (y := .long (lN 128)) (by rfl) ?_
      refine nd_lload_n hC dX7_lookAt_22 rfl ?_
      first | with_reducible refine nd_lmulN hC dX7_lookAt_23 ?_ | refine nd_lmul hC dX7_lookAt_23 ?_
      refine nd_aload_n hC dX7_lookAt_24 rfl rfl ?_
      refine mo_get_places hC hw rfl dX7_lookAt_25 ?_
      refine nd_iload hC dX7_lookAt_28 rfl ?_
      refine nd_ialoadN hC hw.places (by omega) (by decide) dX7_lookAt_30 ?_
      rw [va_up_s, hpl c hc]
      first | with_reducible refine nd_i2lN hC (by omega) dX7_lookAt_31 ?_ | refine nd_i2l hC dX7_lookAt_31 ?_
      first | with_reducible refine nd_laddN hC dX7_lookAt_32 ?_ | refine nd_ladd hC dX7_lookAt_32 ?_
      refine nd_lstore_n hC dX7_lookAt_33 (Nat.le_of_ble_eq_true rfl) ?_
      first | with_reducible refine nd_iincN hC dX7_lookAt_34 rfl (Nat.le_of_ble_eq_true rfl) ?_ | refine nd_iinc hC dX7_lookAt_34 rfl rfl (Nat.le_of_ble_eq_true rfl) ?_
      refine nd_goto hC (tgt := 10) dX7_lookAt_37 (by decide) ?_
      exact ih
  exact L 0 (Nat.zero_le _)
theorem sp_orderAt (hg : nd_OK g) (hd : 1 ≤ d) (hw : mo_W h0 A F B h) {p n : Nat} {l : List (List Nat)} (hp : p ≤ 10) (hc0 : A 0 1 = nI n) (hl : mo_lk (A 19) p l) (hok : lk_ok n l) (hn : n ≤ 6) (h1 : l.length ≤ 1) (hk : K (.inl (some (.long (lN (lk_ord l n))))) h) : nd_M g mX7_orderAt d 0 0 [.ref 101, .int (nI p)] h K := by
  have hcol : ∀ c, c < n → 0 < l.length ∧ (l.getD 0 []).length = n := by
    intro c hc
    have := lk_len hok
    match l, h1 with
    | [], _ => simp at this; omega
    | [x], _ => simp at this ⊢; exact this
  refine nd_enter hg (by decide) rfl (Nat.le_of_ble_eq_true rfl) (fun X hC => ?_)
  refine nd_lconst hC (v := lN 0) (by rfl) dX7_orderAt_0 ?_
  refine nd_lstore_n hC dX7_orderAt_1 (Nat.le_of_ble_eq_true rfl) ?_
  refine nd_iconst hC (v := nI 0) (by rfl) dX7_orderAt_2 ?_
  refine nd_istore hC dX7_orderAt_3 (Nat.le_of_ble_eq_true rfl) ?_
  have L : ∀ c, c ≤ n → nd_W g mX7_orderAt d 0 0 K X 5 [some (.ref 101), some (.int (nI p)), some (.long (lN (lk_ord l c))), none, some (.int (nI c))] [] h 0 0 := by
    refine nd_for n _ ?_ ?_
    · refine nd_iload hC dX7_orderAt_5 rfl ?_
      refine nd_aload_n hC dX7_orderAt_7 rfl rfl ?_
      refine mo_callV (As := []) (d2 := d - 1) hC hw rfl lkX7_253 lyX7_253 (Nat.le_of_ble_eq_true rfl) (by omega) rfl (by exact Nat.le_of_ble_eq_true rfl) (Nat.zero_le _) (Nat.zero_le _) dX7_orderAt_8 rfl ((sp_cells hg hw ?_))
      rw [hc0]
      first | with_reducible refine nd_icmp_geN hC (tgt := 38) (by omega) (by omega) dX7_orderAt_11 (by decide) (fun hc => ?_) (fun hc => ?_) | refine nd_icmp_ge hC (tgt := 38) dX7_orderAt_11 (by decide) (fun hc => ?_) (fun hc => ?_)
      · refine nd_lload_n hC dX7_orderAt_38 rfl ?_
        refine nd_lreturn hC rfl (by omega) (by omega) dX7_orderAt_39 (hk)
      · omega
    · intro c hc ih
      have hq := hcol c hc
      have hlt := lk_at_lt hok hn (lk_col_at hok hq.1 (i := c) (by omega))
      refine nd_iload hC dX7_orderAt_5 rfl ?_
      refine nd_aload_n hC dX7_orderAt_7 rfl rfl ?_
      refine mo_callV (As := []) (d2 := d - 1) hC hw rfl lkX7_253 lyX7_253 (Nat.le_of_ble_eq_true rfl) (by omega) rfl (by exact Nat.le_of_ble_eq_true rfl) (Nat.zero_le _) (Nat.zero_le _) dX7_orderAt_8 rfl ((sp_cells hg hw ?_))
      rw [hc0]
      first | with_reducible refine nd_icmp_geN hC (tgt := 38) (by omega) (by omega) dX7_orderAt_11 (by decide) (fun hc => ?_) (fun hc => ?_) | refine nd_icmp_ge hC (tgt := 38) dX7_orderAt_11 (by decide) (fun hc => ?_) (fun hc => ?_)
      · omega
      refine nd_ldc2 hC q3264 dX7_orderAt_14 ?_
      refine nd_v_eq (y := .long (lN 8)) (by rfl) ?_
      refine nd_lload_n hC dX7_orderAt_17 rfl ?_
      first | with_reducible refine nd_lmulN hC dX7_orderAt_18 ?_ | refine nd_lmul hC dX7_orderAt_18 ?_
      refine nd_aload_n hC dX7_orderAt_19 rfl rfl ?_
      refine nd_iload_n hC dX7_orderAt_20 rfl ?_
      refine nd_iconst hC (v := nI 0) (by rfl) dX7_orderAt_21 ?_
      refine nd_iload hC dX7_orderAt_22 rfl ?_
      refine mo_callV (As := [_, _, _]) (d2 := d - 1) hC hw rfl lkX7_264 lyX7_264 (Nat.le_of_ble_eq_true rfl) (by omega) rfl (by exact Nat.le_of_ble_eq_true rfl) (Nat.zero_le _) (Nat.zero_le _) dX7_orderAt_24 rfl ((sp_layerAt hg hw (by omega) ?_))
      rw [(hl.2 0 hq.1).2 c (by omega)]
      refine nd_iconst hC (v := nI 2) (by rfl) dX7_orderAt_27 ?_
      first | with_reducible refine nd_idivN hC (by omega) (by omega) (by omega) dX7_orderAt_28 ?_ | refine nd_idiv hC (by decide) dX7_orderAt_28 ?_
      first | with_reducible refine nd_i2lN hC (by omega) dX7_orderAt_29 ?_ | refine nd_i2l hC dX7_orderAt_29 ?_
      first | with_reducible refine nd_laddN hC dX7_orderAt_30 ?_ | refine nd_ladd hC dX7_orderAt_30 ?_
      refine nd_lstore_n hC dX7_orderAt_31 (Nat.le_of_ble_eq_true rfl) ?_
      first | with_reducible refine nd_iincN hC dX7_orderAt_32 rfl (Nat.le_of_ble_eq_true rfl) ?_ | refine nd_iinc hC dX7_orderAt_32 rfl rfl (Nat.le_of_ble_eq_true rfl) ?_
      refine nd_goto hC (tgt := 5) dX7_orderAt_35 (by decide) ?_
      exact ih
  exact L 0 (Nat.zero_le _)
theorem sp_keepsRow (hg : nd_OK g) (hw : mo_W h0 A F B h) {fm m : Nat} {v : Int32} (hF : F 29 = nI fm) (hm : m ≤ 5) (hfm : fm ≤ 5) (hk : ∀ f2 h2, (∀ i, i < m → f2 i = A 25 i) → mo_W h0 (va_up A 26 f2) (va_up (va_up F 31 v) 32 (nI m)) B h2 → K (.inl none) h2) : nd_M g mX7_keepsRow d 0 0 [.ref 101, .int (nI (fm + m)), .int v] h K := by
  refine nd_enter hg (by decide) rfl (Nat.le_of_ble_eq_true rfl) (fun X hC => ?_)
  refine nd_aload_n hC dX7_keepsRow_0 rfl rfl ?_
  refine nd_iload_n hC dX7_keepsRow_1 rfl ?_
  refine mo_put_rowBest hC hw rfl dX7_keepsRow_2 (fun h hw => ?_)
  refine nd_aload_n hC dX7_keepsRow_5 rfl rfl ?_
  refine nd_iload_n hC dX7_keepsRow_6 rfl ?_
  refine nd_aload_n hC dX7_keepsRow_7 rfl rfl ?_
  refine mo_get_from hC hw rfl dX7_keepsRow_8 ?_
  rw [show (va_up F 31 v) 29 = nI fm from hF]
  first | with_reducible refine nd_isubN hC (by omega) dX7_keepsRow_11 ?_ | refine nd_isub hC dX7_keepsRow_11 ?_
  refine mo_put_bestMany hC hw rfl dX7_keepsRow_12 (fun h hw => ?_)
  refine nd_iconst hC (v := nI 0) (by rfl) dX7_keepsRow_15 ?_
  refine nd_istore_n hC dX7_keepsRow_16 (Nat.le_of_ble_eq_true rfl) ?_
  rw [show fm + m - fm = m by omega] at hw
  have L : ∀ i, i ≤ m → ∀ f2 h2, (∀ j, j < i → f2 j = A 25 j) → mo_W h0 (va_up A 26 f2) (va_up (va_up F 31 v) 32 (nI m)) B h2 → nd_W g mX7_keepsRow d 0 0 K X 17 [some (.ref 101), some (.int (nI (fm + m))), some (.int v), some (.int (nI i))] [] h2 0 0 := by
    refine nd_for m _ ?_ ?_
    · intro f2 h hf hw
      refine nd_iload_n hC dX7_keepsRow_17 rfl ?_
      refine nd_aload_n hC dX7_keepsRow_18 rfl rfl ?_
      refine mo_get_bestMany hC hw rfl dX7_keepsRow_19 ?_
      rw [va_up_s]
      first | with_reducible refine nd_icmp_geN hC (tgt := 43) (by omega) (by omega) dX7_keepsRow_22 (by decide) (fun hc => ?_) (fun hc => ?_) | refine nd_icmp_ge hC (tgt := 43) dX7_keepsRow_22 (by decide) (fun hc => ?_) (fun hc => ?_)
      · refine nd_return hC rfl (by omega) (by omega) dX7_keepsRow_43 ((hk f2 h hf hw))
      · omega
    · intro i hi ih f2 h hf hw
      refine nd_iload_n hC dX7_keepsRow_17 rfl ?_
      refine nd_aload_n hC dX7_keepsRow_18 rfl rfl ?_
      refine mo_get_bestMany hC hw rfl dX7_keepsRow_19 ?_
      rw [va_up_s]
      first | with_reducible refine nd_icmp_geN hC (tgt := 43) (by omega) (by omega) dX7_keepsRow_22 (by decide) (fun hc => ?_) (fun hc => ?_) | refine nd_icmp_ge hC (tgt := 43) dX7_keepsRow_22 (by decide) (fun hc => ?_) (fun hc => ?_)
      · omega
      refine nd_aload_n hC dX7_keepsRow_25 rfl rfl ?_
      refine mo_get_bestRow hC hw rfl dX7_keepsRow_26 ?_
      refine nd_iload_n hC dX7_keepsRow_29 rfl ?_
      refine nd_aload_n hC dX7_keepsRow_30 rfl rfl ?_
      refine mo_get_row hC hw rfl dX7_keepsRow_31 ?_
      refine nd_iload_n hC dX7_keepsRow_34 rfl ?_
      refine nd_ialoadN hC hw.row (by omega) (by decide) dX7_keepsRow_35 ?_
      refine mo_ast_bestRow hC hw (by omega) dX7_keepsRow_36 (fun h hw => ?_)
      try simp only [va_up_up, va_up_s] at hw
      first | with_reducible refine nd_iincN hC dX7_keepsRow_37 rfl (Nat.le_of_ble_eq_true rfl) ?_ | refine nd_iinc hC dX7_keepsRow_37 rfl rfl (Nat.le_of_ble_eq_true rfl) ?_
      refine nd_goto hC (tgt := 17) dX7_keepsRow_40 (by decide) ?_
      rw [va_up_n A f2 (show 25 ≠ 26 by decide)] at hw
      refine ih _ h (fun j hj => ?_) hw
      by_cases e : j = i
      · subst e; rw [upd_s]
      · rw [upd_n e]; exact hf j (by omega)
  exact L 0 (Nat.zero_le _) (A 26) h (fun j hj => by omega) (by rw [va_up_id]; exact hw)
end MO12

