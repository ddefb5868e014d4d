set_option maxRecDepth 100000
/-! ===== the reference's reader: laws ===== -/
/-- steps of a law in a row: how many at lm, they from la on; the rest as in f0 -/
def tx_L (lm la : Nat) (s : List Nat) (f0 f : Nat → Int32) : Prop := f lm = nI s.length ∧ (∀ i, i < s.length → f (la + i) = nI (s.getD i 0)) ∧ ∀ j, j ≠ lm → ¬ (la ≤ j ∧ j < la + 900) → f j = f0 j
def tx_Q (T : List Nat) (dp lm la : Nat) (f0 : Nat → Int32) (r : tx_R) (A : Nat → Nat → Int32) (F : Nat → Int32) : Prop := tx_Z T dp r F ∧ ∀ x, r = .inl x → F 17 = nI lm ∧ F 18 = nI la ∧ tx_L lm la x.1 f0 (A 1)
def tx_lo (lm la : Nat) : Prop := 3 ≤ lm ∧ lm ≤ 5 ∧ 209 ≤ la ∧ la + 900 ≤ 2912
def tx_m (lm : Nat) : Nat := if lm = 5 then 8 else 6
/-- a method of the reference reads what f reads -/
def tx_C (g : nd_G) (h0 : nd_H) (T : List Nat) (mm : nd_Mt) (d dp lm la : Nat) (f : Nat → tx_R) : Prop :=
  ∀ (r : tx_R) (f0 : Nat → Int32) (A : Nat → Nat → Int32) (F : Nat → Int32) (B : Nat → Nat → Int64) (h : nd_H) (K : nd_K), tx_tp A T → mo_W h0 A F B h → tx_Q T dp lm la f0 r A F → tx_gd T 0 r →
    (∀ A2 F2 h2, mo_W h0 A2 F2 B h2 → (∀ k, k ≠ 1 → A2 k = A k) → tx_u F F2 → tx_Q T dp lm la f0 (tx_bind r f) A2 F2 → K (.inl none) h2) → nd_M g mm d 0 0 [.ref 101] h K
theorem tx_tp.k {A A2 : Nat → Nat → Int32} {T : List Nat} (h : tx_tp A T) (hA : ∀ k, k ≠ 1 → A2 k = A k) : tx_tp A2 T := by
  unfold tx_tp
  rw [hA 5 (by decide)]
  exact h
theorem tx_k1 {A A2 A3 : Nat → Nat → Int32} (h : ∀ k, k ≠ 1 → A2 k = A k) (h2 : ∀ k, k ≠ 1 → A3 k = A2 k) : ∀ k, k ≠ 1 → A3 k = A k := fun k hk => (h2 k hk).trans (h k hk)
section RT3
variable {g : nd_G} {d : Nat} {K : nd_K} {h h0 : nd_H} {A : Nat → Nat → Int32} {F : Nat → Int32} {B : Nat → Nat → Int64} {T : List Nat} {dp lm la : Nat} {r : tx_R} {f0 : Nat → Int32}
theorem sr_layE (hg : nd_OK g) (hw : mo_W h0 A F B h) {e : Nat × Nat} (hZ : tx_Z T dp (.inr e) F) {c : Int32} (hk : K (.inl none) h) : nd_M g mX7_laysStep d 0 0 [.ref 101, .int c] h K := by
  obtain ⟨z1, z2, z3, z4⟩ := hZ
  refine nd_enter hg (by decide) rfl (Nat.le_of_ble_eq_true rfl) (fun X hC => ?_)
  refine nd_aload_n hC dX7_laysStep_0 rfl rfl ?_
  refine mo_get_bad hC hw rfl dX7_laysStep_1 ?_
  refine nd_v_eq (congrArg Value.int (z1)) ?_
  first | with_reducible refine nd_if_eqB hC (tgt := 8) dX7_laysStep_4 (by decide) (fun hc => ?_) (fun hc => ?_) | with_reducible refine nd_if_eqN hC (tgt := 8) (by omega) dX7_laysStep_4 (by decide) (fun hc => ?_) (fun hc => ?_) | refine nd_if_eq hC (tgt := 8) dX7_laysStep_4 (by decide) (fun hc => ?_) (fun hc => ?_)
  · omega
  · refine nd_return hC rfl (by omega) (by omega) dX7_laysStep_7 (hk)
theorem sr_lay (hg : nd_OK g) (hw : mo_W h0 A F B h) (hlo : tx_lo lm la) {x : List Nat × Nat} (hQ : tx_Q T dp lm la f0 (.inl x) A F) (hx : x.1.length < 900) {c : Nat} (hk : ∀ A2 h2, mo_W h0 A2 F B h2 → (∀ k, k ≠ 1 → A2 k = A k) → tx_Q T dp lm la f0 (.inl (x.1 ++ [c], x.2)) A2 F → K (.inl none) h2) : nd_M g mX7_laysStep d 0 0 [.ref 101, .int (nI c)] h K := by
  obtain ⟨hZ, hL⟩ := hQ
  obtain ⟨h17, h18, l1, l2, l3⟩ := hL x rfl
  have f12 : F 12 = nI 0 := hZ.2.2.2.2.2.1
  obtain ⟨o1, o2, o3, o4⟩ := hlo
  refine nd_enter hg (by decide) rfl (Nat.le_of_ble_eq_true rfl) (fun X hC => ?_)
  refine nd_aload_n hC dX7_laysStep_0 rfl rfl ?_
  refine mo_get_bad hC hw rfl dX7_laysStep_1 ?_
  refine nd_v_eq (congrArg Value.int (f12)) ?_
  first | with_reducible refine nd_if_eqB hC (tgt := 8) dX7_laysStep_4 (by decide) (fun hc => ?_) (fun hc => ?_) | with_reducible refine nd_if_eqN hC (tgt := 8) (by omega) dX7_laysStep_4 (by decide) (fun hc => ?_) (fun hc => ?_) | refine nd_if_eq hC (tgt := 8) dX7_laysStep_4 (by decide) (fun hc => ?_) (fun hc => ?_)
  · refine nd_aload_n hC dX7_laysStep_8 rfl rfl ?_
    refine mo_get_telling hC hw rfl dX7_laysStep_9 ?_
    refine nd_aload_n hC dX7_laysStep_12 rfl rfl ?_
    refine mo_get_lawAt hC hw rfl dX7_laysStep_13 ?_
    refine nd_v_eq (congrArg Value.int (h18)) ?_
    refine nd_aload_n hC dX7_laysStep_16 rfl rfl ?_
    refine mo_get_telling hC hw rfl dX7_laysStep_17 ?_
    refine nd_aload_n hC dX7_laysStep_20 rfl rfl ?_
    refine mo_get_lawMany hC hw rfl dX7_laysStep_21 ?_
    refine nd_v_eq (congrArg Value.int (h17)) ?_
    refine nd_ialoadN hC hw.telling (by omega) (by decide) dX7_laysStep_24 ?_
    refine nd_v_eq (congrArg Value.int (l1)) ?_
    first | with_reducible refine nd_iaddN hC dX7_laysStep_25 ?_ | refine nd_iadd hC dX7_laysStep_25 ?_
    refine nd_iload_n hC dX7_laysStep_26 rfl ?_
    refine mo_ast_telling hC hw (by omega) dX7_laysStep_27 (fun h hw => ?_)
    try simp only [va_up_up, va_up_s] at hw
    refine nd_aload_n hC dX7_laysStep_28 rfl rfl ?_
    refine mo_get_telling hC hw rfl dX7_laysStep_29 ?_
    refine nd_aload_n hC dX7_laysStep_32 rfl rfl ?_
    refine mo_get_lawMany hC hw rfl dX7_laysStep_33 ?_
    refine nd_v_eq (congrArg Value.int (h17)) ?_
    refine nd_dup2_11 hC (by rfl) (by rfl) dX7_laysStep_36 ?_
    refine nd_ialoadN hC hw.telling (by omega) (by decide) dX7_laysStep_37 ?_
    refine nd_v_eq (congrArg Value.int (show (va_up A 1 (upd (A 1) (la + x.1.length) (nI c))) 1 lm = nI x.1.length by rw [va_up_s, upd_n (by omega)]; exact l1)) ?_
    refine nd_iconst hC (v := nI 1) (by rfl) dX7_laysStep_38 ?_
    first | with_reducible refine nd_iaddN hC dX7_laysStep_39 ?_ | refine nd_iadd hC dX7_laysStep_39 ?_
    refine mo_ast_telling hC hw (by omega) dX7_laysStep_40 (fun h hw => ?_)
    try simp only [va_up_up, va_up_s] at hw
    refine nd_return hC rfl (by omega) (by omega) dX7_laysStep_41 (hk _ h hw (fun k hk => va_up_n _ _ hk) ⟨hZ, fun y ey => ?_⟩)
    cases ey
    refine ⟨h17, h18, ?_, fun i hi => ?_, fun j j1 j2 => ?_⟩
    · rw [va_up_s, upd_s, List.length_append]; rfl
    · rw [List.length_append, List.length_singleton] at hi
      rw [va_up_s, upd_n (by omega), List.getD_eq_getElem?_getD]
      by_cases e : i = x.1.length
      · subst e
        rw [upd_s, List.getElem?_append_right (Nat.le_refl _), Nat.sub_self]; rfl
      · rw [upd_n (by omega), List.getElem?_append_left (by omega), ← List.getD_eq_getElem?_getD]
        exact l2 i (by omega)
    · rw [va_up_s, upd_n j1, upd_n (by omega)]
      exact l3 j j1 j2
  · exact absurd rfl hc
theorem tx_Q.y {F2 : Nat → Int32} {x y : List Nat × Nat} (hQ : tx_Q T dp lm la f0 (.inl x) A F) (hy : tx_y F F2) {dp2 : Nat} (hZ : tx_Z T dp2 (.inl y) F2) (e : y.1 = x.1) : tx_Q T dp2 lm la f0 (.inl y) A F2 := by
  obtain ⟨a, b⟩ := hQ
  obtain ⟨b1, b2, b3⟩ := b x rfl
  refine ⟨hZ, fun z ez => ?_⟩
  cases ez
  exact ⟨(hy 17 (by omega)).trans b1, (hy 18 (by omega)).trans b2, by rw [e]; exact b3⟩
theorem tx_Q.e {e : Nat × Nat} {dp2 : Nat} (hZ : tx_Z T dp2 (.inr e) F) : tx_Q T dp lm la f0 (.inr e) A F := ⟨hZ, fun _ ez => by cases ez⟩
theorem tx_word6 (T : List Nat) (p : Nat) : tx_word T 6 p = if tx_w T p (tx_ws.getD 0 []) = true then some 0 else if tx_w T p (tx_ws.getD 1 []) = true then some 1 else if tx_w T p (tx_ws.getD 2 []) = true then some 2 else if tx_w T p (tx_ws.getD 3 []) = true then some 3 else if tx_w T p (tx_ws.getD 4 []) = true then some 4 else if tx_w T p (tx_ws.getD 5 []) = true then some 5 else none := rfl
theorem tx_word8 (T : List Nat) (p : Nat) : tx_word T 8 p = if tx_w T p (tx_ws.getD 0 []) = true then some 0 else if tx_w T p (tx_ws.getD 1 []) = true then some 1 else if tx_w T p (tx_ws.getD 2 []) = true then some 2 else if tx_w T p (tx_ws.getD 3 []) = true then some 3 else if tx_w T p (tx_ws.getD 4 []) = true then some 4 else if tx_w T p (tx_ws.getD 5 []) = true then some 5 else if tx_w T p (tx_ws.getD 6 []) = true then some 6 else if tx_w T p (tx_ws.getD 7 []) = true then some 7 else none := rfl
theorem sr_lawWord (hg : nd_OK g) (hd : 6 ≤ d) (hw : mo_W h0 A F B h) (htp : tx_tp A T) {x : List Nat × Nat} (hin : x.2 ≤ T.length) (hZ : tx_Z T dp (.inl x) F) (hlm : 3 ≤ lm ∧ lm ≤ 5) (h17 : F 17 = nI lm)
    (hk : ∀ k F2 h2, tx_word T (tx_m lm) x.2 = some k → mo_W h0 A F2 B h2 → tx_y F F2 → tx_Z T dp (.inl (x.1, tx_h T x.2)) F2 → K (.inl (some (.int (nI k)))) h2)
    (hn : ∀ F2 h2, tx_word T (tx_m lm) x.2 = none → mo_W h0 A F2 B h2 → tx_y F F2 → tx_Z T dp (.inl x) F2 → K (.inl (some (.int (-1)))) h2) : nd_M g mX7_lawWord d 0 0 [.ref 101] h K := by
  have em : tx_word T (tx_m lm) x.2 = if tx_w T x.2 (tx_ws.getD 0 []) = true then some 0 else if tx_w T x.2 (tx_ws.getD 1 []) = true then some 1 else if tx_w T x.2 (tx_ws.getD 2 []) = true then some 2 else if tx_w T x.2 (tx_ws.getD 3 []) = true then some 3 else if tx_w T x.2 (tx_ws.getD 4 []) = true then some 4 else if tx_w T x.2 (tx_ws.getD 5 []) = true then some 5 else if lm = 5 then (if tx_w T x.2 (tx_ws.getD 6 []) = true then some 6 else if tx_w T x.2 (tx_ws.getD 7 []) = true then some 7 else none) else none := by
    unfold tx_m
    by_cases e : lm = 5
    · rw [if_pos e, if_pos e]; exact tx_word8 T x.2
    · rw [if_neg e, if_neg e]; exact tx_word6 T x.2
  have fr : tx_y F F := tx_y.rfl
  refine nd_enter hg (by decide) rfl (Nat.le_of_ble_eq_true rfl) (fun X hC => ?_)
  refine nd_aload_n hC dX7_lawWord_0 rfl rfl ?_
  refine nd_ldcS hC (i := 21) (r := ("NapkinDeedsModel", 190, "wide", [119, 105, 100, 101])) rfl rfl dX7_lawWord_1 ?_
  refine mo_callV (As := [_]) (d2 := d - 1) hC hw rfl lkX7_142 lyX7_142 (Nat.le_of_ble_eq_true rfl) (by omega) rfl (by exact Nat.le_of_ble_eq_true rfl) (Nat.zero_le _) (Nat.zero_le _) dX7_lawWord_3 rfl ((sr_took (rr := ("NapkinDeedsModel", 190, "wide", [119, 105, 100, 101])) (r := .inl x) hg (by omega) hw htp hin hZ rfl (fun F0 h00 hw fr0 hZ0 => ?_)))
  replace fr := fr.trans fr0
  first | with_reducible refine nd_if_eqB hC (tgt := 11) dX7_lawWord_6 (by decide) (fun hc => ?_) (fun hc => ?_) | with_reducible refine nd_if_eqN hC (tgt := 11) (by omega) dX7_lawWord_6 (by decide) (fun hc => ?_) (fun hc => ?_) | refine nd_if_eq hC (tgt := 11) dX7_lawWord_6 (by decide) (fun hc => ?_) (fun hc => ?_)
  rotate_left
  · rw [show tx_isw T [119, 105, 100, 101] (.inl x) = tx_w T x.2 (tx_ws.getD 0 []) from rfl] at hc hZ0
    rw [hc, if_pos rfl] at hZ0 em
    rw [tx_bind_on] at hZ0
    refine nd_iconst hC (v := nI 0) (by rfl) dX7_lawWord_9 ?_
    refine nd_ireturn hC rfl (by first | rfl | exact nd_b_nar _) (by omega) (by omega) dX7_lawWord_10 ((hk 0 F0 h00 em hw fr hZ0))
  rw [show tx_isw T [119, 105, 100, 101] (.inl x) = tx_w T x.2 (tx_ws.getD 0 []) from rfl] at hc hZ0
  rw [hc, if_neg (by decide)] at hZ0 em
  clear hZ hc
  have hZ := hZ0
  refine nd_aload_n hC dX7_lawWord_11 rfl rfl ?_
  refine nd_ldcS hC (i := 22) (r := ("NapkinDeedsModel", 192, "high", [104, 105, 103, 104])) rfl rfl dX7_lawWord_12 ?_
  refine mo_callV (As := [_]) (d2 := d - 1) hC hw rfl lkX7_142 lyX7_142 (Nat.le_of_ble_eq_true rfl) (by omega) rfl (by exact Nat.le_of_ble_eq_true rfl) (Nat.zero_le _) (Nat.zero_le _) dX7_lawWord_14 rfl ((sr_took (rr := ("NapkinDeedsModel", 192, "high", [104, 105, 103, 104])) (r := .inl x) hg (by omega) hw htp hin hZ rfl (fun F1 h10 hw fr1 hZ1 => ?_)))
  replace fr := fr.trans fr1
  first | with_reducible refine nd_if_eqB hC (tgt := 22) dX7_lawWord_17 (by decide) (fun hc => ?_) (fun hc => ?_) | with_reducible refine nd_if_eqN hC (tgt := 22) (by omega) dX7_lawWord_17 (by decide) (fun hc => ?_) (fun hc => ?_) | refine nd_if_eq hC (tgt := 22) dX7_lawWord_17 (by decide) (fun hc => ?_) (fun hc => ?_)
  rotate_left
  · rw [show tx_isw T [104, 105, 103, 104] (.inl x) = tx_w T x.2 (tx_ws.getD 1 []) from rfl] at hc hZ1
    rw [hc, if_pos rfl] at hZ1 em
    rw [tx_bind_on] at hZ1
    refine nd_iconst hC (v := nI 1) (by rfl) dX7_lawWord_20 ?_
    refine nd_ireturn hC rfl (by first | rfl | exact nd_b_nar _) (by omega) (by omega) dX7_lawWord_21 ((hk 1 F1 h10 em hw fr hZ1))
  rw [show tx_isw T [104, 105, 103, 104] (.inl x) = tx_w T x.2 (tx_ws.getD 1 []) from rfl] at hc hZ1
  rw [hc, if_neg (by decide)] at hZ1 em
  clear hZ hc
  have hZ := hZ1
  refine nd_aload_n hC dX7_lawWord_22 rfl rfl ?_
  refine nd_ldcS hC (i := 23) (r := ("NapkinDeedsModel", 194, "folds", [102, 111, 108, 100, 115])) rfl rfl dX7_lawWord_23 ?_
  refine mo_callV (As := [_]) (d2 := d - 1) hC hw rfl lkX7_142 lyX7_142 (Nat.le_of_ble_eq_true rfl) (by omega) rfl (by exact Nat.le_of_ble_eq_true rfl) (Nat.zero_le _) (Nat.zero_le _) dX7_lawWord_25 rfl ((sr_took (rr := ("NapkinDeedsModel", 194, "folds", [102, 111, 108, 100, 115])) (r := .inl x) hg (by omega) hw htp hin hZ rfl (fun F2 h20 hw fr2 hZ2 => ?_)))
  replace fr := fr.trans fr2
  first | with_reducible refine nd_if_eqB hC (tgt := 33) dX7_lawWord_28 (by decide) (fun hc => ?_) (fun hc => ?_) | with_reducible refine nd_if_eqN hC (tgt := 33) (by omega) dX7_lawWord_28 (by decide) (fun hc => ?_) (fun hc => ?_) | refine nd_if_eq hC (tgt := 33) dX7_lawWord_28 (by decide) (fun hc => ?_) (fun hc => ?_)
  rotate_left
  · rw [show tx_isw T [102, 111, 108, 100, 115] (.inl x) = tx_w T x.2 (tx_ws.getD 2 []) from rfl] at hc hZ2
    rw [hc, if_pos rfl] at hZ2 em
    rw [tx_bind_on] at hZ2
    refine nd_iconst hC (v := nI 2) (by rfl) dX7_lawWord_31 ?_
    refine nd_ireturn hC rfl (by first | rfl | exact nd_b_nar _) (by omega) (by omega) dX7_lawWord_32 ((hk 2 F2 h20 em hw fr hZ2))
  rw [show tx_isw T [102, 111, 108, 100, 115] (.inl x) = tx_w T x.2 (tx_ws.getD 2 []) from rfl] at hc hZ2
  rw [hc, if_neg (by decide)] at hZ2 em
  clear hZ hc
  have hZ := hZ2
  refine nd_aload_n hC dX7_lawWord_33 rfl rfl ?_
  refine nd_ldcS hC (i := 24) (r := ("NapkinDeedsModel", 196, "top", [116, 111, 112])) rfl rfl dX7_lawWord_34 ?_
  refine mo_callV (As := [_]) (d2 := d - 1) hC hw rfl lkX7_142 lyX7_142 (Nat.le_of_ble_eq_true rfl) (by omega) rfl (by exact Nat.le_of_ble_eq_true rfl) (Nat.zero_le _) (Nat.zero_le _) dX7_lawWord_36 rfl ((sr_took (rr := ("NapkinDeedsModel", 196, "top", [116, 111, 112])) (r := .inl x) hg (by omega) hw htp hin hZ rfl (fun F3 h30 hw fr3 hZ3 => ?_)))
  replace fr := fr.trans fr3
  first | with_reducible refine nd_if_eqB hC (tgt := 44) dX7_lawWord_39 (by decide) (fun hc => ?_) (fun hc => ?_) | with_reducible refine nd_if_eqN hC (tgt := 44) (by omega) dX7_lawWord_39 (by decide) (fun hc => ?_) (fun hc => ?_) | refine nd_if_eq hC (tgt := 44) dX7_lawWord_39 (by decide) (fun hc => ?_) (fun hc => ?_)
  rotate_left
  · rw [show tx_isw T [116, 111, 112] (.inl x) = tx_w T x.2 (tx_ws.getD 3 []) from rfl] at hc hZ3
    rw [hc, if_pos rfl] at hZ3 em
    rw [tx_bind_on] at hZ3
    refine nd_iconst hC (v := nI 3) (by rfl) dX7_lawWord_42 ?_
    refine nd_ireturn hC rfl (by first | rfl | exact nd_b_nar _) (by omega) (by omega) dX7_lawWord_43 ((hk 3 F3 h30 em hw fr hZ3))
  rw [show tx_isw T [116, 111, 112] (.inl x) = tx_w T x.2 (tx_ws.getD 3 []) from rfl] at hc hZ3
  rw [hc, if_neg (by decide)] at hZ3 em
  clear hZ hc
  have hZ := hZ3
  refine nd_aload_n hC dX7_lawWord_44 rfl rfl ?_
  refine nd_ldcS hC (i := 25) (r := ("NapkinDeedsModel", 198, "under", [117, 110, 100, 101, 114])) rfl rfl dX7_lawWord_45 ?_
  refine mo_callV (As := [_]) (d2 := d - 1) hC hw rfl lkX7_142 lyX7_142 (Nat.le_of_ble_eq_true rfl) (by omega) rfl (by exact Nat.le_of_ble_eq_true rfl) (Nat.zero_le _) (Nat.zero_le _) dX7_lawWord_47 rfl ((sr_took (rr := ("NapkinDeedsModel", 198, "under", [117, 110, 100, 101, 114])) (r := .inl x) hg (by omega) hw htp hin hZ rfl (fun F4 h40 hw fr4 hZ4 => ?_)))
  replace fr := fr.trans fr4
  first | with_reducible refine nd_if_eqB hC (tgt := 55) dX7_lawWord_50 (by decide) (fun hc => ?_) (fun hc => ?_) | with_reducible refine nd_if_eqN hC (tgt := 55) (by omega) dX7_lawWord_50 (by decide) (fun hc => ?_) (fun hc => ?_) | refine nd_if_eq hC (tgt := 55) dX7_lawWord_50 (by decide) (fun hc => ?_) (fun hc => ?_)
  rotate_left
  · rw [show tx_isw T [117, 110, 100, 101, 114] (.inl x) = tx_w T x.2 (tx_ws.getD 4 []) from rfl] at hc hZ4
    rw [hc, if_pos rfl] at hZ4 em
    rw [tx_bind_on] at hZ4
    refine nd_iconst hC (v := nI 4) (by rfl) dX7_lawWord_53 ?_
    refine nd_ireturn hC rfl (by first | rfl | exact nd_b_nar _) (by omega) (by omega) dX7_lawWord_54 ((hk 4 F4 h40 em hw fr hZ4))
  rw [show tx_isw T [117, 110, 100, 101, 114] (.inl x) = tx_w T x.2 (tx_ws.getD 4 []) from rfl] at hc hZ4
  rw [hc, if_neg (by decide)] at hZ4 em
  clear hZ hc
  have hZ := hZ4
  refine nd_aload_n hC dX7_lawWord_55 rfl rfl ?_
  refine nd_ldcS hC (i := 26) (r := ("NapkinDeedsModel", 200, "hidden", [104, 105, 100, 100, 101, 110])) rfl rfl dX7_lawWord_56 ?_
  refine mo_callV (As := [_]) (d2 := d - 1) hC hw rfl lkX7_142 lyX7_142 (Nat.le_of_ble_eq_true rfl) (by omega) rfl (by exact Nat.le_of_ble_eq_true rfl) (Nat.zero_le _) (Nat.zero_le _) dX7_lawWord_58 rfl ((sr_took (rr := ("NapkinDeedsModel", 200, "hidden", [104, 105, 100, 100, 101, 110])) (r := .inl x) hg (by omega) hw htp hin hZ rfl (fun F5 h50 hw fr5 hZ5 => ?_)))
  replace fr := fr.trans fr5
  first | with_reducible refine nd_if_eqB hC (tgt := 66) dX7_lawWord_61 (by decide) (fun hc => ?_) (fun hc => ?_) | with_reducible refine nd_if_eqN hC (tgt := 66) (by omega) dX7_lawWord_61 (by decide) (fun hc => ?_) (fun hc => ?_) | refine nd_if_eq hC (tgt := 66) dX7_lawWord_61 (by decide) (fun hc => ?_) (fun hc => ?_)
  rotate_left
  · rw [show tx_isw T [104, 105, 100, 100, 101, 110] (.inl x) = tx_w T x.2 (tx_ws.getD 5 []) from rfl] at hc hZ5
    rw [hc, if_pos rfl] at hZ5 em
    rw [tx_bind_on] at hZ5
    refine nd_iconst hC (v := nI 5) (by rfl) dX7_lawWord_64 ?_
    refine nd_ireturn hC rfl (by first | rfl | exact nd_b_nar _) (by omega) (by omega) dX7_lawWord_65 ((hk 5 F5 h50 em hw fr hZ5))
  rw [show tx_isw T [104, 105, 100, 100, 101, 110] (.inl x) = tx_w T x.2 (tx_ws.getD 5 []) from rfl] at hc hZ5
  rw [hc, if_neg (by decide)] at hZ5 em
  clear hZ hc
  have hZ := hZ5
  refine nd_aload_n hC dX7_lawWord_66 rfl rfl ?_
  refine mo_get_lawMany hC hw rfl dX7_lawWord_67 ?_
  refine nd_v_eq (congrArg Value.int ((fr 17 (by omega)).trans h17)) ?_
  refine nd_iconst hC (v := nI 5) (by rfl) dX7_lawWord_70 ?_
  first | with_reducible refine nd_icmp_eqN hC (tgt := 76) (by omega) (by omega) dX7_lawWord_71 (by decide) (fun h5 => ?_) (fun h5 => ?_) | refine nd_icmp_eq hC (tgt := 76) dX7_lawWord_71 (by decide) (fun h5 => ?_) (fun h5 => ?_)
  · rw [if_pos h5] at em
    refine nd_aload_n hC dX7_lawWord_76 rfl rfl ?_
    refine nd_ldcS hC (i := 19) (r := ("NapkinDeedsModel", 202, "guest", [103, 117, 101, 115, 116])) rfl rfl dX7_lawWord_77 ?_
    refine mo_callV (As := [_]) (d2 := d - 1) hC hw rfl lkX7_142 lyX7_142 (Nat.le_of_ble_eq_true rfl) (by omega) rfl (by exact Nat.le_of_ble_eq_true rfl) (Nat.zero_le _) (Nat.zero_le _) dX7_lawWord_79 rfl ((sr_took (rr := ("NapkinDeedsModel", 202, "guest", [103, 117, 101, 115, 116])) (r := .inl x) hg (by omega) hw htp hin hZ rfl (fun F6 h60 hw fr6 hZ6 => ?_)))
    replace fr := fr.trans fr6
    first | with_reducible refine nd_if_eqB hC (tgt := 88) dX7_lawWord_82 (by decide) (fun hc => ?_) (fun hc => ?_) | with_reducible refine nd_if_eqN hC (tgt := 88) (by omega) dX7_lawWord_82 (by decide) (fun hc => ?_) (fun hc => ?_) | refine nd_if_eq hC (tgt := 88) dX7_lawWord_82 (by decide) (fun hc => ?_) (fun hc => ?_)
    rotate_left
    · rw [show tx_isw T [103, 117, 101, 115, 116] (.inl x) = tx_w T x.2 (tx_ws.getD 6 []) from rfl] at hc hZ6
      rw [hc, if_pos rfl] at hZ6 em
      rw [tx_bind_on] at hZ6
      refine nd_bipush hC (v := nI 6) (by rfl) dX7_lawWord_85 ?_
      refine nd_ireturn hC rfl (by first | rfl | exact nd_b_nar _) (by omega) (by omega) dX7_lawWord_87 ((hk 6 F6 h60 em hw fr hZ6))
    rw [show tx_isw T [103, 117, 101, 115, 116] (.inl x) = tx_w T x.2 (tx_ws.getD 6 []) from rfl] at hc hZ6
    rw [hc, if_neg (by decide)] at hZ6 em
    clear hZ hc
    have hZ := hZ6
    refine nd_aload_n hC dX7_lawWord_88 rfl rfl ?_
    refine nd_ldcS hC (i := 27) (r := ("NapkinDeedsModel", 204, "want", [119, 97, 110, 116])) rfl rfl dX7_lawWord_89 ?_
    refine mo_callV (As := [_]) (d2 := d - 1) hC hw rfl lkX7_142 lyX7_142 (Nat.le_of_ble_eq_true rfl) (by omega) rfl (by exact Nat.le_of_ble_eq_true rfl) (Nat.zero_le _) (Nat.zero_le _) dX7_lawWord_91 rfl ((sr_took (rr := ("NapkinDeedsModel", 204, "want", [119, 97, 110, 116])) (r := .inl x) hg (by omega) hw htp hin hZ rfl (fun F7 h70 hw fr7 hZ7 => ?_)))
    replace fr := fr.trans fr7
    first | with_reducible refine nd_if_eqB hC (tgt := 102) dX7_lawWord_94 (by decide) (fun hc => ?_) (fun hc => ?_) | with_reducible refine nd_if_eqN hC (tgt := 102) (by omega) dX7_lawWord_94 (by decide) (fun hc => ?_) (fun hc => ?_) | refine nd_if_eq hC (tgt := 102) dX7_lawWord_94 (by decide) (fun hc => ?_) (fun hc => ?_)
    · rw [show tx_isw T [119, 97, 110, 116] (.inl x) = tx_w T x.2 (tx_ws.getD 7 []) from rfl] at hc hZ7
      rw [hc, if_neg (by decide)] at hZ7 em
      refine nd_iconst hC (v := -1) (by rfl) dX7_lawWord_102 ?_
      refine nd_ireturn hC rfl (by first | rfl | exact nd_b_nar _) (by omega) (by omega) dX7_lawWord_103 ((hn F7 h70 em hw fr hZ7))
    · rw [show tx_isw T [119, 97, 110, 116] (.inl x) = tx_w T x.2 (tx_ws.getD 7 []) from rfl] at hc hZ7
      rw [hc, if_pos rfl] at hZ7 em
      rw [tx_bind_on] at hZ7
      refine nd_bipush hC (v := nI 7) (by rfl) dX7_lawWord_97 ?_
      refine nd_goto hC (tgt := 103) dX7_lawWord_99 (by decide) ?_
      refine nd_ireturn hC rfl (by first | rfl | exact nd_b_nar _) (by omega) (by omega) dX7_lawWord_103 ((hk 7 F7 h70 em hw fr hZ7))
  · rw [if_neg h5] at em
    refine nd_iconst hC (v := -1) (by rfl) dX7_lawWord_74 ?_
    refine nd_ireturn hC rfl (by first | rfl | exact nd_b_nar _) (by omega) (by omega) dX7_lawWord_75 ((hn F5 h50 em hw fr hZ))
theorem sr_atomE (hg : nd_OK g) (hw : mo_W h0 A F B h) {e : Nat × Nat} (hZ : tx_Z T dp (.inr e) F) (hk : K (.inl none) h) : nd_M g mX7_readAtom d 0 0 [.ref 101] h K := by
  obtain ⟨z1, z2, z3, z4⟩ := hZ
  refine nd_enter hg (by decide) rfl (Nat.le_of_ble_eq_true rfl) (fun X hC => ?_)
  refine nd_aload_n hC dX7_readAtom_0 rfl rfl ?_
  refine mo_get_bad hC hw rfl dX7_readAtom_1 ?_
  refine nd_v_eq (congrArg Value.int (z1)) ?_
  first | with_reducible refine nd_if_eqB hC (tgt := 8) dX7_readAtom_4 (by decide) (fun hc => ?_) (fun hc => ?_) | with_reducible refine nd_if_eqN hC (tgt := 8) (by omega) dX7_readAtom_4 (by decide) (fun hc => ?_) (fun hc => ?_) | refine nd_if_eq hC (tgt := 8) dX7_readAtom_4 (by decide) (fun hc => ?_) (fun hc => ?_)
  · omega
  · refine nd_return hC rfl (by omega) (by omega) dX7_readAtom_7 (hk)
theorem sr_termE (hg : nd_OK g) (hd : 1 ≤ d) (hw : mo_W h0 A F B h) {e : Nat × Nat} (hZ : tx_Z T dp (.inr e) F) (hk : K (.inl none) h) : nd_M g mX7_readTerm d 0 0 [.ref 101] h K := by
  refine nd_enter hg (by decide) rfl (Nat.le_of_ble_eq_true rfl) (fun X hC => ?_)
  refine nd_aload_n hC dX7_readTerm_0 rfl rfl ?_
  refine mo_callV (As := []) (d2 := d - 1) hC hw rfl lkX7_187 lyX7_187 (Nat.le_of_ble_eq_true rfl) (by omega) rfl (by exact Nat.le_of_ble_eq_true rfl) (Nat.zero_le _) (Nat.zero_le _) dX7_readTerm_1 rfl ((sr_atomE hg hw hZ ?_))
  refine nd_aload_n hC dX7_readTerm_4 rfl rfl ?_
  refine nd_bipush hC (v := nI 42) (by rfl) dX7_readTerm_5 ?_
  refine mo_callV (As := [_]) (d2 := d - 1) hC hw rfl lkX7_175 lyX7_175 (Nat.le_of_ble_eq_true rfl) (by omega) rfl (by exact Nat.le_of_ble_eq_true rfl) (Nat.zero_le _) (Nat.zero_le _) dX7_readTerm_7 rfl ((sr_isSign hg hw hZ (by omega) ?_))
  first | with_reducible refine nd_if_eqB hC (tgt := 30) dX7_readTerm_10 (by decide) (fun hc => ?_) (fun hc => ?_) | with_reducible refine nd_if_eqN hC (tgt := 30) (by omega) dX7_readTerm_10 (by decide) (fun hc => ?_) (fun hc => ?_) | refine nd_if_eq hC (tgt := 30) dX7_readTerm_10 (by decide) (fun hc => ?_) (fun hc => ?_)
  · refine nd_return hC rfl (by omega) (by omega) dX7_readTerm_30 (hk)
  · exact absurd (show false = true from hc) (by decide)
theorem sr_sumE (hg : nd_OK g) (hd : 2 ≤ d) (hw : mo_W h0 A F B h) {e : Nat × Nat} (hZ : tx_Z T dp (.inr e) F) (hk : K (.inl none) h) : nd_M g mX7_readSum d 0 0 [.ref 101] h K := by
  refine nd_enter hg (by decide) rfl (Nat.le_of_ble_eq_true rfl) (fun X hC => ?_)
  refine nd_aload_n hC dX7_readSum_0 rfl rfl ?_
  refine mo_callV (As := []) (d2 := d - 1) hC hw rfl lkX7_184 lyX7_184 (Nat.le_of_ble_eq_true rfl) (by omega) rfl (by exact Nat.le_of_ble_eq_true rfl) (Nat.zero_le _) (Nat.zero_le _) dX7_readSum_1 rfl ((sr_termE hg (by omega) hw hZ ?_))
  refine nd_aload_n hC dX7_readSum_4 rfl rfl ?_
  refine nd_bipush hC (v := nI 43) (by rfl) dX7_readSum_5 ?_
  refine mo_callV (As := [_]) (d2 := d - 1) hC hw rfl lkX7_175 lyX7_175 (Nat.le_of_ble_eq_true rfl) (by omega) rfl (by exact Nat.le_of_ble_eq_true rfl) (Nat.zero_le _) (Nat.zero_le _) dX7_readSum_7 rfl ((sr_isSign hg hw hZ (by omega) ?_))
  first | with_reducible refine nd_if_neB hC (tgt := 22) dX7_readSum_10 (by decide) (fun hc => ?_) (fun hc => ?_) | with_reducible refine nd_if_neN hC (tgt := 22) (by omega) dX7_readSum_10 (by decide) (fun hc => ?_) (fun hc => ?_) | refine nd_if_ne hC (tgt := 22) dX7_readSum_10 (by decide) (fun hc => ?_) (fun hc => ?_)
  · exact absurd (show false = true from hc) (by decide)
  · refine nd_aload_n hC dX7_readSum_13 rfl rfl ?_
    refine nd_bipush hC (v := nI 45) (by rfl) dX7_readSum_14 ?_
    refine mo_callV (As := [_]) (d2 := d - 1) hC hw rfl lkX7_175 lyX7_175 (Nat.le_of_ble_eq_true rfl) (by omega) rfl (by exact Nat.le_of_ble_eq_true rfl) (Nat.zero_le _) (Nat.zero_le _) dX7_readSum_16 rfl ((sr_isSign hg hw hZ (by omega) ?_))
    first | with_reducible refine nd_if_eqB hC (tgt := 55) dX7_readSum_19 (by decide) (fun hc2 => ?_) (fun hc2 => ?_) | with_reducible refine nd_if_eqN hC (tgt := 55) (by omega) dX7_readSum_19 (by decide) (fun hc2 => ?_) (fun hc2 => ?_) | refine nd_if_eq hC (tgt := 55) dX7_readSum_19 (by decide) (fun hc2 => ?_) (fun hc2 => ?_)
    · refine nd_return hC rfl (by omega) (by omega) dX7_readSum_55 (hk)
    · exact absurd (show false = true from hc2) (by decide)
theorem sr_atom (hg : nd_OK g) (hd : 7 ≤ d) (hlo : tx_lo lm la) (hT : T.length ≤ 900) {k : Nat} (hdp : dp + k = 6) (hsub : ∀ k2, k = k2 + 1 → tx_C g h0 T mX7_readSum (d - 1) (dp + 1) lm la (tx_sum T (tx_m lm) k2)) : tx_C g h0 T mX7_readAtom d dp lm la (tx_atom T (tx_m lm) (tx_dn (tx_sum T (tx_m lm)) k)) := by
  intro r f0 A F B h K htp hw hQ hb hk
  cases r with
  | inr e => exact sr_atomE hg hw hQ.1 (hk A F h hw (fun _ _ => rfl) tx_u.rfl hQ)
  | inl x =>
    have hZ := hQ.1
    obtain ⟨h17, h18, hT1⟩ := hQ.2 x rfl
    have f12 : F 12 = nI 0 := hZ.2.2.2.2.2.1
    have hb1 : 0 + x.1.length ≤ x.2 ∧ x.2 ≤ T.length := hb
    have hin : x.2 ≤ T.length := hb1.2
    have hkl := tx_k_lt T x.2
    refine nd_enter hg (by decide) rfl (Nat.le_of_ble_eq_true rfl) (fun X hC => ?_)
    refine nd_aload_n hC dX7_readAtom_0 rfl rfl ?_
    refine mo_get_bad hC hw rfl dX7_readAtom_1 ?_
    refine nd_v_eq (congrArg Value.int (f12)) ?_
    first | with_reducible refine nd_if_eqB hC (tgt := 8) dX7_readAtom_4 (by decide) (fun hc => ?_) (fun hc => ?_) | with_reducible refine nd_if_eqN hC (tgt := 8) (by omega) dX7_readAtom_4 (by decide) (fun hc => ?_) (fun hc => ?_) | refine nd_if_eq hC (tgt := 8) dX7_readAtom_4 (by decide) (fun hc => ?_) (fun hc => ?_)
    · refine nd_aload_n hC dX7_readAtom_8 rfl rfl ?_
      refine mo_callV (As := []) (d2 := d - 1) hC hw rfl lkX7_206 lyX7_206 (Nat.le_of_ble_eq_true rfl) (by omega) rfl (by exact Nat.le_of_ble_eq_true rfl) (Nat.zero_le _) (Nat.zero_le _) dX7_readAtom_9 rfl ((sr_lawWord hg (by omega) hw htp hin hZ ⟨hlo.1, hlo.2.1⟩ h17 (fun j F2 h2 hj hw fr hZ2 => ?_) (fun F2 h2 hj hw fr hZ2 => ?_)))
      · have hk1 := tx_w_k (tx_fw_some _ _ _ hj).2
        have hgt := tx_h_gt (T := T) (p := x.2) (by omega)
        have hbg := tx_b_ge T x.2
        have hhl := tx_h_le T hin
        have hjm : j < 9 := by
          have := (tx_fw_some _ _ _ hj).1
          unfold tx_m at this
          split at this <;> omega
        have er : tx_bind (.inl x) (tx_atom T (tx_m lm) (tx_dn (tx_sum T (tx_m lm)) k)) = .inl (x.1 ++ [100 + j], tx_h T x.2) := by
          refine tx_bind_c (y := ([100 + j], tx_h T x.2)) ?_
          unfold tx_atom
          rw [hj]; rfl
        rw [er] at hk
        refine nd_istore_n hC dX7_readAtom_12 (Nat.le_of_ble_eq_true rfl) ?_
        refine nd_iload_n hC dX7_readAtom_13 rfl ?_
        refine nd_iconst hC (v := -1) (by rfl) dX7_readAtom_14 ?_
        first | with_reducible refine nd_icmp_eqN hC (tgt := 29) (by omega) (by omega) dX7_readAtom_15 (by decide) (fun hq => ?_) (fun hq => ?_) | refine nd_icmp_eq hC (tgt := 29) dX7_readAtom_15 (by decide) (fun hq => ?_) (fun hq => ?_)
        · exact absurd hq (nI_m1 (by omega))
        · refine nd_aload_n hC dX7_readAtom_18 rfl rfl ?_
          refine nd_bipush hC (v := nI 100) (by rfl) dX7_readAtom_19 ?_
          refine nd_iload_n hC dX7_readAtom_21 rfl ?_
          first | with_reducible refine nd_iaddN hC dX7_readAtom_22 ?_ | refine nd_iadd hC dX7_readAtom_22 ?_
          refine mo_callV (As := [_]) (d2 := d - 1) hC hw rfl lkX7_162 lyX7_162 (Nat.le_of_ble_eq_true rfl) (by omega) rfl (by exact Nat.le_of_ble_eq_true rfl) (Nat.zero_le _) (Nat.zero_le _) dX7_readAtom_23 rfl ((sr_lay hg hw hlo (hQ.y fr hZ2 rfl) (by show x.1.length < 900; omega) (fun A3 h3 hw fr3 hQ3 => ?_)))
          refine nd_goto hC (tgt := 83) dX7_readAtom_26 (by decide) ?_
          refine nd_return hC rfl (by omega) (by omega) dX7_readAtom_83 ((hk A3 F2 h3 hw fr3 fr.u hQ3))
      · have htp2 := htp
        have eZ := tx_bind_g (x := x) (f := tx_atom T (tx_m lm) (tx_dn (tx_sum T (tx_m lm)) k)) (f2 := fun p => if tx_k T p = 40 then (match tx_dn (tx_sum T (tx_m lm)) k with
          | none => .inr (4, tx_b T p)
          | some r => tx_bind (tx_bind (tx_on T p) r) (tx_must T 41)) else if tx_k T p = 2 then tx_bind (tx_on T p) (tx_lay (1000 + tx_v T p)) else .inr (tx_e T p 2)) (by show tx_atom T (tx_m lm) (tx_dn (tx_sum T (tx_m lm)) k) x.2 = _; unfold tx_atom; rw [hj]; rfl)
        rw [eZ] at hk
        clear eZ
        refine nd_istore_n hC dX7_readAtom_12 (Nat.le_of_ble_eq_true rfl) ?_
        refine nd_iload_n hC dX7_readAtom_13 rfl ?_
        refine nd_iconst hC (v := -1) (by rfl) dX7_readAtom_14 ?_
        first | with_reducible refine nd_icmp_eqN hC (tgt := 29) (by omega) (by omega) dX7_readAtom_15 (by decide) (fun hq => ?_) (fun hq => ?_) | refine nd_icmp_eq hC (tgt := 29) dX7_readAtom_15 (by decide) (fun hq => ?_) (fun hq => ?_)
        · refine nd_aload_n hC dX7_readAtom_29 rfl rfl ?_
          refine nd_bipush hC (v := nI 40) (by rfl) dX7_readAtom_30 ?_
          refine mo_callV (As := [_]) (d2 := d - 1) hC hw rfl lkX7_175 lyX7_175 (Nat.le_of_ble_eq_true rfl) (by omega) rfl (by exact Nat.le_of_ble_eq_true rfl) (Nat.zero_le _) (Nat.zero_le _) dX7_readAtom_32 rfl ((sr_isSign hg hw hZ2 (by omega) ?_))
          rw [show tx_is T 40 (.inl x) = decide (tx_k T x.2 = 40) from rfl]
          first | with_reducible refine nd_if_eqB hC (tgt := 65) dX7_readAtom_35 (by decide) (fun hs => ?_) (fun hs => ?_) | with_reducible refine nd_if_eqN hC (tgt := 65) (by omega) dX7_readAtom_35 (by decide) (fun hs => ?_) (fun hs => ?_) | refine nd_if_eq hC (tgt := 65) dX7_readAtom_35 (by decide) (fun hs => ?_) (fun hs => ?_)
          · have hs := of_decide_eq_false hs
            rw [tx_bind_g (f2 := fun p => if tx_k T p = 2 then tx_bind (tx_on T p) (tx_lay (1000 + tx_v T p)) else .inr (tx_e T p 2)) (if_neg hs)] at hk
            refine nd_aload_n hC dX7_readAtom_65 rfl rfl ?_
            refine nd_iconst hC (v := nI 0) (by rfl) dX7_readAtom_66 ?_
            refine nd_sipush hC (v := nI 999) (by rfl) dX7_readAtom_67 ?_
            refine mo_callV (As := [_, _]) (d2 := d - 1) hC hw rfl lkX7_209 lyX7_209 (Nat.le_of_ble_eq_true rfl) (by omega) rfl (by exact Nat.le_of_ble_eq_true rfl) (Nat.zero_le _) (Nat.zero_le _) dX7_readAtom_70 rfl ((sr_number (r := .inl x) hg (by omega) hw htp hin hZ2 (by omega) (fun v F3 h3 hw fr3 hZ3 hv => ?_)))
            refine nd_istore_n hC dX7_readAtom_73 (Nat.le_of_ble_eq_true rfl) ?_
            refine nd_aload_n hC dX7_readAtom_74 rfl rfl ?_
            refine nd_sipush hC (v := nI 1000) (by rfl) dX7_readAtom_75 ?_
            refine nd_iload_n hC dX7_readAtom_78 rfl ?_
            first | with_reducible refine nd_iaddN hC dX7_readAtom_79 ?_ | refine nd_iadd hC dX7_readAtom_79 ?_
            cases hnum : tx_num T 999 x.2 with
            | inl y =>
              obtain ⟨n1, n2, n3⟩ := tx_num_inl hnum
              rw [hv x y rfl hnum]
              rw [tx_bind_c hnum, n3] at hZ3
              have hgt := tx_h_gt (T := T) (p := x.2) (by omega)
              have hbg := tx_b_ge T x.2
              have hhl := tx_h_le T hin
              rw [tx_bind_g (f2 := fun p => tx_bind (tx_on T p) (tx_lay (1000 + tx_v T p))) (if_pos n1), tx_bind_c (y := ([1000 + tx_v T x.2], tx_h T x.2)) rfl] at hk
              refine nd_v_eq (y := .int (nI (1000 + tx_v T x.2))) (congrArg Value.int (nI_add ..)) ?_
              refine mo_callV (As := [_]) (d2 := d - 1) hC hw rfl lkX7_162 lyX7_162 (Nat.le_of_ble_eq_true rfl) (by omega) rfl (by exact Nat.le_of_ble_eq_true rfl) (Nat.zero_le _) (Nat.zero_le _) dX7_readAtom_80 rfl ((sr_lay (x := (x.1, tx_h T x.2)) hg hw hlo (hQ.y (fr.trans fr3) hZ3 rfl) (by show x.1.length < 900; omega) (fun A4 h4 hw fr4 hQ4 => ?_)))
              refine nd_return hC rfl (by omega) (by omega) dX7_readAtom_83 ((hk A4 F3 h4 hw fr4 (fr.trans fr3).u hQ4))
            | inr e =>
              rw [tx_bind_ce hnum] at hZ3
              have n2 : tx_k T x.2 ≠ 2 := by
                intro q
                unfold tx_num at hnum
                rw [if_pos q, if_pos (by have := (tx_v_lt T x.2 q).1; omega)] at hnum
                cases hnum
              have ee : e = tx_e T x.2 2 := by
                unfold tx_num at hnum
                rw [if_neg n2] at hnum
                cases hnum; rfl
              rw [tx_bind_ce (e := e) (by rw [ee]; exact if_neg n2)] at hk
              refine mo_callV (As := [_]) (d2 := d - 1) hC hw rfl lkX7_162 lyX7_162 (Nat.le_of_ble_eq_true rfl) (by omega) rfl (by exact Nat.le_of_ble_eq_true rfl) (Nat.zero_le _) (Nat.zero_le _) dX7_readAtom_80 rfl ((sr_layE hg hw hZ3 ?_))
              refine nd_return hC rfl (by omega) (by omega) dX7_readAtom_83 ((hk A F3 h3 hw (fun _ _ => rfl) (fr.trans fr3).u (tx_Q.e hZ3)))
          · have hs := of_decide_eq_true hs
            refine nd_aload_n hC dX7_readAtom_38 rfl rfl ?_
            refine mo_callV (As := []) (d2 := d - 1) hC hw rfl lkX7_172 lyX7_172 (Nat.le_of_ble_eq_true rfl) (by omega) rfl (by exact Nat.le_of_ble_eq_true rfl) (Nat.zero_le _) (Nat.zero_le _) dX7_readAtom_39 rfl ((sr_goesIn (r := .inl x) hg (by omega) hw htp hin (by omega) hZ2 (fun F3 h3 hw fr3 hZ3 => ?_)))
            have JE : ∀ (e : Nat × Nat) A4 F4 h4, mo_W h0 A4 F4 B h4 → (∀ k, k ≠ 1 → A4 k = A k) → tx_u F F4 → tx_Z T (dp + 1) (.inr e) F4 → tx_bind (.inl x) (fun p => if tx_k T p = 40 then (match tx_dn (tx_sum T (tx_m lm)) k with
                | none => .inr (4, tx_b T p)
                | some r => tx_bind (tx_bind (tx_on T p) r) (tx_must T 41)) else if tx_k T p = 2 then tx_bind (tx_on T p) (tx_lay (1000 + tx_v T p)) else .inr (tx_e T p 2)) = .inr e → nd_W g mX7_readAtom d 0 0 K X 52 [some (.ref 101), some (.int (-1)), none] [] h4 0 0 := by
              intro e A4 F4 h4 hw frA frF hZ4 er
              rw [er] at hk
              refine nd_aload_n hC dX7_readAtom_52 rfl rfl ?_
              refine nd_dup hC (by rfl) dX7_readAtom_53 ?_
              refine mo_get_deep hC hw rfl dX7_readAtom_54 ?_
              refine nd_iconst hC (v := nI 1) (by rfl) dX7_readAtom_57 ?_
              first | with_reducible refine nd_isubN hC (by omega) dX7_readAtom_58 ?_ | refine nd_isub hC dX7_readAtom_58 ?_
              refine mo_put_deep hC hw rfl dX7_readAtom_59 (fun h hw => ?_)
              refine nd_goto hC (tgt := 83) dX7_readAtom_62 (by decide) ?_
              refine nd_return hC rfl (by omega) (by omega) dX7_readAtom_83 ((hk A4 _ h hw frA (frF.up (by omega)) (tx_Q.e (dp2 := dp + 1) hZ4)))
            cases k with
            | zero =>
              have e6 : dp = 6 := by omega
              have eg : tx_bind (.inl x) (tx_go T dp) = .inr (4, tx_b T x.2) := tx_bind_ce (by unfold tx_go tx_e; rw [if_pos e6, if_neg (by omega)])
              rw [eg] at hZ3
              refine nd_aload_n hC dX7_readAtom_42 rfl rfl ?_
              refine mo_callV (As := []) (d2 := d - 1) hC hw rfl lkX7_181 lyX7_181 (Nat.le_of_ble_eq_true rfl) (by omega) rfl (by exact Nat.le_of_ble_eq_true rfl) (Nat.zero_le _) (Nat.zero_le _) dX7_readAtom_43 rfl ((sr_sumE hg (by omega) hw hZ3 ?_))
              refine nd_aload_n hC dX7_readAtom_46 rfl rfl ?_
              refine nd_bipush hC (v := nI 41) (by rfl) dX7_readAtom_47 ?_
              refine mo_callV (As := [_]) (d2 := d - 1) hC hw rfl lkX7_151 lyX7_151 (Nat.le_of_ble_eq_true rfl) (by omega) rfl (by exact Nat.le_of_ble_eq_true rfl) (Nat.zero_le _) (Nat.zero_le _) dX7_readAtom_49 rfl ((sr_mustSign hg (by omega) hw htp (r := .inr (4, tx_b T x.2)) trivial hZ3 (by omega) (fun F4 h4 hw fr4 hZ4 => ?_)))
              exact JE _ A F4 h4 hw (fun _ _ => rfl) ((fr.trans fr3).trans fr4).u hZ4 (tx_bind_ce (if_pos hs))
            | succ k2 =>
              have eg : tx_bind (.inl x) (tx_go T dp) = .inl (x.1, tx_h T x.2) := by
                rw [tx_bind_g (f2 := tx_on T) (by unfold tx_go; rw [if_neg (by omega)])]
                exact tx_bind_on T x
              rw [eg] at hZ3
              have hgt := tx_h_gt (T := T) (p := x.2) (by omega)
              have hbg := tx_b_ge T x.2
              have hhl := tx_h_le T hin
              have eR : tx_bind (.inl x) (fun p => if tx_k T p = 40 then (match tx_dn (tx_sum T (tx_m lm)) (k2 + 1) with
                | none => .inr (4, tx_b T p)
                | some r => tx_bind (tx_bind (tx_on T p) r) (tx_must T 41)) else if tx_k T p = 2 then tx_bind (tx_on T p) (tx_lay (1000 + tx_v T p)) else .inr (tx_e T p 2)) = tx_bind (tx_bind (.inl (x.1, tx_h T x.2)) (tx_sum T (tx_m lm) k2)) (tx_must T 41) := by
                rw [tx_bind_g (f2 := fun p => tx_bind (tx_bind (tx_on T p) (tx_sum T (tx_m lm) k2)) (tx_must T 41)) (if_pos hs), ← tx_bind_on, tx_bind_a, tx_bind_a]
                congr 1
                funext p
                rw [tx_bind_a]
              have hb2 : tx_gd T 0 (.inl (x.1, tx_h T x.2)) := ⟨by show 0 + x.1.length ≤ tx_h T x.2; omega, hhl⟩
              have hb3 := tx_gd_bind hb2 (tx_G_sum T (tx_m lm) k2)
              refine nd_aload_n hC dX7_readAtom_42 rfl rfl ?_
              refine mo_callV (As := []) (d2 := d - 1) hC hw rfl lkX7_181 lyX7_181 (Nat.le_of_ble_eq_true rfl) (by omega) rfl (by exact Nat.le_of_ble_eq_true rfl) (Nat.zero_le _) (Nat.zero_le _) dX7_readAtom_43 rfl ((hsub k2 rfl _ f0 A F3 B h3 _ htp hw (hQ.y (fr.trans fr3) hZ3 rfl) hb2 (fun A4 F4 h4 hw frA frF hQ4 => ?_)))
              refine nd_aload_n hC dX7_readAtom_46 rfl rfl ?_
              refine nd_bipush hC (v := nI 41) (by rfl) dX7_readAtom_47 ?_
              refine mo_callV (As := [_]) (d2 := d - 1) hC hw rfl lkX7_151 lyX7_151 (Nat.le_of_ble_eq_true rfl) (by omega) rfl (by exact Nat.le_of_ble_eq_true rfl) (Nat.zero_le _) (Nat.zero_le _) dX7_readAtom_49 rfl ((sr_mustSign hg (by omega) hw (htp.k frA) hb3.i hQ4.1 (by omega) (fun F5 h5 hw fr5 hZ5 => ?_)))
              cases e5 : tx_bind (tx_bind (.inl (x.1, tx_h T x.2)) (tx_sum T (tx_m lm) k2)) (tx_must T 41) with
              | inr e =>
                rw [e5] at hZ5
                exact JE e A4 F5 h5 hw frA (((fr.trans fr3).u.trans frF).trans fr5.u) hZ5 (eR.trans e5)
              | inl z =>
                rw [e5] at hZ5
                rw [eR, e5] at hk
                obtain ⟨x4, y4, q1, q2, q3⟩ := tx_bind_inl e5
                rw [q1] at hQ4
                obtain ⟨a17, a18, aL⟩ := hQ4.2 x4 rfl
                have ey : y4.1 = [] := by
                  unfold tx_must at q2
                  split at q2
                  · cases q2; rfl
                  · cases q2
                have ez : z.1 = x4.1 := by rw [q3, ey, List.append_nil]
                have g16 : F5 16 = nI (dp + 1) := hZ5.2.2.2.2.2.2
                refine nd_aload_n hC dX7_readAtom_52 rfl rfl ?_
                refine nd_dup hC (by rfl) dX7_readAtom_53 ?_
                refine mo_get_deep hC hw rfl dX7_readAtom_54 ?_
                refine nd_v_eq (congrArg Value.int (g16)) ?_
                refine nd_iconst hC (v := nI 1) (by rfl) dX7_readAtom_57 ?_
                first | with_reducible refine nd_isubN hC (by omega) dX7_readAtom_58 ?_ | refine nd_isub hC dX7_readAtom_58 ?_
                refine mo_put_deep hC hw rfl dX7_readAtom_59 (fun h hw => ?_)
                refine nd_goto hC (tgt := 83) dX7_readAtom_62 (by decide) ?_
                refine nd_return hC rfl (by omega) (by omega) dX7_readAtom_83 (hk A4 _ h hw frA (((fr.trans fr3).u.trans frF).trans (fr5.u.up (by omega))) ⟨?_, fun z2 ez2 => ?_⟩)
                · obtain ⟨w1, w2, w3, w4, w5, w6, w7⟩ := hZ5
                  exact ⟨w1, w2, w3, w4, w5, w6, rfl⟩
                · cases ez2
                  exact ⟨(fr5 17 (by omega)).trans a17, (fr5 18 (by omega)).trans a18, by rw [ez]; exact aL⟩
        · exact absurd rfl hq
    · exact absurd rfl hc
end RT3

