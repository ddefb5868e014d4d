set_option maxRecDepth 100000
def mo_fs (k : Nat → Int32) (fs : List Nat) : Prop := k 7 = nI fs.length ∧ ∀ i, i < fs.length → k (8 + i) = nI (fs.getD i 0)
abbrev mo_fr (k : Nat → Int32) : Nat → Int32 := fun c => k (13 + c)
abbrev mo_bk (k : Nat → Int32) : Nat → Int32 := fun c => k (19 + c)
/-- places of cells -/
def mo_pl (f : Nat → Int32) (l : List (List Nat)) (n : Nat) : Prop := ∀ c, c < n → f c = nI (lk_pos l c)
section MO5
variable {g : nd_G} {d : Nat} {K : nd_K} {h h0 : nd_H} {A : Nat → Nat → Int32} {F : Nat → Int32} {B : Nat → Nat → Int64} {f : Nat → Int32}
theorem sp_laysNow (hg : nd_OK g) (hd : 3 ≤ d) {n : Nat} {fs : List Nat} (hw : mo_W h0 A F B h) (hc : A 0 1 = nI n) (hn : n ≤ 6) (hf : mo_fs (A 0) fs) (hv : lk_val (lk_flat n) fs) (hk : ∀ f2 h2, mo_lk f2 fs.length (lk_run (lk_flat n) fs) → mo_W h0 (va_up A 19 f2) F B h2 → K (.inl (some (.int (nI fs.length)))) h2) : nd_M g mX7_laysNow d 0 0 [.ref 101] h K := by
  have h5 := lk_val_le hn hv
  refine nd_enter hg (by decide) rfl (Nat.le_of_ble_eq_true rfl) (fun X hC => ?_)
  refine nd_aload_n hC dX7_laysNow_0 rfl rfl ?_
  refine mo_callV (As := []) (d2 := d - 1) hC hw rfl lkX7_277 lyX7_277 (Nat.le_of_ble_eq_true rfl) (by omega) rfl (by exact Nat.le_of_ble_eq_true rfl) (Nat.zero_le _) (Nat.zero_le _) dX7_laysNow_1 rfl ((sp_laysFlat hg (by omega) hw hc hn ?_))
  intro f1 h hl hw
  refine nd_iconst hC (v := nI 0) (by rfl) dX7_laysNow_4 ?_
  refine nd_istore_n hC dX7_laysNow_5 (Nat.le_of_ble_eq_true rfl) ?_
  have L : ∀ i, i ≤ fs.length → ∀ f2 h2 l, mo_lk f2 i l → lk_ok n l → lk_val l (fs.drop i) → lk_run l (fs.drop i) = lk_run (lk_flat n) fs → mo_W h0 (va_up A 19 f2) F B h2 → nd_W g mX7_laysNow d 0 0 K X 6 [some (.ref 101), some (.int (nI i))] [] h2 0 0 := by
    refine nd_for fs.length _ ?_ ?_
    · intro f2 h l hl hok hv2 hr hw
      refine nd_iload_n hC dX7_laysNow_6 rfl ?_
      refine nd_aload_n hC dX7_laysNow_7 rfl rfl ?_
      refine mo_get_known hC hw rfl dX7_laysNow_8 ?_
      refine nd_bipush hC (v := nI 7) (by rfl) dX7_laysNow_11 ?_
      refine nd_ialoadN hC hw.known (by omega) (by decide) dX7_laysNow_13 ?_
      refine nd_v_eq (y := .int (nI fs.length)) (by rw [va_up_n A f2 (by decide), hf.1]) ?_
      first | with_reducible refine nd_icmp_geN hC (tgt := 52) (by omega) (by omega) dX7_laysNow_14 (by decide) (fun hc => ?_) (fun hc => ?_) | refine nd_icmp_ge hC (tgt := 52) dX7_laysNow_14 (by decide) (fun hc => ?_) (fun hc => ?_)
      · refine nd_aload_n hC dX7_laysNow_52 rfl rfl ?_
        refine mo_get_known hC hw rfl dX7_laysNow_53 ?_
        refine nd_bipush hC (v := nI 7) (by rfl) dX7_laysNow_56 ?_
        refine nd_ialoadN hC hw.known (by omega) (by decide) dX7_laysNow_58 ?_
        refine nd_v_eq (y := .int (nI fs.length)) (by rw [va_up_n A f2 (by decide), hf.1]) ?_
        refine nd_ireturn hC rfl (by first | rfl | exact nd_b_nar _) (by omega) (by omega) dX7_laysNow_59 ((hk f2 h (by rw [← hr, List.drop_length]; exact hl) hw))
      · omega
    · intro i hi ih f2 h l hl hok hv2 hr hw
      have ed : fs.drop i = fs.getD i 0 :: fs.drop (i + 1) := by
        rw [List.drop_eq_getElem_cons hi, List.getD_eq_getElem?_getD, List.getElem?_eq_getElem hi]; rfl
      rw [ed] at hv2 hr
      have e8 : (va_up A 19 f2) 0 (8 + i) = nI (fs.getD i 0) := by rw [va_up_n A f2 (by decide), hf.2 i hi]
      have hlt : fs.getD i 0 < 2 ^ 31 := by have := hv2.1; have := lk_width hok; omega
      refine nd_iload_n hC dX7_laysNow_6 rfl ?_
      refine nd_aload_n hC dX7_laysNow_7 rfl rfl ?_
      refine mo_get_known hC hw rfl dX7_laysNow_8 ?_
      refine nd_bipush hC (v := nI 7) (by rfl) dX7_laysNow_11 ?_
      refine nd_ialoadN hC hw.known (by omega) (by decide) dX7_laysNow_13 ?_
      refine nd_v_eq (y := .int (nI fs.length)) (by rw [va_up_n A f2 (by decide), hf.1]) ?_
      first | with_reducible refine nd_icmp_geN hC (tgt := 52) (by omega) (by omega) dX7_laysNow_14 (by decide) (fun hc => ?_) (fun hc => ?_) | refine nd_icmp_ge hC (tgt := 52) dX7_laysNow_14 (by decide) (fun hc => ?_) (fun hc => ?_)
      · omega
      refine nd_aload_n hC dX7_laysNow_17 rfl rfl ?_
      refine nd_iload_n hC dX7_laysNow_18 rfl ?_
      refine nd_aload_n hC dX7_laysNow_19 rfl rfl ?_
      refine mo_get_known hC hw rfl dX7_laysNow_20 ?_
      refine nd_bipush hC (v := nI 8) (by rfl) dX7_laysNow_23 ?_
      refine nd_iload_n hC dX7_laysNow_25 rfl ?_
      first | with_reducible refine nd_iaddN hC dX7_laysNow_26 ?_ | refine nd_iadd hC dX7_laysNow_26 ?_
      refine nd_ialoadN hC hw.known (by omega) (by decide) dX7_laysNow_27 ?_
      rw [e8]
      refine nd_bipush hC (v := nI 10) (by rfl) dX7_laysNow_28 ?_
      first | with_reducible refine nd_idivN hC (by omega) (by omega) (by omega) dX7_laysNow_30 ?_ | refine nd_idiv hC (by decide) dX7_laysNow_30 ?_
      refine nd_aload_n hC dX7_laysNow_31 rfl rfl ?_
      refine mo_get_known hC hw rfl dX7_laysNow_32 ?_
      refine nd_bipush hC (v := nI 8) (by rfl) dX7_laysNow_35 ?_
      refine nd_iload_n hC dX7_laysNow_37 rfl ?_
      first | with_reducible refine nd_iaddN hC dX7_laysNow_38 ?_ | refine nd_iadd hC dX7_laysNow_38 ?_
      refine nd_ialoadN hC hw.known (by omega) (by decide) dX7_laysNow_39 ?_
      rw [e8]
      refine nd_bipush hC (v := nI 10) (by rfl) dX7_laysNow_40 ?_
      first | with_reducible refine nd_iremN hC (by omega) (by omega) (by omega) dX7_laysNow_42 ?_ | refine nd_irem hC (by decide) dX7_laysNow_42 ?_
      refine mo_callV (As := [_, _, _]) (d2 := d - 1) hC hw rfl lkX7_280 lyX7_280 (Nat.le_of_ble_eq_true rfl) (by omega) rfl (by exact Nat.le_of_ble_eq_true rfl) (Nat.zero_le _) (Nat.zero_le _) dX7_laysNow_43 rfl ((sp_folds hg (by omega) hw (by omega) hl hok hn hv2.1.1 hv2.1.2.1 hv2.1.2.2 ?_))
      intro f3 h hf3 hl3 hw
      first | with_reducible refine nd_iincN hC dX7_laysNow_46 rfl (Nat.le_of_ble_eq_true rfl) ?_ | refine nd_iinc hC dX7_laysNow_46 rfl rfl (Nat.le_of_ble_eq_true rfl) ?_
      refine nd_goto hC (tgt := 6) dX7_laysNow_49 (by decide) ?_
      exact ih f3 h _ hl3 (lk_fold_ok hok hv2.1.1 hv2.1.2.1) hv2.2 hr hw
  exact L 0 (Nat.zero_le _) f1 h _ hl (lk_flat_ok n) hv rfl hw
theorem sp_markOf (hg : nd_OK g) (hw : mo_W h0 A F B h) {x : Nat} {b : Bool} (hx : x < 12) (hk : K (.inl (some (.int (lk_mk (mo_fr (A 0)) (mo_bk (A 0)) (bif b then x else x ^^^ 1))))) h) : nd_M g mX7_markOf d 0 0 [.ref 101, .int (nI x), .int (nd_b b)] h K := by
  have e1 : ∀ y, y < 12 → (y ^^^ 1) / 2 = y / 2 ∧ ((y ^^^ 1) % 2 = 1 ↔ ¬ y % 2 = 1) := by decide
  refine nd_enter hg (by decide) rfl (Nat.le_of_ble_eq_true rfl) (fun X hC => ?_)
  have J : ∀ o, o = (if (x % 2 = 1 ↔ b = true) then 0 else 6) → nd_W g mX7_markOf d 0 0 K X 28 [some (.ref 101), some (.int (nI x)), some (.int (nd_b b))] [.int (nI o), .int (nI 13), .ref 102] h 0 0 := by
    intro o ho
    have ho2 : o ≤ 6 := by rw [ho]; split <;> omega
    first | with_reducible refine nd_iaddN hC dX7_markOf_28 ?_ | refine nd_iadd hC dX7_markOf_28 ?_
    refine nd_iload_n hC dX7_markOf_29 rfl ?_
    refine nd_iconst hC (v := nI 2) (by rfl) dX7_markOf_30 ?_
    first | with_reducible refine nd_idivN hC (by omega) (by omega) (by omega) dX7_markOf_31 ?_ | refine nd_idiv hC (by decide) dX7_markOf_31 ?_
    first | with_reducible refine nd_iaddN hC dX7_markOf_32 ?_ | refine nd_iadd hC dX7_markOf_32 ?_
    refine nd_ialoadN hC hw.known (by omega) (by decide) dX7_markOf_33 ?_
    have q : lk_mk (mo_fr (A 0)) (mo_bk (A 0)) (bif b then x else x ^^^ 1) = A 0 (13 + o + x / 2) := by
      unfold lk_mk
      have := e1 x hx
      cases b
      · simp only [cond_false, this.1]
        by_cases hm : x % 2 = 1
        · rw [if_neg (by rw [this.2]; simp [hm]), ho, if_neg (by simp [hm])]
        · rw [if_pos (this.2.mpr hm), ho, if_pos (by simp [hm])]
      · simp only [cond_true]
        by_cases hm : x % 2 = 1
        · rw [if_pos hm, ho, if_pos (by simp [hm])]
        · rw [if_neg hm, ho, if_neg (by simp [hm])]
    rw [q] at hk
    refine nd_ireturn hC rfl (by first | rfl | exact nd_b_nar _) (by omega) (by omega) dX7_markOf_34 (hk)
  have J2 : nd_W g mX7_markOf d 0 0 K X 18 [some (.ref 101), some (.int (nI x)), some (.int (nd_b b))] [.int (nd_b (decide (x % 2 = 1))), .int (nI 13), .ref 102] h 0 0 := by
    refine nd_iload_n hC dX7_markOf_18 rfl ?_
    refine nd_icmp_ne hC (tgt := 26) dX7_markOf_19 (by decide) (fun hc => ?_) (fun hc => ?_)
    · refine nd_bipush hC (v := nI 6) (by rfl) dX7_markOf_26 ?_
      refine J 6 ?_
      by_cases hm : x % 2 = 1 <;> cases b <;> simp_all
    · refine nd_iconst hC (v := nI 0) (by rfl) dX7_markOf_22 ?_
      refine nd_goto hC (tgt := 28) dX7_markOf_23 (by decide) ?_
      refine J 0 ?_
      by_cases hm : x % 2 = 1 <;> cases b <;> simp_all [nd_b] <;> exact absurd hc (by decide)
  refine nd_aload_n hC dX7_markOf_0 rfl rfl ?_
  refine mo_get_known hC hw rfl dX7_markOf_1 ?_
  refine nd_bipush hC (v := nI 13) (by rfl) dX7_markOf_4 ?_
  refine nd_iload_n hC dX7_markOf_6 rfl ?_
  refine nd_iconst hC (v := nI 2) (by rfl) dX7_markOf_7 ?_
  first | with_reducible refine nd_iremN hC (by omega) (by omega) (by omega) dX7_markOf_8 ?_ | refine nd_irem hC (by decide) dX7_markOf_8 ?_
  refine nd_iconst hC (v := nI 1) (by rfl) dX7_markOf_9 ?_
  first | with_reducible refine nd_icmp_neN hC (tgt := 17) (by omega) (by omega) dX7_markOf_10 (by decide) (fun hc => ?_) (fun hc => ?_) | refine nd_icmp_ne hC (tgt := 17) dX7_markOf_10 (by decide) (fun hc => ?_) (fun hc => ?_)
  · refine nd_iconst hC (v := nI 0) (by rfl) dX7_markOf_17 ?_
    rw [decide_eq_false hc] at J2
    exact J2
  · refine nd_iconst hC (v := nI 1) (by rfl) dX7_markOf_13 ?_
    refine nd_goto hC (tgt := 18) dX7_markOf_14 (by decide) ?_
    rw [decide_eq_true hc] at J2
    exact J2
theorem lk_col_at {n : Nat} {l : List (List Nat)} (h : lk_ok n l) {t i : Nat} (ht : t < l.length) (hi : i < (l.getD t []).length) : lk_at l ((l.getD t []).getD i 0) t i := ⟨ht, hi, rfl⟩
theorem lk_col_pos {n : Nat} {l : List (List Nat)} (h : lk_ok n l) {t : Nat} (ht : t < l.length) : 0 < (l.getD t []).length := by
  rw [List.getD_eq_getElem?_getD, List.getElem?_eq_getElem ht]
  exact List.length_pos_iff.mpr (h.2 _ (List.getElem_mem ht))
theorem sp_aboveAt (hg : nd_OK g) (hd : 1 ≤ d) (hw : mo_W h0 A F B h) {p t n : Nat} {l : List (List Nat)} (hp : p ≤ 10) (hl : mo_lk (A 19) p l) (hok : lk_ok n l) (hn : n ≤ 6) (ht : t < l.length) (hk : K (.inl (some (.int (lk_mk (mo_fr (A 0)) (mo_bk (A 0)) (lk_top (l.getD t [])))))) h) : nd_M g mX7_aboveAt d 0 0 [.ref 101, .int (nI p), .int (nI t)] h K := by
  have hpos := lk_col_pos hok ht
  have hlt := lk_at_lt hok hn (lk_col_at hok ht (i := (l.getD t []).length - 1) (by omega))
  refine nd_enter hg (by decide) rfl (Nat.le_of_ble_eq_true rfl) (fun X hC => ?_)
  refine nd_aload_n hC dX7_aboveAt_0 rfl rfl ?_
  refine nd_aload_n hC dX7_aboveAt_1 rfl rfl ?_
  refine nd_iload_n hC dX7_aboveAt_2 rfl ?_
  refine nd_iload_n hC dX7_aboveAt_3 rfl ?_
  refine nd_aload_n hC dX7_aboveAt_4 rfl rfl ?_
  refine nd_iload_n hC dX7_aboveAt_5 rfl ?_
  refine nd_iload_n hC dX7_aboveAt_6 rfl ?_
  refine mo_callV (As := [_, _]) (d2 := d - 1) hC hw rfl lkX7_261 lyX7_261 (Nat.le_of_ble_eq_true rfl) (by omega) rfl (by exact Nat.le_of_ble_eq_true rfl) (Nat.zero_le _) (Nat.zero_le _) dX7_aboveAt_7 rfl ((sp_highAt hg hw (by omega) ?_))
  refine nd_v_eq (y := .int (nI (l.getD t []).length)) (by rw [(hl.2 t ht).1]) ?_
  refine nd_iconst hC (v := nI 1) (by rfl) dX7_aboveAt_10 ?_
  first | with_reducible refine nd_isubN hC (by omega) dX7_aboveAt_11 ?_ | refine nd_isub hC dX7_aboveAt_11 ?_
  refine mo_callV (As := [_, _, _]) (d2 := d - 1) hC hw rfl lkX7_264 lyX7_264 (Nat.le_of_ble_eq_true rfl) (by omega) rfl (by exact Nat.le_of_ble_eq_true rfl) (Nat.zero_le _) (Nat.zero_le _) dX7_aboveAt_12 rfl ((sp_layerAt hg hw (by omega) ?_))
  refine nd_v_eq (y := .int (nI ((l.getD t []).getD ((l.getD t []).length - 1) 0))) (by rw [(hl.2 t ht).2 _ (by omega)]) ?_
  refine nd_iconst hC (v := nI 1) (by rfl) dX7_aboveAt_15 ?_
  refine mo_callV (As := [_, _]) (d2 := d - 1) hC hw rfl lkX7_283 lyX7_283 (Nat.le_of_ble_eq_true rfl) (by omega) rfl (by exact Nat.le_of_ble_eq_true rfl) (Nat.zero_le _) (Nat.zero_le _) dX7_aboveAt_16 rfl ((sp_markOf (b := true) hg hw hlt.1 ?_))
  refine nd_ireturn hC rfl (by first | rfl | exact nd_b_nar _) (by omega) (by omega) dX7_aboveAt_19 (hk)
theorem sp_beneathAt (hg : nd_OK g) (hd : 1 ≤ d) (hw : mo_W h0 A F B h) {p t n : Nat} {l : List (List Nat)} (hp : p ≤ 10) (hl : mo_lk (A 19) p l) (hok : lk_ok n l) (hn : n ≤ 6) (ht : t < l.length) (hk : K (.inl (some (.int (lk_mk (mo_fr (A 0)) (mo_bk (A 0)) (lk_bot (l.getD t [])))))) h) : nd_M g mX7_beneathAt d 0 0 [.ref 101, .int (nI p), .int (nI t)] h K := by
  have hpos := lk_col_pos hok ht
  have hlt := lk_at_lt hok hn (lk_col_at hok ht (i := 0) (by omega))
  refine nd_enter hg (by decide) rfl (Nat.le_of_ble_eq_true rfl) (fun X hC => ?_)
  refine nd_aload_n hC dX7_beneathAt_0 rfl rfl ?_
  refine nd_aload_n hC dX7_beneathAt_1 rfl rfl ?_
  refine nd_iload_n hC dX7_beneathAt_2 rfl ?_
  refine nd_iload_n hC dX7_beneathAt_3 rfl ?_
  refine nd_iconst hC (v := nI 0) (by rfl) dX7_beneathAt_4 ?_
  refine mo_callV (As := [_, _, _]) (d2 := d - 1) hC hw rfl lkX7_264 lyX7_264 (Nat.le_of_ble_eq_true rfl) (by omega) rfl (by exact Nat.le_of_ble_eq_true rfl) (Nat.zero_le _) (Nat.zero_le _) dX7_beneathAt_5 rfl ((sp_layerAt hg hw (by omega) ?_))
  refine nd_v_eq (y := .int (nI ((l.getD t []).getD 0 0))) (by rw [(hl.2 t ht).2 _ (by omega)]) ?_
  refine nd_iconst hC (v := nI 0) (by rfl) dX7_beneathAt_8 ?_
  refine mo_callV (As := [_, _]) (d2 := d - 1) hC hw rfl lkX7_283 lyX7_283 (Nat.le_of_ble_eq_true rfl) (by omega) rfl (by exact Nat.le_of_ble_eq_true rfl) (Nat.zero_le _) (Nat.zero_le _) dX7_beneathAt_9 rfl ((sp_markOf (b := false) hg hw hlt.1 ?_))
  refine nd_ireturn hC rfl (by first | rfl | exact nd_b_nar _) (by omega) (by omega) dX7_beneathAt_12 (hk)
theorem lk_hi_le {n : Nat} {l : List (List Nat)} (h : lk_ok n l) (t : Nat) : lk_hi l t ≤ n := by
  induction t with
  | zero => simp [lk_hi]
  | succ t ih =>
    have := lk_one l t
    have := lk_len h
    simp only [lk_hi]
    omega
theorem sp_highestAt (hg : nd_OK g) (hd : 1 ≤ d) (hw : mo_W h0 A F B h) {p n : Nat} {l : List (List Nat)} (hp : p ≤ 10) (hl : mo_lk (A 19) p l) (hok : lk_ok n l) (hn : n ≤ 6) (hk : K (.inl (some (.int (nI (lk_hi l l.length))))) h) : nd_M g mX7_highestAt d 0 0 [.ref 101, .int (nI p)] h K := by
  have hwd := lk_width hok
  refine nd_enter hg (by decide) rfl (Nat.le_of_ble_eq_true rfl) (fun X hC => ?_)
  refine nd_iconst hC (v := nI 0) (by rfl) dX7_highestAt_0 ?_
  refine nd_istore_n hC dX7_highestAt_1 (Nat.le_of_ble_eq_true rfl) ?_
  refine nd_iconst hC (v := nI 0) (by rfl) dX7_highestAt_2 ?_
  refine nd_istore_n hC dX7_highestAt_3 (Nat.le_of_ble_eq_true rfl) ?_
  have L : ∀ t, t ≤ l.length → nd_W g mX7_highestAt d 0 0 K X 4 [some (.ref 101), some (.int (nI p)), some (.int (nI (lk_hi l t))), some (.int (nI t))] [] h 0 0 := by
    refine nd_for l.length _ ?_ ?_
    · refine nd_iload_n hC dX7_highestAt_4 rfl ?_
      refine nd_aload_n hC dX7_highestAt_5 rfl rfl ?_
      refine nd_iload_n hC dX7_highestAt_6 rfl ?_
      refine mo_callV (As := [_]) (d2 := d - 1) hC hw rfl lkX7_256 lyX7_256 (Nat.le_of_ble_eq_true rfl) (by omega) rfl (by exact Nat.le_of_ble_eq_true rfl) (Nat.zero_le _) (Nat.zero_le _) dX7_highestAt_7 rfl ((sp_columnsAt hg hw hp ?_))
      refine nd_v_eq (y := .int (nI l.length)) (by rw [hl.1]) ?_
      first | with_reducible refine nd_icmp_geN hC (tgt := 30) (by omega) (by omega) dX7_highestAt_10 (by decide) (fun hc => ?_) (fun hc => ?_) | refine nd_icmp_ge hC (tgt := 30) dX7_highestAt_10 (by decide) (fun hc => ?_) (fun hc => ?_)
      · refine nd_iload_n hC dX7_highestAt_30 rfl ?_
        refine nd_ireturn hC rfl (by first | rfl | exact nd_b_nar _) (by omega) (by omega) dX7_highestAt_31 (hk)
      · omega
    · intro t ht ih
      have := lk_hi_le hok t
      have := lk_one l t
      have := lk_len hok
      refine nd_iload_n hC dX7_highestAt_4 rfl ?_
      refine nd_aload_n hC dX7_highestAt_5 rfl rfl ?_
      refine nd_iload_n hC dX7_highestAt_6 rfl ?_
      refine mo_callV (As := [_]) (d2 := d - 1) hC hw rfl lkX7_256 lyX7_256 (Nat.le_of_ble_eq_true rfl) (by omega) rfl (by exact Nat.le_of_ble_eq_true rfl) (Nat.zero_le _) (Nat.zero_le _) dX7_highestAt_7 rfl ((sp_columnsAt hg hw hp ?_))
      refine nd_v_eq (y := .int (nI l.length)) (by rw [hl.1]) ?_
      first | with_reducible refine nd_icmp_geN hC (tgt := 30) (by omega) (by omega) dX7_highestAt_10 (by decide) (fun hc => ?_) (fun hc => ?_) | refine nd_icmp_ge hC (tgt := 30) dX7_highestAt_10 (by decide) (fun hc => ?_) (fun hc => ?_)
      · omega
      refine nd_iload_n hC dX7_highestAt_13 rfl ?_
      refine nd_aload_n hC dX7_highestAt_14 rfl rfl ?_
      refine nd_iload_n hC dX7_highestAt_15 rfl ?_
      refine nd_iload_n hC dX7_highestAt_16 rfl ?_
      refine mo_callV (As := [_, _]) (d2 := d - 1) hC hw rfl lkX7_261 lyX7_261 (Nat.le_of_ble_eq_true rfl) (by omega) rfl (by exact Nat.le_of_ble_eq_true rfl) (Nat.zero_le _) (Nat.zero_le _) dX7_highestAt_17 rfl ((sp_highAt hg hw (by omega) ?_))
      refine nd_v_eq (y := .int (nI (l.getD t []).length)) (by rw [(hl.2 t ht).1]) ?_
      first | ((with_reducible refine nd_tst2 ?_); refine nd_mmaxN hC (by omega) (by omega) q3022 (by omega) (by omega) (by exact Nat.le_of_ble_eq_true rfl) dX7_highestAt_20 ?_) | refine nd_mmax hC q3022 (by omega) (by omega) (by exact Nat.le_of_ble_eq_true rfl) dX7_highestAt_20 ?_
      refine nd_istore_n hC dX7_highestAt_23 (Nat.le_of_ble_eq_true rfl) ?_
      first | with_reducible refine nd_iincN hC dX7_highestAt_24 rfl (Nat.le_of_ble_eq_true rfl) ?_ | refine nd_iinc hC dX7_highestAt_24 rfl rfl (Nat.le_of_ble_eq_true rfl) ?_
      refine nd_goto hC (tgt := 4) dX7_highestAt_27 (by decide) ?_
      exact ih
  exact L 0 (Nat.zero_le _)
theorem sp_topAt (hg : nd_OK g) (hd : 2 ≤ d) (hw : mo_W h0 A F B h) {p n : Nat} {l : List (List Nat)} (hp : p ≤ 10) (hl : mo_lk (A 19) p l) (hok : lk_ok n l) (hn : n ≤ 6) (hk : K (.inl (some (.int (lk_tops (mo_fr (A 0)) (mo_bk (A 0)) l)))) h) : nd_M g mX7_topAt d 0 0 [.ref 101, .int (nI p)] h K := by
  have hwd := lk_width hok
  refine nd_enter hg (by decide) rfl (Nat.le_of_ble_eq_true rfl) (fun X hC => ?_)
  refine nd_iconst hC (v := nI 0) (by rfl) dX7_topAt_0 ?_
  refine nd_istore_n hC dX7_topAt_1 (Nat.le_of_ble_eq_true rfl) ?_
  refine nd_iconst hC (v := nI 0) (by rfl) dX7_topAt_2 ?_
  refine nd_istore_n hC dX7_topAt_3 (Nat.le_of_ble_eq_true rfl) ?_
  have L : ∀ t, t ≤ l.length → nd_W g mX7_topAt d 0 0 K X 4 [some (.ref 101), some (.int (nI p)), some (.int (l_sum (fun t => lk_mk (mo_fr (A 0)) (mo_bk (A 0)) (lk_top (l.getD t []))) t)), some (.int (nI t))] [] h 0 0 := by
    refine nd_for l.length _ ?_ ?_
    · refine nd_iload_n hC dX7_topAt_4 rfl ?_
      refine nd_aload_n hC dX7_topAt_5 rfl rfl ?_
      refine nd_iload_n hC dX7_topAt_6 rfl ?_
      refine mo_callV (As := [_]) (d2 := d - 1) hC hw rfl lkX7_256 lyX7_256 (Nat.le_of_ble_eq_true rfl) (by omega) rfl (by exact Nat.le_of_ble_eq_true rfl) (Nat.zero_le _) (Nat.zero_le _) dX7_topAt_7 rfl ((sp_columnsAt hg hw hp ?_))
      refine nd_v_eq (y := .int (nI l.length)) (by rw [hl.1]) ?_
      first | with_reducible refine nd_icmp_geN hC (tgt := 28) (by omega) (by omega) dX7_topAt_10 (by decide) (fun hc => ?_) (fun hc => ?_) | refine nd_icmp_ge hC (tgt := 28) dX7_topAt_10 (by decide) (fun hc => ?_) (fun hc => ?_)
      · refine nd_iload_n hC dX7_topAt_28 rfl ?_
        refine nd_ireturn hC rfl (by first | rfl | exact nd_b_nar _) (by omega) (by omega) dX7_topAt_29 (hk)
      · omega
    · intro t ht ih
      refine nd_iload_n hC dX7_topAt_4 rfl ?_
      refine nd_aload_n hC dX7_topAt_5 rfl rfl ?_
      refine nd_iload_n hC dX7_topAt_6 rfl ?_
      refine mo_callV (As := [_]) (d2 := d - 1) hC hw rfl lkX7_256 lyX7_256 (Nat.le_of_ble_eq_true rfl) (by omega) rfl (by exact Nat.le_of_ble_eq_true rfl) (Nat.zero_le _) (Nat.zero_le _) dX7_topAt_7 rfl ((sp_columnsAt hg hw hp ?_))
      refine nd_v_eq (y := .int (nI l.length)) (by rw [hl.1]) ?_
      first | with_reducible refine nd_icmp_geN hC (tgt := 28) (by omega) (by omega) dX7_topAt_10 (by decide) (fun hc => ?_) (fun hc => ?_) | refine nd_icmp_ge hC (tgt := 28) dX7_topAt_10 (by decide) (fun hc => ?_) (fun hc => ?_)
      · omega
      refine nd_iload_n hC dX7_topAt_13 rfl ?_
      refine nd_aload_n hC dX7_topAt_14 rfl rfl ?_
      refine nd_iload_n hC dX7_topAt_15 rfl ?_
      refine nd_iload_n hC dX7_topAt_16 rfl ?_
      refine mo_callV (As := [_, _]) (d2 := d - 1) hC hw rfl lkX7_287 lyX7_287 (Nat.le_of_ble_eq_true rfl) (by omega) rfl (by exact Nat.le_of_ble_eq_true rfl) (Nat.zero_le _) (Nat.zero_le _) dX7_topAt_17 rfl ((sp_aboveAt hg (by omega) hw hp hl hok hn ht ?_))
      first | with_reducible refine nd_iaddN hC dX7_topAt_20 ?_ | refine nd_iadd hC dX7_topAt_20 ?_
      refine nd_istore_n hC dX7_topAt_21 (Nat.le_of_ble_eq_true rfl) ?_
      first | with_reducible refine nd_iincN hC dX7_topAt_22 rfl (Nat.le_of_ble_eq_true rfl) ?_ | refine nd_iinc hC dX7_topAt_22 rfl rfl (Nat.le_of_ble_eq_true rfl) ?_
      refine nd_goto hC (tgt := 4) dX7_topAt_25 (by decide) ?_
      exact ih
  exact L 0 (Nat.zero_le _)
theorem sp_underAt (hg : nd_OK g) (hd : 2 ≤ d) (hw : mo_W h0 A F B h) {p n : Nat} {l : List (List Nat)} (hp : p ≤ 10) (hl : mo_lk (A 19) p l) (hok : lk_ok n l) (hn : n ≤ 6) (hk : K (.inl (some (.int (lk_unders (mo_fr (A 0)) (mo_bk (A 0)) l)))) h) : nd_M g mX7_underAt d 0 0 [.ref 101, .int (nI p)] h K := by
  have hwd := lk_width hok
  refine nd_enter hg (by decide) rfl (Nat.le_of_ble_eq_true rfl) (fun X hC => ?_)
  refine nd_iconst hC (v := nI 0) (by rfl) dX7_underAt_0 ?_
  refine nd_istore_n hC dX7_underAt_1 (Nat.le_of_ble_eq_true rfl) ?_
  refine nd_iconst hC (v := nI 0) (by rfl) dX7_underAt_2 ?_
  refine nd_istore_n hC dX7_underAt_3 (Nat.le_of_ble_eq_true rfl) ?_
  have L : ∀ t, t ≤ l.length → nd_W g mX7_underAt d 0 0 K X 4 [some (.ref 101), some (.int (nI p)), some (.int (l_sum (fun t => lk_mk (mo_fr (A 0)) (mo_bk (A 0)) (lk_bot (l.getD t []))) t)), some (.int (nI t))] [] h 0 0 := by
    refine nd_for l.length _ ?_ ?_
    · refine nd_iload_n hC dX7_underAt_4 rfl ?_
      refine nd_aload_n hC dX7_underAt_5 rfl rfl ?_
      refine nd_iload_n hC dX7_underAt_6 rfl ?_
      refine mo_callV (As := [_]) (d2 := d - 1) hC hw rfl lkX7_256 lyX7_256 (Nat.le_of_ble_eq_true rfl) (by omega) rfl (by exact Nat.le_of_ble_eq_true rfl) (Nat.zero_le _) (Nat.zero_le _) dX7_underAt_7 rfl ((sp_columnsAt hg hw hp ?_))
      refine nd_v_eq (y := .int (nI l.length)) (by rw [hl.1]) ?_
      first | with_reducible refine nd_icmp_geN hC (tgt := 28) (by omega) (by omega) dX7_underAt_10 (by decide) (fun hc => ?_) (fun hc => ?_) | refine nd_icmp_ge hC (tgt := 28) dX7_underAt_10 (by decide) (fun hc => ?_) (fun hc => ?_)
      · refine nd_iload_n hC dX7_underAt_28 rfl ?_
        refine nd_ireturn hC rfl (by first | rfl | exact nd_b_nar _) (by omega) (by omega) dX7_underAt_29 (hk)
      · omega
    · intro t ht ih
      refine nd_iload_n hC dX7_underAt_4 rfl ?_
      refine nd_aload_n hC dX7_underAt_5 rfl rfl ?_
      refine nd_iload_n hC dX7_underAt_6 rfl ?_
      refine mo_callV (As := [_]) (d2 := d - 1) hC hw rfl lkX7_256 lyX7_256 (Nat.le_of_ble_eq_true rfl) (by omega) rfl (by exact Nat.le_of_ble_eq_true rfl) (Nat.zero_le _) (Nat.zero_le _) dX7_underAt_7 rfl ((sp_columnsAt hg hw hp ?_))
      refine nd_v_eq (y := .int (nI l.length)) (by rw [hl.1]) ?_
      first | with_reducible refine nd_icmp_geN hC (tgt := 28) (by omega) (by omega) dX7_underAt_10 (by decide) (fun hc => ?_) (fun hc => ?_) | refine nd_icmp_ge hC (tgt := 28) dX7_underAt_10 (by decide) (fun hc => ?_) (fun hc => ?_)
      · omega
      refine nd_iload_n hC dX7_underAt_13 rfl ?_
      refine nd_aload_n hC dX7_underAt_14 rfl rfl ?_
      refine nd_iload_n hC dX7_underAt_15 rfl ?_
      refine nd_iload_n hC dX7_underAt_16 rfl ?_
      refine mo_callV (As := [_, _]) (d2 := d - 1) hC hw rfl lkX7_290 lyX7_290 (Nat.le_of_ble_eq_true rfl) (by omega) rfl (by exact Nat.le_of_ble_eq_true rfl) (Nat.zero_le _) (Nat.zero_le _) dX7_underAt_17 rfl ((sp_beneathAt hg (by omega) hw hp hl hok hn ht ?_))
      first | with_reducible refine nd_iaddN hC dX7_underAt_20 ?_ | refine nd_iadd hC dX7_underAt_20 ?_
      refine nd_istore_n hC dX7_underAt_21 (Nat.le_of_ble_eq_true rfl) ?_
      first | with_reducible refine nd_iincN hC dX7_underAt_22 rfl (Nat.le_of_ble_eq_true rfl) ?_ | refine nd_iinc hC dX7_underAt_22 rfl rfl (Nat.le_of_ble_eq_true rfl) ?_
      refine nd_goto hC (tgt := 4) dX7_underAt_25 (by decide) ?_
      exact ih
  exact L 0 (Nat.zero_le _)
theorem sp_hiddenAt (hg : nd_OK g) (hd : 3 ≤ d) (hw : mo_W h0 A F B h) {p n : Nat} {l : List (List Nat)} (hp : p ≤ 10) (hc0 : A 0 1 = nI n) (hl : mo_lk (A 19) p l) (hok : lk_ok n l) (hn : n ≤ 6) (hk : K (.inl (some (.int (lk_all (mo_fr (A 0)) (mo_bk (A 0)) n - lk_tops (mo_fr (A 0)) (mo_bk (A 0)) l - lk_unders (mo_fr (A 0)) (mo_bk (A 0)) l)))) h) : nd_M g mX7_hiddenAt d 0 0 [.ref 101, .int (nI p)] h K := by
  refine nd_enter hg (by decide) rfl (Nat.le_of_ble_eq_true rfl) (fun X hC => ?_)
  refine nd_aload_n hC dX7_hiddenAt_0 rfl rfl ?_
  refine nd_iload_n hC dX7_hiddenAt_1 rfl ?_
  refine mo_callV (As := [_]) (d2 := d - 1) hC hw rfl lkX7_293 lyX7_293 (Nat.le_of_ble_eq_true rfl) (by omega) rfl (by exact Nat.le_of_ble_eq_true rfl) (Nat.zero_le _) (Nat.zero_le _) dX7_hiddenAt_2 rfl ((sp_topAt hg (by omega) hw hp hl hok hn ?_))
  refine nd_ineg hC dX7_hiddenAt_5 ?_
  refine nd_aload_n hC dX7_hiddenAt_6 rfl rfl ?_
  refine nd_iload_n hC dX7_hiddenAt_7 rfl ?_
  refine mo_callV (As := [_]) (d2 := d - 1) hC hw rfl lkX7_296 lyX7_296 (Nat.le_of_ble_eq_true rfl) (by omega) rfl (by exact Nat.le_of_ble_eq_true rfl) (Nat.zero_le _) (Nat.zero_le _) dX7_hiddenAt_8 rfl ((sp_underAt hg (by omega) hw hp hl hok hn ?_))
  generalize lk_tops (mo_fr (A 0)) (mo_bk (A 0)) l = a at hk ⊢
  generalize lk_unders (mo_fr (A 0)) (mo_bk (A 0)) l = b at hk ⊢
  first | with_reducible refine nd_isubN hC (by omega) dX7_hiddenAt_11 ?_ | refine nd_isub hC dX7_hiddenAt_11 ?_
  refine nd_istore_n hC dX7_hiddenAt_12 (Nat.le_of_ble_eq_true rfl) ?_
  refine nd_iconst hC (v := nI 0) (by rfl) dX7_hiddenAt_13 ?_
  refine nd_istore_n hC dX7_hiddenAt_14 (Nat.le_of_ble_eq_true rfl) ?_
  have L : ∀ c, c ≤ n → nd_W g mX7_hiddenAt d 0 0 K X 15 [some (.ref 101), some (.int (nI p)), some (.int (-a - b + lk_all (mo_fr (A 0)) (mo_bk (A 0)) c)), some (.int (nI c))] [] h 0 0 := by
    refine nd_for n _ ?_ ?_
    · refine nd_iload_n hC dX7_hiddenAt_15 rfl ?_
      refine nd_aload_n hC dX7_hiddenAt_16 rfl rfl ?_
      refine mo_callV (As := []) (d2 := d - 1) hC hw rfl lkX7_253 lyX7_253 (Nat.le_of_ble_eq_true rfl) (by omega) rfl (by exact Nat.le_of_ble_eq_true rfl) (Nat.zero_le _) (Nat.zero_le _) dX7_hiddenAt_17 rfl ((sp_cells hg hw ?_))
      rw [hc0]
      first | with_reducible refine nd_icmp_geN hC (tgt := 51) (by omega) (by omega) dX7_hiddenAt_20 (by decide) (fun hc => ?_) (fun hc => ?_) | refine nd_icmp_ge hC (tgt := 51) dX7_hiddenAt_20 (by decide) (fun hc => ?_) (fun hc => ?_)
      · refine nd_iload_n hC dX7_hiddenAt_51 rfl ?_
        refine nd_v_eq (y := .int (lk_all (mo_fr (A 0)) (mo_bk (A 0)) n - a - b)) (by congr 1; grind) ?_
        refine nd_ireturn hC rfl (by first | rfl | exact nd_b_nar _) (by omega) (by omega) dX7_hiddenAt_52 (hk)
      · omega
    · intro c hc ih
      refine nd_iload_n hC dX7_hiddenAt_15 rfl ?_
      refine nd_aload_n hC dX7_hiddenAt_16 rfl rfl ?_
      refine mo_callV (As := []) (d2 := d - 1) hC hw rfl lkX7_253 lyX7_253 (Nat.le_of_ble_eq_true rfl) (by omega) rfl (by exact Nat.le_of_ble_eq_true rfl) (Nat.zero_le _) (Nat.zero_le _) dX7_hiddenAt_17 rfl ((sp_cells hg hw ?_))
      rw [hc0]
      first | with_reducible refine nd_icmp_geN hC (tgt := 51) (by omega) (by omega) dX7_hiddenAt_20 (by decide) (fun hc => ?_) (fun hc => ?_) | refine nd_icmp_ge hC (tgt := 51) dX7_hiddenAt_20 (by decide) (fun hc => ?_) (fun hc => ?_)
      · omega
      refine nd_iload_n hC dX7_hiddenAt_23 rfl ?_
      refine nd_aload_n hC dX7_hiddenAt_24 rfl rfl ?_
      refine mo_get_known hC hw rfl dX7_hiddenAt_25 ?_
      refine nd_bipush hC (v := nI 13) (by rfl) dX7_hiddenAt_28 ?_
      refine nd_iload_n hC dX7_hiddenAt_30 rfl ?_
      first | with_reducible refine nd_iaddN hC dX7_hiddenAt_31 ?_ | refine nd_iadd hC dX7_hiddenAt_31 ?_
      refine nd_ialoadN hC hw.known (by omega) (by decide) dX7_hiddenAt_32 ?_
      refine nd_aload_n hC dX7_hiddenAt_33 rfl rfl ?_
      refine mo_get_known hC hw rfl dX7_hiddenAt_34 ?_
      refine nd_bipush hC (v := nI 19) (by rfl) dX7_hiddenAt_37 ?_
      refine nd_iload_n hC dX7_hiddenAt_39 rfl ?_
      first | with_reducible refine nd_iaddN hC dX7_hiddenAt_40 ?_ | refine nd_iadd hC dX7_hiddenAt_40 ?_
      refine nd_ialoadN hC hw.known (by omega) (by decide) dX7_hiddenAt_41 ?_
      first | with_reducible refine nd_iaddN hC dX7_hiddenAt_42 ?_ | refine nd_iadd hC dX7_hiddenAt_42 ?_
      first | with_reducible refine nd_iaddN hC dX7_hiddenAt_43 ?_ | refine nd_iadd hC dX7_hiddenAt_43 ?_
      refine nd_istore_n hC dX7_hiddenAt_44 (Nat.le_of_ble_eq_true rfl) ?_
      first | with_reducible refine nd_iincN hC dX7_hiddenAt_45 rfl (Nat.le_of_ble_eq_true rfl) ?_ | refine nd_iinc hC dX7_hiddenAt_45 rfl rfl (Nat.le_of_ble_eq_true rfl) ?_
      refine nd_goto hC (tgt := 15) dX7_hiddenAt_48 (by decide) ?_
      refine nd_to (lv2 := [some (.ref 101), some (.int (nI p)), some (.int (-a - b + lk_all (mo_fr (A 0)) (mo_bk (A 0)) (c + 1))), some (.int (nI (c + 1)))]) ?_ rfl rfl ih
      have e : -a - b + lk_all (mo_fr (A 0)) (mo_bk (A 0)) (c + 1) = -a - b + lk_all (mo_fr (A 0)) (mo_bk (A 0)) c + (A 0 (13 + c) + A 0 (19 + c)) := by
        show -a - b + (lk_all (mo_fr (A 0)) (mo_bk (A 0)) c + (A 0 (13 + c) + A 0 (19 + c))) = _
        grind
      rw [e]
      rfl
  refine nd_to (lv2 := [some (.ref 101), some (.int (nI p)), some (.int (-a - b + lk_all (mo_fr (A 0)) (mo_bk (A 0)) 0)), some (.int (nI 0))]) ?_ rfl rfl (L 0 (Nat.zero_le _))
  have e : -a - b + lk_all (mo_fr (A 0)) (mo_bk (A 0)) 0 = -a - b := by
    show -a - b + 0 = _
    grind
  rw [e]
  rfl
end MO5

