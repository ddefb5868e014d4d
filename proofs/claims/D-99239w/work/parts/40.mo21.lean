set_option maxRecDepth 100000
/-! ===== trays: what they lack; what is read off them ===== -/
def ty_f (x : Int32) (S : sy_S) : Nat := if op_in x 0 3 = true then (match sy_t S x.toNatClampNeg with | none => 2 | some _ => 0) else 1
def ty_v (x : Int32) (S : sy_S) : List Int64 := match sy_t S x.toNatClampNeg with | none => [] | some q => q.2
theorem ty_f_le (x : Int32) (S : sy_S) : ty_f x S ≤ 2 := by
  unfold ty_f
  split
  · split <;> omega
  · omega
theorem ty_f_0 {x : Int32} {S : sy_S} (h : ty_f x S = 0) : ∃ t q, t < 4 ∧ x = nI t ∧ sy_t S t = some q ∧ ty_v x S = q.2 := by
  unfold ty_f at h
  by_cases hc : op_in x 0 3 = true
  · rw [if_pos hc] at h
    obtain ⟨t, ht, rfl⟩ := op_in_nat hc
    unfold ty_v
    rw [nI_cl (by omega)] at *
    cases e : sy_t S t with
    | none => rw [e] at h; exact absurd h (by decide)
    | some q => exact ⟨t, q, by omega, rfl, e, rfl⟩
  · rw [if_neg hc] at h; exact absurd h (by decide)
/-- a tray of marks -/
def ty_mk (v : List Int64) : Bool := decide (1 ≤ v.length ∧ v.length ≤ 6) && (List.range v.length).all (fun j => decide (-1 ≤ v.getD j 0))
def mk_f (x : Int32) (S : sy_S) : Nat := if ty_f x S = 0 then (if ty_mk (ty_v x S) = true then 0 else 3) else ty_f x S
theorem mk_f_le (x : Int32) (S : sy_S) : mk_f x S ≤ 3 := by
  have := ty_f_le x S
  unfold mk_f
  split
  · split <;> omega
  · omega
abbrev sy_reads (S : sy_S) (v : List Int64) : lv_E → Bool := fun e => lk_reads (sv_fr (sy_c S)) (sv_bk (sy_c S)) e.2 v
def op_reads (x y : Int32) (S : sy_S) : sy_R := if mk_f x S = 0 then (if op_isWhat y = true then (0, op_tR (fd_r (sy_reads S (ty_v x S)) (lv_all 5 (sy_l S))) y, S) else (3, nI 0, S)) else (mk_f x S, nI 0, S)
theorem nd_all_congr {n : Nat} {f g : Nat → Bool} (h : ∀ j, j < n → f j = g j) : (List.range n).all f = (List.range n).all g := by
  rw [Bool.eq_iff_iff, List.all_eq_true, List.all_eq_true]
  exact ⟨fun q x hx => by rw [← h x (List.mem_range.mp hx)]; exact q x hx, fun q x hx => by rw [h x (List.mem_range.mp hx)]; exact q x hx⟩
theorem lk_reads_congr {fr bk fr2 bk2 : Nat → Int32} {n : Nat} {l : List (List Nat)} {v : List Int64} (hok : lk_ok n l) (hn : n ≤ 6) (h1 : ∀ c, c < n → fr c = fr2 c) (h2 : ∀ c, c < n → bk c = bk2 c) : lk_reads fr bk l v = lk_reads fr2 bk2 l v := by
  unfold lk_reads
  by_cases e : l.length = v.length
  · have q : ∀ x, x < v.length → lk_mk fr bk (lk_top (l.getD x [])) = lk_mk fr2 bk2 (lk_top (l.getD x [])) := fun x hx => lk_mk_congr h1 h2 (lk_top_half hok hn (Nat.lt_of_lt_of_eq hx e.symm))
    rw [nd_all_congr (fun j hj => by rw [q j hj])]
  · rw [decide_eq_false e, Bool.false_and, Bool.false_and]
theorem nI_gt0 {e : Nat} (h : 1 ≤ e) (h2 : e < 2147483648) : ¬ nI e ≤ 0 := by
  rw [Int32.le_iff_toInt_le, nI_toInt h2]
  show ¬ (e : Int) ≤ 0
  omega
section MO21
variable {g : nd_G} {d : Nat} {K : nd_K} {h h0 : nd_H} {A : Nat → Nat → Int32} {F : Nat → Int32} {B : Nat → Nat → Int64} {f : Nat → Int32}
theorem sp_isTray (hg : nd_OK g) (hd : 1 ≤ d) {x : Int32} (hk : K (.inl (some (.int (nd_b (op_in x 0 3))))) h) : nd_M g mX7_isTray d 0 0 [.int x] h K := by
  refine nd_enter hg (by decide) rfl (Nat.le_of_ble_eq_true rfl) (fun X hC => ?_)
  refine nd_iload_n hC dX7_isTray_0 rfl ?_
  first | with_reducible refine nd_i2lN hC (by omega) dX7_isTray_1 ?_ | refine nd_i2l hC dX7_isTray_1 ?_
  refine nd_lconst hC (v := lN 0) (by rfl) dX7_isTray_2 ?_
  refine nd_ldc2 hC q3150 dX7_isTray_3 ?_
  refine nd_v_eq (y := .long (lN 3)) (by rfl) ?_
  refine mo_callS (As := [_, _, _]) (d2 := d - 1) hC rfl lkX7_138 lyX7_138 (Nat.le_of_ble_eq_true rfl) (by omega) rfl (by exact Nat.le_of_ble_eq_true rfl) (Nat.zero_le _) (Nat.zero_le _) dX7_isTray_6 rfl ((sp_within hg ?_))
  have e : (decide (lN 0 ≤ x.toInt64) && decide (x.toInt64 ≤ lN 3)) = op_in x 0 3 := by
    unfold op_in
    rw [Bool.eq_iff_iff, Bool.and_eq_true, nd_lle, nd_lle, nd_tl, lN_toInt (by decide), lN_toInt (by decide), decide_eq_true_iff]
    omega
  rw [e]
  refine nd_ireturn hC rfl (by first | rfl | exact nd_b_nar _) (by omega) (by omega) dX7_isTray_9 (hk)
theorem sp_trayFault (hg : nd_OK g) (hd : 2 ≤ d) {tt : Nat} {S : sy_S} (hI : mo_I tt S A F B) (hS : sy_ok S) (hw : mo_W h0 A F B h) {x : Int32} (hk : K (.inl (some (.int (nI (ty_f x S))))) h) : nd_M g mX7_trayFault d 0 0 [.ref 101, .int x] h K := by
  unfold ty_f at hk
  refine nd_enter hg (by decide) rfl (Nat.le_of_ble_eq_true rfl) (fun X hC => ?_)
  refine nd_iload_n hC dX7_trayFault_0 rfl ?_
  refine mo_callS (As := [_]) (d2 := d - 1) hC rfl lkX7_372 lyX7_372 (Nat.le_of_ble_eq_true rfl) (by omega) rfl (by exact Nat.le_of_ble_eq_true rfl) (Nat.zero_le _) (Nat.zero_le _) dX7_trayFault_1 rfl ((sp_isTray hg (by omega) ?_))
  first | with_reducible refine nd_if_neB hC (tgt := 11) dX7_trayFault_4 (by decide) (fun hc => ?_) (fun hc => ?_) | with_reducible refine nd_if_neN hC (tgt := 11) (by omega) dX7_trayFault_4 (by decide) (fun hc => ?_) (fun hc => ?_) | refine nd_if_ne hC (tgt := 11) dX7_trayFault_4 (by decide) (fun hc => ?_) (fun hc => ?_)
  · rw [if_pos hc] at hk
    obtain ⟨t, ht, rfl⟩ := op_in_nat hc
    rw [nI_cl (by omega)] at hk
    refine nd_aload_n hC dX7_trayFault_11 rfl rfl ?_
    refine mo_get_tSort hC hw rfl dX7_trayFault_12 ?_
    refine nd_iload_n hC dX7_trayFault_15 rfl ?_
    refine nd_ialoadN hC hw.tSort (by omega) (by decide) dX7_trayFault_16 ?_
    cases e : sy_t S t with
    | none =>
      rw [e] at hk
      rw [(hI.2.2.1 t (by omega)).1 e]
      refine nd_iconst hC (v := -1) (by rfl) dX7_trayFault_17 ?_
      first | with_reducible refine nd_icmp_neN hC (tgt := 25) (by omega) (by omega) dX7_trayFault_18 (by decide) (fun hq => ?_) (fun hq => ?_) | refine nd_icmp_ne hC (tgt := 25) dX7_trayFault_18 (by decide) (fun hq => ?_) (fun hq => ?_)
      · exact absurd rfl hq
      · refine nd_iconst hC (v := nI 2) (by rfl) dX7_trayFault_21 ?_
        refine nd_goto hC (tgt := 26) dX7_trayFault_22 (by decide) ?_
        refine nd_ireturn hC rfl (by first | rfl | exact nd_b_nar _) (by omega) (by omega) dX7_trayFault_26 (hk)
    | some q =>
      rw [e] at hk
      rw [((hI.2.2.1 t (by omega)).2 q e).1]
      have h4 := (hS.2.2.1 t (by omega) q e).1
      refine nd_iconst hC (v := -1) (by rfl) dX7_trayFault_17 ?_
      first | with_reducible refine nd_icmp_neN hC (tgt := 25) (by omega) (by omega) dX7_trayFault_18 (by decide) (fun hq => ?_) (fun hq => ?_) | refine nd_icmp_ne hC (tgt := 25) dX7_trayFault_18 (by decide) (fun hq => ?_) (fun hq => ?_)
      · refine nd_iconst hC (v := nI 0) (by rfl) dX7_trayFault_25 ?_
        refine nd_ireturn hC rfl (by first | rfl | exact nd_b_nar _) (by omega) (by omega) dX7_trayFault_26 (hk)
      · exact absurd hq (by intro q; have := congrArg Int32.toInt q; rw [nI_toInt (by omega)] at this; exact absurd this (by show ¬ _ = (-1 : Int); omega))
  · rw [if_neg (by rw [hc]; decide)] at hk
    refine nd_iconst hC (v := nI 1) (by rfl) dX7_trayFault_7 ?_
    refine nd_goto hC (tgt := 26) dX7_trayFault_8 (by decide) ?_
    refine nd_ireturn hC rfl (by first | rfl | exact nd_b_nar _) (by omega) (by omega) dX7_trayFault_26 (hk)
theorem sp_marksFault (hg : nd_OK g) (hd : 3 ≤ d) {tt : Nat} {S : sy_S} (hI : mo_I tt S A F B) (hS : sy_ok S) (hw : mo_W h0 A F B h) {x : Int32} (hk : K (.inl (some (.int (nI (mk_f x S))))) h) : nd_M g mX7_marksFault d 0 0 [.ref 101, .int x] h K := by
  have hf := ty_f_le x S
  unfold mk_f at hk
  refine nd_enter hg (by decide) rfl (Nat.le_of_ble_eq_true rfl) (fun X hC => ?_)
  refine nd_aload_n hC dX7_marksFault_0 rfl rfl ?_
  refine nd_iload_n hC dX7_marksFault_1 rfl ?_
  refine mo_callV (As := [_]) (d2 := d - 1) hC hw rfl lkX7_389 lyX7_389 (Nat.le_of_ble_eq_true rfl) (by omega) rfl (by exact Nat.le_of_ble_eq_true rfl) (Nat.zero_le _) (Nat.zero_le _) dX7_marksFault_2 rfl ((sp_trayFault hg (by omega) hI hS hw ?_))
  refine nd_istore_n hC dX7_marksFault_5 (Nat.le_of_ble_eq_true rfl) ?_
  refine nd_iload_n hC dX7_marksFault_6 rfl ?_
  first | with_reducible refine nd_if_eqB hC (tgt := 12) dX7_marksFault_7 (by decide) (fun hc => ?_) (fun hc => ?_) | with_reducible refine nd_if_eqN hC (tgt := 12) (by omega) dX7_marksFault_7 (by decide) (fun hc => ?_) (fun hc => ?_) | refine nd_if_eq hC (tgt := 12) dX7_marksFault_7 (by decide) (fun hc => ?_) (fun hc => ?_)
  · rw [if_pos (by omega)] at hk
    obtain ⟨t, q, ht, rfl, eq, ev⟩ := ty_f_0 (show ty_f x S = 0 by omega)
    rw [ev] at hk
    obtain ⟨-, hm, h30, hnum⟩ := (hI.2.2.1 t ht).2 q eq
    generalize hv : q.2 = v at *
    refine nd_aload_n hC dX7_marksFault_12 rfl rfl ?_
    refine mo_get_tMany hC hw rfl dX7_marksFault_13 ?_
    refine nd_iload_n hC dX7_marksFault_16 rfl ?_
    refine nd_ialoadN hC hw.tMany (by omega) (by decide) dX7_marksFault_17 ?_
    rw [hm]
    first | with_reducible refine nd_i2lN hC (by omega) dX7_marksFault_18 ?_ | refine nd_i2l hC dX7_marksFault_18 ?_
    refine nd_lconst hC (v := lN 1) (by rfl) dX7_marksFault_19 ?_
    refine nd_ldc2 hC q3355 dX7_marksFault_20 ?_
    refine nd_v_eq (y := .long (lN 6)) (by rfl) ?_
    refine mo_callS (As := [_, _, _]) (d2 := d - 1) hC rfl lkX7_138 lyX7_138 (Nat.le_of_ble_eq_true rfl) (by omega) rfl (by exact Nat.le_of_ble_eq_true rfl) (Nat.zero_le _) (Nat.zero_le _) dX7_marksFault_23 rfl ((sp_within hg ?_))
    have e : (decide (lN 1 ≤ lN v.length) && decide (lN v.length ≤ lN 6)) = decide (1 ≤ v.length ∧ v.length ≤ 6) := by
      rw [Bool.eq_iff_iff, Bool.and_eq_true, nd_lle, nd_lle, lN_toInt (by omega), lN_toInt (by omega), lN_toInt (by omega), decide_eq_true_iff]
      omega
    rw [e]
    refine nd_istore_n hC dX7_marksFault_26 (Nat.le_of_ble_eq_true rfl) ?_
    refine nd_iconst hC (v := nI 0) (by rfl) dX7_marksFault_27 ?_
    refine nd_istore hC dX7_marksFault_28 (Nat.le_of_ble_eq_true rfl) ?_
    have JE : ∀ (b : Bool) (lv4 : Option Value), b = ty_mk v → nd_W g mX7_marksFault d 0 0 K X 76 [some (.ref 101), some (.int (nI t)), some (.int (nI (ty_f (nI t) S))), some (.int (nd_b b)), lv4] [] h 0 0 := by
      intro b lv4 hb
      rw [← hb] at hk
      refine nd_iload_n hC dX7_marksFault_76 rfl ?_
      first | with_reducible refine nd_if_eqB hC (tgt := 84) dX7_marksFault_77 (by decide) (fun hq => ?_) (fun hq => ?_) | with_reducible refine nd_if_eqN hC (tgt := 84) (by omega) dX7_marksFault_77 (by decide) (fun hq => ?_) (fun hq => ?_) | refine nd_if_eq hC (tgt := 84) dX7_marksFault_77 (by decide) (fun hq => ?_) (fun hq => ?_)
      · rw [if_neg (by rw [hq]; decide)] at hk
        refine nd_iconst hC (v := nI 3) (by rfl) dX7_marksFault_84 ?_
        refine nd_ireturn hC rfl (by first | rfl | exact nd_b_nar _) (by omega) (by omega) dX7_marksFault_85 (hk)
      · rw [if_pos hq] at hk
        refine nd_iconst hC (v := nI 0) (by rfl) dX7_marksFault_80 ?_
        refine nd_goto hC (tgt := 85) dX7_marksFault_81 (by decide) ?_
        refine nd_ireturn hC rfl (by first | rfl | exact nd_b_nar _) (by omega) (by omega) dX7_marksFault_85 (hk)
    have L : ∀ k, k ≤ v.length → ∀ b : Bool, (b = true → (1 ≤ v.length ∧ v.length ≤ 6) ∧ ∀ j, j < k → -1 ≤ v.getD j 0) → (b = false → ty_mk v = false) → nd_W g mX7_marksFault d 0 0 K X 30 [some (.ref 101), some (.int (nI t)), some (.int (nI (ty_f (nI t) S))), some (.int (nd_b b)), some (.int (nI k))] [] h 0 0 := by
      refine nd_for _ _ ?_ ?_
      · intro b hb1 hb2
        refine nd_iload hC dX7_marksFault_30 rfl ?_
        refine nd_aload_n hC dX7_marksFault_32 rfl rfl ?_
        refine mo_get_tMany hC hw rfl dX7_marksFault_33 ?_
        refine nd_iload_n hC dX7_marksFault_36 rfl ?_
        refine nd_ialoadN hC hw.tMany (by omega) (by decide) dX7_marksFault_37 ?_
        rw [hm]
        first | with_reducible refine nd_icmp_geN hC (tgt := 76) (by omega) (by omega) dX7_marksFault_38 (by decide) (fun hq => ?_) (fun hq => ?_) | refine nd_icmp_ge hC (tgt := 76) dX7_marksFault_38 (by decide) (fun hq => ?_) (fun hq => ?_)
        · refine JE b _ ?_
          cases b with
          | false => exact (hb2 rfl).symm
          | true =>
            obtain ⟨q1, q2⟩ := hb1 rfl
            unfold ty_mk
            rw [decide_eq_true q1, nd_allT (fun j hj => decide_eq_true (q2 j hj))]; rfl
        · omega
      · intro k hk1 ih b hb1 hb2
        refine nd_iload hC dX7_marksFault_30 rfl ?_
        refine nd_aload_n hC dX7_marksFault_32 rfl rfl ?_
        refine mo_get_tMany hC hw rfl dX7_marksFault_33 ?_
        refine nd_iload_n hC dX7_marksFault_36 rfl ?_
        refine nd_ialoadN hC hw.tMany (by omega) (by decide) dX7_marksFault_37 ?_
        rw [hm]
        first | with_reducible refine nd_icmp_geN hC (tgt := 76) (by omega) (by omega) dX7_marksFault_38 (by decide) (fun hq => ?_) (fun hq => ?_) | refine nd_icmp_ge hC (tgt := 76) dX7_marksFault_38 (by decide) (fun hq => ?_) (fun hq => ?_)
        · omega
        · refine nd_iload_n hC dX7_marksFault_41 rfl ?_
          first | with_reducible refine nd_if_eqB hC (tgt := 76) dX7_marksFault_42 (by decide) (fun hq2 => ?_) (fun hq2 => ?_) | with_reducible refine nd_if_eqN hC (tgt := 76) (by omega) dX7_marksFault_42 (by decide) (fun hq2 => ?_) (fun hq2 => ?_) | refine nd_if_eq hC (tgt := 76) dX7_marksFault_42 (by decide) (fun hq2 => ?_) (fun hq2 => ?_)
          · exact JE b _ (by rw [hq2]; exact (hb2 hq2).symm)
          · obtain ⟨q1, q2⟩ := hb1 hq2
            refine nd_aload_n hC dX7_marksFault_45 rfl rfl ?_
            refine mo_get_numbers hC hw rfl dX7_marksFault_46 ?_
            refine nd_bipush hC (v := nI 30) (by rfl) dX7_marksFault_49 ?_
            refine nd_iload_n hC dX7_marksFault_51 rfl ?_
            first | with_reducible refine nd_imulN hC dX7_marksFault_52 ?_ | refine nd_imul hC dX7_marksFault_52 ?_
            refine nd_iload hC dX7_marksFault_53 rfl ?_
            first | with_reducible refine nd_iaddN hC dX7_marksFault_55 ?_ | refine nd_iadd hC dX7_marksFault_55 ?_
            refine nd_laloadN hC hw.numbers (by omega) (by decide) dX7_marksFault_56 ?_
            rw [hnum k hk1]
            refine nd_ldc2 hC q3196 dX7_marksFault_57 ?_
            refine nd_lcmp_lt hC (tgt := 68) dX7_marksFault_60 dX7_marksFault_61 (by decide) (fun hq3 => ?_) (fun hq3 => ?_)
            · refine nd_iconst hC (v := nI 0) (by rfl) dX7_marksFault_68 ?_
              refine nd_istore_n hC dX7_marksFault_69 (Nat.le_of_ble_eq_true rfl) ?_
              first | with_reducible refine nd_iincN hC dX7_marksFault_70 rfl (Nat.le_of_ble_eq_true rfl) ?_ | refine nd_iinc hC dX7_marksFault_70 rfl rfl (Nat.le_of_ble_eq_true rfl) ?_
              refine nd_goto hC (tgt := 30) dX7_marksFault_73 (by decide) ?_
              refine ih false (fun q => absurd q (by decide)) (fun _ => ?_)
              unfold ty_mk
              rw [nd_allF hk1 (decide_eq_false (Int64.not_le.mpr hq3)), Bool.and_false]
            · refine nd_iconst hC (v := nI 1) (by rfl) dX7_marksFault_64 ?_
              refine nd_goto hC (tgt := 69) dX7_marksFault_65 (by decide) ?_
              refine nd_istore_n hC dX7_marksFault_69 (Nat.le_of_ble_eq_true rfl) ?_
              first | with_reducible refine nd_iincN hC dX7_marksFault_70 rfl (Nat.le_of_ble_eq_true rfl) ?_ | refine nd_iinc hC dX7_marksFault_70 rfl rfl (Nat.le_of_ble_eq_true rfl) ?_
              refine nd_goto hC (tgt := 30) dX7_marksFault_73 (by decide) ?_
              refine ih true (fun _ => ⟨q1, fun j hj => ?_⟩) (fun q => absurd q (by decide))
              by_cases e : j = k
              · subst e; exact Int64.not_lt.mp hq3
              · exact q2 j (by omega)
    exact L 0 (Nat.zero_le _) _ (fun q => ⟨of_decide_eq_true q, fun j hj => absurd hj (Nat.not_lt_zero _)⟩) (fun q => by unfold ty_mk; rw [q]; rfl)
  · rw [if_neg (by omega)] at hk
    refine nd_iload_n hC dX7_marksFault_10 rfl ?_
    refine nd_ireturn hC rfl (by first | rfl | exact nd_b_nar _) (by omega) (by omega) dX7_marksFault_11 (hk)
theorem mp_reads (hg : nd_OK g) (hd : 17 ≤ d) (x y : Int32) : mp_ok g h0 mX7_reads d [.int x, .int y] (mp_i (op_reads x y)) := by
  intro tt S A F B h K ht hI hS hw hk
  have h5 := sy_len5 hS
  have hok := sy_l_ok hS
  have hn : sy_n S ≤ 6 := hS.1.1.1
  have hm3 := mk_f_le x S
  unfold mp_i op_reads at hk
  refine nd_enter hg (by decide) rfl (Nat.le_of_ble_eq_true rfl) (fun X hC => ?_)
  refine nd_aload_n hC dX7_reads_0 rfl rfl ?_
  refine nd_aload_n hC dX7_reads_1 rfl rfl ?_
  refine nd_iload_n hC dX7_reads_2 rfl ?_
  refine mo_callV (As := [_]) (d2 := d - 1) hC hw rfl lkX7_524 lyX7_524 (Nat.le_of_ble_eq_true rfl) (by omega) rfl (by exact Nat.le_of_ble_eq_true rfl) (Nat.zero_le _) (Nat.zero_le _) dX7_reads_3 rfl ((sp_marksFault hg (by omega) hI hS hw ?_))
  have JE : ∀ F1 h1, mo_W h0 A F1 B h1 → mo_I tt S A F1 B → ∀ e : Nat, F1 4 = nI e → 1 ≤ e → e ≤ 3 → (∀ A2 F2 B2 h2, mo_I (tt + 4) S A2 F2 B2 → F2 4 = nI e → mo_W h0 A2 F2 B2 h2 → K (.inl (some (.int (nI 0)))) h2) → nd_W g mX7_reads d 0 0 K X 28 [some (.ref 101), some (.int x), some (.int y)] [] h1 0 0 := by
    intro F1 h hw hI1 e eF e1 e3 hk
    refine nd_aload_n hC dX7_reads_28 rfl rfl ?_
    refine mo_get_thrown hC hw rfl dX7_reads_29 ?_
    rw [eF]
    refine nd_if_le hC (tgt := 37) dX7_reads_32 (by decide) (fun hq => ?_) (fun hq => ?_)
    · exact absurd hq (nI_gt0 e1 (by omega))
    · refine nd_iconst hC (v := nI 0) (by rfl) dX7_reads_35 ?_
      refine nd_ireturn hC rfl (by first | rfl | exact nd_b_nar _) (by omega) (by omega) dX7_reads_36 ((hk A F1 B h (hI1.t (by omega)) eF hw))
  refine mo_put_thrown hC hw rfl dX7_reads_6 (fun h hw => ?_)
  refine nd_aload_n hC dX7_reads_9 rfl rfl ?_
  refine mo_get_thrown hC hw rfl dX7_reads_10 ?_
  rw [va_up_s]
  first | with_reducible refine nd_if_neB hC (tgt := 28) dX7_reads_13 (by decide) (fun hc => ?_) (fun hc => ?_) | with_reducible refine nd_if_neN hC (tgt := 28) (by omega) dX7_reads_13 (by decide) (fun hc => ?_) (fun hc => ?_) | refine nd_if_ne hC (tgt := 28) dX7_reads_13 (by decide) (fun hc => ?_) (fun hc => ?_)
  · rw [if_neg (by omega)] at hk
    exact JE _ h hw hI.th (mk_f x S) (va_up_s _ _ _) (by omega) hm3 hk
  · rw [if_pos (by omega)] at hk
    refine nd_iload_n hC dX7_reads_16 rfl ?_
    refine mo_callS (As := [_]) (d2 := d - 1) hC rfl lkX7_510 lyX7_510 (Nat.le_of_ble_eq_true rfl) (by omega) rfl (by exact Nat.le_of_ble_eq_true rfl) (Nat.zero_le _) (Nat.zero_le _) dX7_reads_17 rfl ((sp_isWhat hg (by omega) ?_))
    first | with_reducible refine nd_if_neB hC (tgt := 28) dX7_reads_20 (by decide) (fun hy => ?_) (fun hy => ?_) | with_reducible refine nd_if_neN hC (tgt := 28) (by omega) dX7_reads_20 (by decide) (fun hy => ?_) (fun hy => ?_) | refine nd_if_ne hC (tgt := 28) dX7_reads_20 (by decide) (fun hy => ?_) (fun hy => ?_)
    · rw [if_pos hy] at hk
      have hm0 : mk_f x S = 0 := by omega
      have hf0 : ty_f x S = 0 := by
        unfold mk_f at hm0
        by_cases q : ty_f x S = 0
        · exact q
        · rw [if_neg q] at hm0; exact hm0
      obtain ⟨t, q, htt, rfl, eq, ev⟩ := ty_f_0 hf0
      rw [hm0] at hw
      refine nd_aload_n hC dX7_reads_28 rfl rfl ?_
      refine mo_get_thrown hC hw rfl dX7_reads_29 ?_
      rw [va_up_s]
      refine nd_if_le hC (tgt := 37) dX7_reads_32 (by decide) (fun hq => ?_) (fun hq => ?_)
      · refine nd_aload_n hC dX7_reads_37 rfl rfl ?_
        refine nd_iload_n hC dX7_reads_38 rfl ?_
        refine mo_put_askedTray hC hw rfl dX7_reads_39 (fun h hw => ?_)
        refine nd_aload_n hC dX7_reads_42 rfl rfl ?_
        refine nd_iconst hC (v := nI 4) (by rfl) dX7_reads_43 ?_
        refine nd_aload_n hC dX7_reads_44 rfl rfl ?_
        refine mo_callV (As := []) (d2 := d - 1) hC hw rfl lkX7_343 lyX7_343 (Nat.le_of_ble_eq_true rfl) (by omega) rfl (by exact Nat.le_of_ble_eq_true rfl) (Nat.zero_le _) (Nat.zero_le _) dX7_reads_45 rfl ((sp_now hg (by omega) (hI.th.uf (k := 33) rfl) hS hw ?_))
        intro A2 h2 hl kA hI2 hw
        refine nd_iconst hC (v := nI 5) (by rfl) dX7_reads_48 ?_
        refine mo_callV (As := [_, _, _]) (d2 := d - 1) hC hw rfl lkX7_502 lyX7_502 (Nat.le_of_ble_eq_true rfl) (by omega) rfl (by exact Nat.le_of_ble_eq_true rfl) (Nat.zero_le _) (Nat.zero_le _) dX7_reads_49 rfl ((sp_askS hg (d0 := 4) none hI2 hn h5 (by omega) (by omega) (fun d2 hd2 => se_reads_ok hg hd2 hn h5 htt ((hI2.2.2.1 t htt).2 q eq).2 rfl) (fun s A F B f q => ⟨q.1.up19 f, q.2.1, mo_kept_up q.2.2⟩) (fun s A F B f q => ⟨q.1.up25 f, q.2.1, mo_kept_up q.2.2⟩) (by omega) (by omega) hw hl hok ⟨⟨fun _ _ _ _ => rfl, fun _ _ => rfl, fun _ _ => rfl⟩, rfl, rfl, rfl⟩ (lv_B_T _ _ (fun _ => trivial) _ _) ?_))
        intro A3 F3 B3 h3 hiv hI3 e4 e27 e33 hw
        rw [se_fd_congr hok (fun x hx => lk_reads_congr hx hn (hI2.fr hS) (hI2.bk hS)), ← ev] at hiv
        refine nd_aload_n hC dX7_reads_52 rfl rfl ?_
        refine nd_iload_n hC dX7_reads_53 rfl ?_
        refine mo_callV (As := [_]) (d2 := d - 1) hC hw rfl lkX7_513 lyX7_513 (Nat.le_of_ble_eq_true rfl) (by omega) rfl (by exact Nat.le_of_ble_eq_true rfl) (Nat.zero_le _) (Nat.zero_le _) dX7_reads_54 rfl ((sp_toldRow hg hw hiv.2.2 hy ?_))
        refine nd_ireturn hC rfl (by first | rfl | exact nd_b_nar _) (by omega) (by omega) dX7_reads_57 ((hk _ _ _ _ (hI3.t (by omega)) (e4.trans rfl) hw))
      · exact absurd hq (by decide)
    · rw [if_neg (by rw [hy]; decide)] at hk
      refine nd_aload_n hC dX7_reads_23 rfl rfl ?_
      refine nd_iconst hC (v := nI 3) (by rfl) dX7_reads_24 ?_
      refine mo_put_thrown hC hw rfl dX7_reads_25 (fun h hw => ?_)
      exact JE _ h hw hI.th.th 3 (va_up_s _ _ _) (by omega) (by omega) hk
end MO21

