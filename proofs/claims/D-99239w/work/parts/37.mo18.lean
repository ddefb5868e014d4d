set_option maxRecDepth 100000
/-! ===== the questions that go through rows ===== -/
theorem lv_go_congr {σ : Type} {see see2 : σ → lv_E → σ × Bool} (xs : List lv_E) : ∀ s, (∀ x ∈ xs, ∀ s, see s x = see2 s x) → lv_go see s xs = lv_go see2 s xs := by
  induction xs with
  | nil => intro s _; rfl
  | cons x xs ih =>
    intro s h
    simp only [lv_go]
    rw [h x (List.mem_cons_self ..) s, ih _ (fun y hy => h y (List.mem_cons_of_mem _ hy))]
theorem lv_lev_ok {n : Nat} : ∀ (m : Nat) (l : List (List Nat)), lk_ok n l → ∀ x ∈ lv_lev m l, lk_ok n x.2 ∧ x.1.length = m := by
  intro m
  induction m with
  | zero => intro l h x hx; simp [lv_lev] at hx; subst hx; exact ⟨h, rfl⟩
  | succ m ih =>
    intro l h x hx
    simp only [lv_lev, List.mem_flatMap, List.mem_map] at hx
    obtain ⟨c, hc, q, hq, rfl⟩ := hx
    unfold lv_mv at hc
    simp only [List.mem_map, List.mem_range] at hc
    obtain ⟨j, hj, rfl⟩ := hc
    have := ih _ (lk_fold_ok h (line := (10 * (j / 4 + 1) + j % 4) / 10) (way := (10 * (j / 4 + 1) + j % 4) % 10) (by omega) (by omega)) q hq
    exact ⟨this.1, by simp [this.2]⟩
theorem lv_all_ok {n m : Nat} {l : List (List Nat)} (h : lk_ok n l) : ∀ x ∈ lv_all m l, lk_ok n x.2 ∧ x.1.length ≤ m := by
  intro x hx
  unfold lv_all at hx
  simp only [List.mem_flatMap, List.mem_range] at hx
  obtain ⟨k, hk, q⟩ := hx
  have := lv_lev_ok k l h x q
  exact ⟨this.1, by omega⟩
/-- how many kinds of numbers (code) there are among rows that (cond) -/
noncomputable abbrev un_n (cond : lv_E → Bool) (code : lv_E → Int64) (xs : List lv_E) : Nat := (lv_go (se_un cond code) [] xs).1.length
/-- the first row that (cond) -/
abbrev fd_r (cond : lv_E → Bool) (xs : List lv_E) : Option (List Nat) := (lv_go (se_fd cond) none xs).1
abbrev bt_r (val : lv_E → Int32) (xs : List lv_E) : Int32 × List Nat := (lv_go (se_bt val) (-536870912, []) xs).1
def op_isWhat (x : Int32) : Bool := decide (x = 0) || op_in x 10 14
/-- what is told of a row that was found -/
def op_tR (r : Option (List Nat)) (x : Int32) : Int32 := match r with
  | none => -1
  | some r => if x = 0 then nI r.length else if x.toNatClampNeg - 10 < r.length then nI (r.getD (x.toNatClampNeg - 10) 0) else -1
/-- .. of the greatest -/
def op_tB (r : Int32 × List Nat) (x : Int32) : Int32 := if x = 0 then r.1 else if x = nI 1 then nI r.2.length else if x.toNatClampNeg - 10 < r.2.length then nI (r.2.getD (x.toNatClampNeg - 10) 0) else -1
def op_rows (x : Int32) (S : sy_S) : sy_R := if op_in x 0 5 = true then (0, nI (lv_lev x.toNatClampNeg (sy_l S)).length, S) else (1, nI 0, S)
noncomputable def op_many (cond : sy_S → lv_E → Bool) (x : Int32) (S : sy_S) : sy_R := if op_in x 0 5 = true then (0, nI (un_n (cond S) (fun x => lN (lk_code x.2 (sy_n S))) (lv_all x.toNatClampNeg (sy_l S))), S) else (1, nI 0, S)
noncomputable abbrev op_looks : Int32 → sy_S → sy_R := op_many (fun _ _ => true)
abbrev sy_holds (S : sy_S) : lv_E → Bool := fun x => nk_holds (sy_N S) (sv_fr (sy_c S)) (sv_bk (sy_c S)) x.2 ((sy_c S).1.length + x.1.length)
noncomputable abbrev op_holding : Int32 → sy_S → sy_R := op_many sy_holds
noncomputable def op_soonest (x : Int32) (S : sy_S) : sy_R := if op_isWhat x = true then (0, op_tR (fd_r (sy_holds S) (lv_all 5 (sy_l S))) x, S) else (1, nI 0, S)
def op_bestBy (val : sy_S → lv_E → Int32) (x y : Int32) (S : sy_S) : sy_R := if op_in x 0 5 = true ∧ (y = nI 1 ∨ op_isWhat y = true) then (0, op_tB (bt_r (val S) (lv_all x.toNatClampNeg (sy_l S))) y, S) else (1, nI 0, S)
abbrev sy_worth (S : sy_S) : lv_E → Int32 := fun x => nk_worth (sy_N S) (sv_fr (sy_c S)) (sv_bk (sy_c S)) x.2 ((sy_c S).1.length + x.1.length)
abbrev sy_least (S : sy_S) : lv_E → Int32 := fun x => nk_least (sy_N S) (sv_fr (sy_c S)) (sv_bk (sy_c S)) x.2 ((sy_c S).1.length + x.1.length) (if (nk_w (sy_N S)).length = 0 then nI 0 else nI 536870912) (nk_w (sy_N S)).length
abbrev op_best : Int32 → Int32 → sy_S → sy_R := op_bestBy sy_worth
abbrev op_fairest : Int32 → Int32 → sy_S → sy_R := op_bestBy sy_least
def op_step (S : sy_S) : sy_R := (0, if (bt_r (sy_worth S) (lv_all 1 (sy_l S))).2.length = 0 then -1 else nI ((bt_r (sy_worth S) (lv_all 1 (sy_l S))).2.getD 0 0), S)
section MO18
variable {g : nd_G} {d : Nat} {K : nd_K} {h h0 : nd_H} {A : Nat → Nat → Int32} {F : Nat → Int32} {B : Nat → Nat → Int64} {f : Nat → Int32}
theorem mo_I.seen {tt : Nat} {S : sy_S} {A2 : Nat → Nat → Int32} {F2 : Nat → Int32} {B2 : Nat → Nat → Int64} {what fm : Nat} (hI : mo_I tt S A F B) (hx : mo_gx fm fm A A2 (mo_F0 F what fm) F2 B B2) : mo_I (tt + 1) S A2 F2 B2 := by
  obtain ⟨h1, h2, h3, h4, h5, h6, h7, T, h8, h9, h10⟩ := hI
  have eF : ∀ k, mo_kf k = true → k ≠ 37 → F2 k = F k := by
    intro k hk h37
    have h37' := va_up_n (va_up (va_up (va_up (va_up (va_up F 28 (nI what)) 29 (nI fm)) 30 (nI 0)) 31 (if what = 3 ∨ what = 6 ∨ what = 8 then (-536870912) else (-1))) 32 (nI 0)) (F 37 + nI 1) h37
    have q : k = 6 ∨ k = 14 ∨ k = 15 := by
      simp only [mo_kf, Bool.or_eq_true, beq_iff_eq] at hk; omega
    rcases q with rfl | rfl | rfl
    · exact (hx.2.1 6 rfl).trans rfl
    · exact (hx.2.1 14 rfl).trans rfl
    · exact (hx.2.1 15 rfl).trans rfl
  have e37 : F2 37 = nI (T + 1) := ((hx.2.1 37 rfl).trans (show mo_F0 F what fm 37 = F 37 + nI 1 from rfl)).trans (by rw [h9, nI_add])
  unfold mo_I mo_tr
  rw [hx.1 0 rfl (by decide) (by decide), hx.1 2 rfl (by decide) (by decide), hx.1 3 rfl (by decide) (by decide), hx.1 5 rfl (by decide) (by decide), hx.1 40 rfl (by decide) (by decide), hx.1 41 rfl (by decide) (by decide), eF 6 rfl (by decide), eF 14 rfl (by decide), eF 15 rfl (by decide), hx.2.2.1 42 (by decide)]
  refine ⟨h1, h2, h3, h4, h5, h6, h7, T + 1, by omega, e37, fun j hj => ?_⟩
  rcases hx.2.2.2.2.2 j with q | q
  · obtain ⟨t, ht, e⟩ := h10 j hj
    exact ⟨t, by omega, by rw [q, e]⟩
  · exact ⟨T + 1, Nat.le_refl _, by rw [q, show mo_F0 F what fm 37 = F 37 + nI 1 from rfl, h9, nI_add]⟩
/-- the table is empty for a new turn -/
theorem mo_I.tb0 {tt : Nat} {S : sy_S} {what fm : Nat} (hI : mo_I tt S A F B) (ht : tt ≤ 1000100) : tb_ok (B 35) (A 36) (mo_F0 F what fm 37) [] := by
  obtain ⟨h1, h2, h3, h4, h5, h6, h7, T, h8, h9, h10⟩ := hI
  refine tb_empty (fun j hj => ?_)
  obtain ⟨t, ht, e⟩ := h10 j hj
  rw [e, show mo_F0 F what fm 37 = F 37 + nI 1 from rfl, h9, nI_add]
  intro q
  have := (nI_eq (by omega) (by omega)).mp q
  omega
/-- all rows behind how it lies so deep -/
theorem sp_askS (hg : nd_OK g) {n fm d0 d what most tt : Nat} {S : sy_S} {l : List (List Nat)} {σ : Type} {see : σ → lv_E → σ × Bool} {Bd : σ → Prop} {Iv : σ → (Nat → Nat → Int32) → (Nat → Int32) → (Nat → Nat → Int64) → Prop} (s0 : σ) (hIS : mo_I tt S A F B) (hn : n ≤ 6) (hfm : fm ≤ 5) (hd0 : 3 ≤ d0) (hd : d0 + 8 ≤ d) (hS : ∀ d, d0 ≤ d → mo_see g h0 d n fm σ see Bd Iv)
    (hI : ∀ s A F B f, Iv s A F B → Iv s (va_up A 19 f) F B) (hI2 : ∀ s A F B f, Iv s A F B → Iv s (va_up A 25 f) F B) (hwh : what ≤ 13) (hm : most ≤ 5) (hw : mo_W h0 A F B h) (hl : mo_lk (A 19) fm l) (hok : lk_ok n l) (hI0 : Iv s0 A (mo_F0 F what fm) B) (hB : lv_B see Bd s0 (lv_all most l))
    (hk : ∀ A2 F2 B2 h2, Iv (lv_go see s0 (lv_all most l)).1 A2 F2 B2 → mo_I (tt + 1) S A2 F2 B2 → F2 4 = F 4 → A2 27 = A 27 → F2 33 = F 33 → mo_W h0 A2 F2 B2 h2 → K (.inl none) h2) : nd_M g mX7_asksAll d 0 0 [.ref 101, .int (nI what), .int (nI fm), .int (nI most)] h K :=
  sp_asksAll hg s0 hn hfm hd0 hd hS hI hI2 hwh hm hw hl hok hI0 hB (fun A2 F2 B2 h2 hi hx hw => hk A2 F2 B2 h2 hi (hIS.seen hx) ((hx.2.1 4 rfl).trans rfl) (hx.1 27 rfl (by decide) (by decide)) ((hx.2.1 33 rfl).trans rfl) hw)
theorem se_un_le (cond : lv_E → Bool) (code : lv_E → Int64) (s : List Int64) (x : lv_E) : (se_un cond code s x).1.length ≤ s.length + 1 := by
  unfold se_un
  dsimp only
  split
  · split
    · omega
    · simp
  · omega
theorem un_B {cond : lv_E → Bool} {code : lv_E → Int64} {m : Nat} {l : List (List Nat)} (hm : m ≤ 5) (hl : l.length ≤ 6) : lv_B (se_un cond code) (fun s => s.length < tb_T) [] (lv_all m l) := lv_B_n _ List.length _ (se_un_le cond code) _ [] (by have := lv_cntA_le m hm _ hl; rw [lv_all_length, tb_T_eq]; simp; omega)
theorem se_un_congr {cond cond2 : lv_E → Bool} {code : lv_E → Int64} {n m : Nat} {l : List (List Nat)} (hok : lk_ok n l) (h : ∀ x : lv_E, lk_ok n x.2 → cond x = cond2 x) : lv_go (se_un cond code) [] (lv_all m l) = lv_go (se_un cond2 code) [] (lv_all m l) := lv_go_congr _ _ (fun x hx s => by unfold se_un; rw [h x (lv_all_ok hok x hx).1])
theorem sp_isMore (hg : nd_OK g) (hd : 1 ≤ d) {x : Int32} (hk : K (.inl (some (.int (nd_b (op_in x 0 5))))) h) : nd_M g mX7_isMore d 0 0 [.int x] h K := by
  refine nd_enter hg (by decide) rfl (Nat.le_of_ble_eq_true rfl) (fun X hC => ?_)
  refine nd_iload_n hC dX7_isMore_0 rfl ?_
  first | with_reducible refine nd_i2lN hC (by omega) dX7_isMore_1 ?_ | refine nd_i2l hC dX7_isMore_1 ?_
  refine nd_lconst hC (v := lN 0) (by rfl) dX7_isMore_2 ?_
  refine nd_ldc2 hC q3236 dX7_isMore_3 ?_
  refine nd_v_eq (y := .long (lN 5)) (by rfl) ?_
  refine mo_callS (As := [_, _, _]) (d2 := d - 1) hC rfl lkX7_138 lyX7_138 (Nat.le_of_ble_eq_true rfl) (by omega) rfl (by exact Nat.le_of_ble_eq_true rfl) (Nat.zero_le _) (Nat.zero_le _) dX7_isMore_6 rfl ((sp_within hg ?_))
  have e : (decide (lN 0 ≤ x.toInt64) && decide (x.toInt64 ≤ lN 5)) = op_in x 0 5 := by
    unfold op_in
    rw [Bool.eq_iff_iff, Bool.and_eq_true, nd_lle, nd_lle, nd_tl, lN_toInt (by decide), lN_toInt (by decide), decide_eq_true_iff]
    omega
  rw [e]
  refine nd_ireturn hC rfl (by first | rfl | exact nd_b_nar _) (by omega) (by omega) dX7_isMore_9 (hk)
theorem sp_manyBy (hg : nd_OK g) (hd : 17 ≤ d) {what tt : Nat} {S : sy_S} {cond1 : lv_E → Bool} {cond : sy_S → lv_E → Bool} (hwh : what ≤ 13) (x : Int32) (ht : tt ≤ 1000000) (hI : mo_I tt S A F B) (hS : sy_ok S) (hw : mo_W h0 A F B h)
    (hSee : ∀ A2 F2 d2, mo_k A A2 → 7 ≤ d2 → mo_see g h0 d2 (sy_n S) (sy_c S).1.length (List Int64) (se_un cond1 (fun x => lN (lk_code x.2 (sy_n S)))) (fun s => s.length < tb_T) (iv_un what A2 F2 B)) (heq : ∀ x : lv_E, lk_ok (sy_n S) x.2 → cond1 x = cond S x)
    (hk : ∀ A2 F2 B2 h2, mo_I (tt + 4) (op_many cond x S).2.2 A2 F2 B2 → F2 4 = nI (op_many cond x S).1 → mo_W h0 A2 F2 B2 h2 → K (.inl (some (.int (op_many cond x S).2.1))) h2) : nd_M g mX7_manyBy d 0 0 [.ref 101, .int (nI what), .int x] h K := by
  have h5 := sy_len5 hS
  have hok := sy_l_ok hS
  have hwd := lk_width hok
  have hn : sy_n S ≤ 6 := hS.1.1.1
  unfold op_many at hk
  refine nd_enter hg (by decide) rfl (Nat.le_of_ble_eq_true rfl) (fun X hC => ?_)
  refine nd_aload_n hC dX7_manyBy_0 rfl rfl ?_
  refine nd_iconst hC (v := nI 0) (by rfl) dX7_manyBy_1 ?_
  refine mo_put_thrown hC hw rfl dX7_manyBy_2 (fun h hw => ?_)
  refine nd_iload_n hC dX7_manyBy_5 rfl ?_
  refine mo_callS (As := [_]) (d2 := d - 1) hC rfl lkX7_499 lyX7_499 (Nat.le_of_ble_eq_true rfl) (by omega) rfl (by exact Nat.le_of_ble_eq_true rfl) (Nat.zero_le _) (Nat.zero_le _) dX7_manyBy_6 rfl ((sp_isMore hg (by omega) ?_))
  first | with_reducible refine nd_if_neB hC (tgt := 18) dX7_manyBy_9 (by decide) (fun hc => ?_) (fun hc => ?_) | with_reducible refine nd_if_neN hC (tgt := 18) (by omega) dX7_manyBy_9 (by decide) (fun hc => ?_) (fun hc => ?_) | refine nd_if_ne hC (tgt := 18) dX7_manyBy_9 (by decide) (fun hc => ?_) (fun hc => ?_)
  · rw [if_pos hc] at hk
    obtain ⟨k, hk1, rfl⟩ := op_in_nat hc
    rw [nI_cl (by omega)] at hk
    refine nd_aload_n hC dX7_manyBy_18 rfl rfl ?_
    refine nd_iload_n hC dX7_manyBy_19 rfl ?_
    refine nd_aload_n hC dX7_manyBy_20 rfl rfl ?_
    refine mo_callV (As := []) (d2 := d - 1) hC hw rfl lkX7_343 lyX7_343 (Nat.le_of_ble_eq_true rfl) (by omega) rfl (by exact Nat.le_of_ble_eq_true rfl) (Nat.zero_le _) (Nat.zero_le _) dX7_manyBy_21 rfl ((sp_now hg (by omega) hI.th hS hw ?_))
    intro A2 h2 hl kA hI2 hw
    refine nd_iload_n hC dX7_manyBy_24 rfl ?_
    refine mo_callV (As := [_, _, _]) (d2 := d - 1) hC hw rfl lkX7_502 lyX7_502 (Nat.le_of_ble_eq_true rfl) (by omega) rfl (by exact Nat.le_of_ble_eq_true rfl) (Nat.zero_le _) (Nat.zero_le _) dX7_manyBy_25 rfl ((sp_askS hg (d0 := 7) [] hI2 hn h5 (by omega) (by omega) (fun d2 hd2 => hSee A2 _ d2 kA hd2) (fun s A F B f q => ⟨q.1.up19 f, q.2⟩) (fun s A F B f q => ⟨q.1.up25 f, q.2⟩) hwh (by omega) hw hl hok ⟨⟨fun _ _ _ _ => rfl, fun _ _ => rfl, fun _ _ => rfl⟩, rfl, rfl, hI2.tb0 (by omega)⟩ (un_B (by omega) (by omega)) ?_))
    intro A3 F3 B3 h3 hiv hI3 e4 e27 e33 hw
    refine nd_aload_n hC dX7_manyBy_28 rfl rfl ?_
    refine mo_get_rowMany hC hw rfl dX7_manyBy_29 ?_
    rw [hiv.2.2.1, se_un_congr hok heq]
    refine nd_ireturn hC rfl (by first | rfl | exact nd_b_nar _) (by omega) (by omega) dX7_manyBy_32 ((hk _ _ _ _ (hI3.t (by omega)) (e4.trans (va_up_s _ _ _)) hw))
  · rw [if_neg (by rw [hc]; decide)] at hk
    refine nd_aload_n hC dX7_manyBy_12 rfl rfl ?_
    refine nd_iconst hC (v := nI 1) (by rfl) dX7_manyBy_13 ?_
    refine mo_callV (As := [_]) (d2 := d - 1) hC hw rfl lkX7_244 lyX7_244 (Nat.le_of_ble_eq_true rfl) (by omega) rfl (by exact Nat.le_of_ble_eq_true rfl) (Nat.zero_le _) (Nat.zero_le _) dX7_manyBy_14 rfl ((sp_fails hg hw (fun h3 hw => ?_)))
    refine nd_ireturn hC rfl (by first | rfl | exact nd_b_nar _) (by omega) (by omega) dX7_manyBy_17 ((hk A _ _ h3 (hI.th.th.t (by omega)) (va_up_s _ _ _) hw))
theorem mp_looks (hg : nd_OK g) (hd : 18 ≤ d) (x : Int32) : mp_ok g h0 mX7_looks d [.int x] (mp_i (op_looks x)) := by
  intro tt S A F B h K ht hI hS hw hk
  refine nd_enter hg (by decide) rfl (Nat.le_of_ble_eq_true rfl) (fun X hC => ?_)
  refine nd_aload_n hC dX7_looks_0 rfl rfl ?_
  refine nd_iconst hC (v := nI 1) (by rfl) dX7_looks_1 ?_
  refine nd_iload_n hC dX7_looks_2 rfl ?_
  refine mo_callV (As := [_, _]) (d2 := d - 1) hC hw rfl lkX7_505 lyX7_505 (Nat.le_of_ble_eq_true rfl) (by omega) rfl (by exact Nat.le_of_ble_eq_true rfl) (Nat.zero_le _) (Nat.zero_le _) dX7_looks_3 rfl ((sp_manyBy hg (by omega) (by omega) (cond := fun _ _ => true) x ht hI hS hw (fun A2 F2 d2 kA hd2 => se_looks_ok hg (by omega) hS.1.1.1 (sy_len5 hS) (by rw [kA 0 rfl]; exact hI.n)) (fun _ _ => rfl) ?_))
  intro A2 F2 B2 h2 q1 q2 hw
  refine nd_ireturn hC rfl (by first | rfl | exact nd_b_nar _) (by omega) (by omega) dX7_looks_6 ((hk A2 F2 B2 h2 q1 q2 hw))
theorem mp_holding (hg : nd_OK g) (hd : 18 ≤ d) (x : Int32) : mp_ok g h0 mX7_holding d [.int x] (mp_i (op_holding x)) := by
  intro tt S A F B h K ht hI hS hw hk
  refine nd_enter hg (by decide) rfl (Nat.le_of_ble_eq_true rfl) (fun X hC => ?_)
  refine nd_aload_n hC dX7_holding_0 rfl rfl ?_
  refine nd_iconst hC (v := nI 2) (by rfl) dX7_holding_1 ?_
  refine nd_iload_n hC dX7_holding_2 rfl ?_
  refine mo_callV (As := [_, _]) (d2 := d - 1) hC hw rfl lkX7_505 lyX7_505 (Nat.le_of_ble_eq_true rfl) (by omega) rfl (by exact Nat.le_of_ble_eq_true rfl) (Nat.zero_le _) (Nat.zero_le _) dX7_holding_3 rfl ((sp_manyBy hg (by omega) (by omega) (cond := sy_holds) (cond1 := fun x => nk_holds (sy_N S) (mo_fr (A 0)) (mo_bk (A 0)) x.2 ((sy_c S).1.length + x.1.length)) x ht hI hS hw (fun A2 F2 d2 kA hd2 => by rw [← kA 0 rfl]; exact se_holding_ok hg (by omega) hS.1.1 (sy_len5 hS) (by rw [kA 0 rfl]; exact hI.1.1)) (fun x hx => nk_holds_congr hx hS.1.1.1 (hI.fr hS) (hI.bk hS)) ?_))
  intro A2 F2 B2 h2 q1 q2 hw
  refine nd_ireturn hC rfl (by first | rfl | exact nd_b_nar _) (by omega) (by omega) dX7_holding_6 ((hk A2 F2 B2 h2 q1 q2 hw))
theorem sp_isWhat (hg : nd_OK g) (hd : 1 ≤ d) {x : Int32} (hk : K (.inl (some (.int (nd_b (op_isWhat x))))) h) : nd_M g mX7_isWhat d 0 0 [.int x] h K := by
  refine nd_enter hg (by decide) rfl (Nat.le_of_ble_eq_true rfl) (fun X hC => ?_)
  refine nd_iload_n hC dX7_isWhat_0 rfl ?_
  first | with_reducible refine nd_if_eqB hC (tgt := 18) dX7_isWhat_1 (by decide) (fun hc => ?_) (fun hc => ?_) | with_reducible refine nd_if_eqN hC (tgt := 18) (by omega) dX7_isWhat_1 (by decide) (fun hc => ?_) (fun hc => ?_) | refine nd_if_eq hC (tgt := 18) dX7_isWhat_1 (by decide) (fun hc => ?_) (fun hc => ?_)
  · have e : op_isWhat x = true := by unfold op_isWhat; rw [decide_eq_true hc]; rfl
    rw [e] at hk
    refine nd_iconst hC (v := nI 1) (by rfl) dX7_isWhat_18 ?_
    refine nd_goto hC (tgt := 23) dX7_isWhat_19 (by decide) ?_
    refine nd_ireturn hC rfl (by first | rfl | exact nd_b_nar _) (by omega) (by omega) dX7_isWhat_23 (hk)
  · refine nd_iload_n hC dX7_isWhat_4 rfl ?_
    first | with_reducible refine nd_i2lN hC (by omega) dX7_isWhat_5 ?_ | refine nd_i2l hC dX7_isWhat_5 ?_
    refine nd_ldc2 hC q3176 dX7_isWhat_6 ?_
    refine nd_v_eq (y := .long (lN 10)) (by rfl) ?_
    refine nd_ldc2 hC q3326 dX7_isWhat_9 ?_
    refine nd_v_eq (y := .long (lN 14)) (by rfl) ?_
    refine mo_callS (As := [_, _, _]) (d2 := d - 1) hC rfl lkX7_138 lyX7_138 (Nat.le_of_ble_eq_true rfl) (by omega) rfl (by exact Nat.le_of_ble_eq_true rfl) (Nat.zero_le _) (Nat.zero_le _) dX7_isWhat_12 rfl ((sp_within hg ?_))
    have e : (decide (lN 10 ≤ x.toInt64) && decide (x.toInt64 ≤ lN 14)) = op_in x 10 14 := by
      unfold op_in
      rw [Bool.eq_iff_iff, Bool.and_eq_true, nd_lle, nd_lle, nd_tl, lN_toInt (by decide), lN_toInt (by decide), decide_eq_true_iff]
      omega
    rw [e]
    first | with_reducible refine nd_if_eqB hC (tgt := 22) dX7_isWhat_15 (by decide) (fun hq => ?_) (fun hq => ?_) | with_reducible refine nd_if_eqN hC (tgt := 22) (by omega) dX7_isWhat_15 (by decide) (fun hq => ?_) (fun hq => ?_) | refine nd_if_eq hC (tgt := 22) dX7_isWhat_15 (by decide) (fun hq => ?_) (fun hq => ?_)
    · have e : op_isWhat x = false := by unfold op_isWhat; rw [decide_eq_false hc, hq]; rfl
      rw [e] at hk
      refine nd_iconst hC (v := nI 0) (by rfl) dX7_isWhat_22 ?_
      refine nd_ireturn hC rfl (by first | rfl | exact nd_b_nar _) (by omega) (by omega) dX7_isWhat_23 (hk)
    · have e : op_isWhat x = true := by unfold op_isWhat; rw [hq, Bool.or_true]
      rw [e] at hk
      refine nd_iconst hC (v := nI 1) (by rfl) dX7_isWhat_18 ?_
      refine nd_goto hC (tgt := 23) dX7_isWhat_19 (by decide) ?_
      refine nd_ireturn hC rfl (by first | rfl | exact nd_b_nar _) (by omega) (by omega) dX7_isWhat_23 (hk)
theorem op_what_nat {x : Int32} (h : op_isWhat x = true) (h0 : ¬ x = 0) : ∃ k : Nat, k < 5 ∧ x = nI (k + 10) := by
  unfold op_isWhat at h
  rw [decide_eq_false h0, Bool.false_or] at h
  unfold op_in at h
  rw [decide_eq_true_iff] at h
  refine ⟨x.toInt.toNat - 10, by omega, ?_⟩
  rw [← Int32.toInt_inj, nI_toInt (by omega)]
  omega
theorem sp_toldRow (hg : nd_OK g) (hw : mo_W h0 A F B h) {s : Option (List Nat)} (hs : mo_kept s A F) {x : Int32} (hx : op_isWhat x = true) (hk : K (.inl (some (.int (op_tR s x)))) h) : nd_M g mX7_toldRow d 0 0 [.ref 101, .int x] h K := by
  refine nd_enter hg (by decide) rfl (Nat.le_of_ble_eq_true rfl) (fun X hC => ?_)
  refine nd_iload_n hC dX7_toldRow_0 rfl ?_
  first | with_reducible refine nd_if_neB hC (tgt := 11) dX7_toldRow_1 (by decide) (fun hc => ?_) (fun hc => ?_) | with_reducible refine nd_if_neN hC (tgt := 11) (by omega) dX7_toldRow_1 (by decide) (fun hc => ?_) (fun hc => ?_) | refine nd_if_ne hC (tgt := 11) dX7_toldRow_1 (by decide) (fun hc => ?_) (fun hc => ?_)
  · obtain ⟨k, hk5, rfl⟩ := op_what_nat hx hc
    unfold op_tR at hk
    rw [nI_cl (by omega)] at hk
    cases s with
    | none =>
      obtain ⟨e31, e32⟩ := hs
      refine nd_aload_n hC dX7_toldRow_11 rfl rfl ?_
      refine mo_get_rowBest hC hw rfl dX7_toldRow_12 ?_
      refine nd_iconst hC (v := -1) (by rfl) dX7_toldRow_15 ?_
      rw [e31]
      first | with_reducible refine nd_icmp_eqN hC (tgt := 42) (by omega) (by omega) dX7_toldRow_16 (by decide) (fun hq => ?_) (fun hq => ?_) | refine nd_icmp_eq hC (tgt := 42) dX7_toldRow_16 (by decide) (fun hq => ?_) (fun hq => ?_)
      · refine nd_iconst hC (v := -1) (by rfl) dX7_toldRow_42 ?_
        refine nd_ireturn hC rfl (by first | rfl | exact nd_b_nar _) (by omega) (by omega) dX7_toldRow_43 (hk)
      · exact absurd rfl hq
    | some r =>
      obtain ⟨hlen, e31, e32, hrow⟩ := hs
      simp only [if_neg hc, Nat.add_sub_cancel] at hk
      refine nd_aload_n hC dX7_toldRow_11 rfl rfl ?_
      refine mo_get_rowBest hC hw rfl dX7_toldRow_12 ?_
      refine nd_iconst hC (v := -1) (by rfl) dX7_toldRow_15 ?_
      rw [e31]
      first | with_reducible refine nd_icmp_eqN hC (tgt := 42) (by omega) (by omega) dX7_toldRow_16 (by decide) (fun hq => ?_) (fun hq => ?_) | refine nd_icmp_eq hC (tgt := 42) dX7_toldRow_16 (by decide) (fun hq => ?_) (fun hq => ?_)
      · exact absurd hq (by intro q; have := congrArg Int32.toInt q; rw [nI_toInt (by omega)] at this; exact absurd this (by show ¬ _ = (-1 : Int); omega))
      refine nd_iload_n hC dX7_toldRow_19 rfl ?_
      refine nd_bipush hC (v := nI 10) (by rfl) dX7_toldRow_20 ?_
      first | with_reducible refine nd_isubN hC (by omega) dX7_toldRow_22 ?_ | refine nd_isub hC dX7_toldRow_22 ?_
      refine nd_aload_n hC dX7_toldRow_23 rfl rfl ?_
      refine mo_get_bestMany hC hw rfl dX7_toldRow_24 ?_
      rw [e32]
      first | with_reducible refine nd_icmp_geN hC (tgt := 42) (by omega) (by omega) dX7_toldRow_27 (by decide) (fun hq2 => ?_) (fun hq2 => ?_) | refine nd_icmp_ge hC (tgt := 42) dX7_toldRow_27 (by decide) (fun hq2 => ?_) (fun hq2 => ?_)
      · rw [if_neg (by omega)] at hk
        refine nd_iconst hC (v := -1) (by rfl) dX7_toldRow_42 ?_
        refine nd_ireturn hC rfl (by first | rfl | exact nd_b_nar _) (by omega) (by omega) dX7_toldRow_43 (hk)
      · rw [if_pos (by omega)] at hk
        refine nd_aload_n hC dX7_toldRow_30 rfl rfl ?_
        refine mo_get_bestRow hC hw rfl dX7_toldRow_31 ?_
        refine nd_iload_n hC dX7_toldRow_34 rfl ?_
        refine nd_bipush hC (v := nI 10) (by rfl) dX7_toldRow_35 ?_
        first | with_reducible refine nd_isubN hC (by omega) dX7_toldRow_37 ?_ | refine nd_isub hC dX7_toldRow_37 ?_
        refine nd_ialoadN hC hw.bestRow (by omega) (by decide) dX7_toldRow_38 ?_
        rw [Nat.add_sub_cancel, hrow k (by omega)]
        refine nd_goto hC (tgt := 43) dX7_toldRow_39 (by decide) ?_
        refine nd_ireturn hC rfl (by first | rfl | exact nd_b_nar _) (by omega) (by omega) dX7_toldRow_43 (hk)
  · subst hc
    have e : F 31 = op_tR s 0 := by
      cases s with
      | none => exact hs.1
      | some r => exact hs.2.1
    refine nd_aload_n hC dX7_toldRow_4 rfl rfl ?_
    refine mo_get_rowBest hC hw rfl dX7_toldRow_5 ?_
    refine nd_goto hC (tgt := 43) dX7_toldRow_8 (by decide) ?_
    rw [e]
    refine nd_ireturn hC rfl (by first | rfl | exact nd_b_nar _) (by omega) (by omega) dX7_toldRow_43 (hk)
theorem sp_toldBest (hg : nd_OK g) (hw : mo_W h0 A F B h) {s : Int32 × List Nat} (hlen : s.2.length ≤ 5) (e31 : F 31 = s.1) (e32 : F 32 = nI s.2.length) (hrow : mo_rw (A 26) s.2) {x : Int32} (hx : x = nI 1 ∨ op_isWhat x = true) (hk : K (.inl (some (.int (op_tB s x)))) h) : nd_M g mX7_toldBest d 0 0 [.ref 101, .int x] h K := by
  unfold op_tB at hk
  refine nd_enter hg (by decide) rfl (Nat.le_of_ble_eq_true rfl) (fun X hC => ?_)
  refine nd_iload_n hC dX7_toldBest_0 rfl ?_
  first | with_reducible refine nd_if_neB hC (tgt := 11) dX7_toldBest_1 (by decide) (fun hc => ?_) (fun hc => ?_) | with_reducible refine nd_if_neN hC (tgt := 11) (by omega) dX7_toldBest_1 (by decide) (fun hc => ?_) (fun hc => ?_) | refine nd_if_ne hC (tgt := 11) dX7_toldBest_1 (by decide) (fun hc => ?_) (fun hc => ?_)
  · rw [if_neg hc] at hk
    refine nd_iload_n hC dX7_toldBest_11 rfl ?_
    refine nd_iconst hC (v := nI 1) (by rfl) dX7_toldBest_12 ?_
    first | with_reducible refine nd_icmp_neN hC (tgt := 23) (by omega) (by omega) dX7_toldBest_13 (by decide) (fun hc1 => ?_) (fun hc1 => ?_) | refine nd_icmp_ne hC (tgt := 23) dX7_toldBest_13 (by decide) (fun hc1 => ?_) (fun hc1 => ?_)
    · rw [if_neg hc1] at hk
      obtain ⟨k, hk5, rfl⟩ := op_what_nat (hx.resolve_left hc1) hc
      rw [nI_cl (by omega), Nat.add_sub_cancel] at hk
      refine nd_iload_n hC dX7_toldBest_23 rfl ?_
      refine nd_bipush hC (v := nI 10) (by rfl) dX7_toldBest_24 ?_
      first | with_reducible refine nd_isubN hC (by omega) dX7_toldBest_26 ?_ | refine nd_isub hC dX7_toldBest_26 ?_
      refine nd_aload_n hC dX7_toldBest_27 rfl rfl ?_
      refine mo_get_bestMany hC hw rfl dX7_toldBest_28 ?_
      rw [e32]
      first | with_reducible refine nd_icmp_geN hC (tgt := 46) (by omega) (by omega) dX7_toldBest_31 (by decide) (fun hq2 => ?_) (fun hq2 => ?_) | refine nd_icmp_ge hC (tgt := 46) dX7_toldBest_31 (by decide) (fun hq2 => ?_) (fun hq2 => ?_)
      · rw [if_neg (by omega)] at hk
        refine nd_iconst hC (v := -1) (by rfl) dX7_toldBest_46 ?_
        refine nd_ireturn hC rfl (by first | rfl | exact nd_b_nar _) (by omega) (by omega) dX7_toldBest_47 (hk)
      · rw [if_pos (by omega)] at hk
        refine nd_aload_n hC dX7_toldBest_34 rfl rfl ?_
        refine mo_get_bestRow hC hw rfl dX7_toldBest_35 ?_
        refine nd_iload_n hC dX7_toldBest_38 rfl ?_
        refine nd_bipush hC (v := nI 10) (by rfl) dX7_toldBest_39 ?_
        first | with_reducible refine nd_isubN hC (by omega) dX7_toldBest_41 ?_ | refine nd_isub hC dX7_toldBest_41 ?_
        refine nd_ialoadN hC hw.bestRow (by omega) (by decide) dX7_toldBest_42 ?_
        rw [Nat.add_sub_cancel, hrow k (by omega)]
        refine nd_goto hC (tgt := 47) dX7_toldBest_43 (by decide) ?_
        refine nd_ireturn hC rfl (by first | rfl | exact nd_b_nar _) (by omega) (by omega) dX7_toldBest_47 (hk)
    · rw [if_pos hc1] at hk
      refine nd_aload_n hC dX7_toldBest_16 rfl rfl ?_
      refine mo_get_bestMany hC hw rfl dX7_toldBest_17 ?_
      refine nd_goto hC (tgt := 47) dX7_toldBest_20 (by decide) ?_
      rw [e32]
      refine nd_ireturn hC rfl (by first | rfl | exact nd_b_nar _) (by omega) (by omega) dX7_toldBest_47 (hk)
  · rw [if_pos hc] at hk
    refine nd_aload_n hC dX7_toldBest_4 rfl rfl ?_
    refine mo_get_rowBest hC hw rfl dX7_toldBest_5 ?_
    refine nd_goto hC (tgt := 47) dX7_toldBest_8 (by decide) ?_
    rw [e31]
    refine nd_ireturn hC rfl (by first | rfl | exact nd_b_nar _) (by omega) (by omega) dX7_toldBest_47 (hk)
theorem mo_kept_up {s : Option (List Nat)} {j : Nat} (h : mo_kept s A F) (hj : 26 ≠ j := by decide) : mo_kept s (va_up A j f) F := by
  cases s with
  | none => exact h
  | some r => exact ⟨h.1, h.2.1, h.2.2.1, by rw [va_up_n A f hj]; exact h.2.2.2⟩
theorem se_fd_congr {cond cond2 : lv_E → Bool} {n m : Nat} {l : List (List Nat)} {s : Option (List Nat)} (hok : lk_ok n l) (h : ∀ x : lv_E, lk_ok n x.2 → cond x = cond2 x) : lv_go (se_fd cond) s (lv_all m l) = lv_go (se_fd cond2) s (lv_all m l) := lv_go_congr _ _ (fun x hx s => by unfold se_fd; rw [h x (lv_all_ok hok x hx).1])
theorem se_bt_congr {val val2 : lv_E → Int32} {n m : Nat} {l : List (List Nat)} {s : Int32 × List Nat} (hok : lk_ok n l) (h : ∀ x : lv_E, lk_ok n x.2 → val x = val2 x) : lv_go (se_bt val) s (lv_all m l) = lv_go (se_bt val2) s (lv_all m l) := lv_go_congr _ _ (fun x hx s => by unfold se_bt; rw [h x (lv_all_ok hok x hx).1])
theorem mp_soonest (hg : nd_OK g) (hd : 17 ≤ d) (x : Int32) : mp_ok g h0 mX7_soonest d [.int x] (mp_i (op_soonest x)) := by
  intro tt S A F B h K ht hI hS hw hk
  have h5 := sy_len5 hS
  have hok := sy_l_ok hS
  have hwd := lk_width hok
  have hn : sy_n S ≤ 6 := hS.1.1.1
  unfold mp_i op_soonest at hk
  refine nd_enter hg (by decide) rfl (Nat.le_of_ble_eq_true rfl) (fun X hC => ?_)
  refine nd_aload_n hC dX7_soonest_0 rfl rfl ?_
  refine nd_iconst hC (v := nI 0) (by rfl) dX7_soonest_1 ?_
  refine mo_put_thrown hC hw rfl dX7_soonest_2 (fun h hw => ?_)
  refine nd_iload_n hC dX7_soonest_5 rfl ?_
  refine mo_callS (As := [_]) (d2 := d - 1) hC rfl lkX7_510 lyX7_510 (Nat.le_of_ble_eq_true rfl) (by omega) rfl (by exact Nat.le_of_ble_eq_true rfl) (Nat.zero_le _) (Nat.zero_le _) dX7_soonest_6 rfl ((sp_isWhat hg (by omega) ?_))
  first | with_reducible refine nd_if_neB hC (tgt := 18) dX7_soonest_9 (by decide) (fun hc => ?_) (fun hc => ?_) | with_reducible refine nd_if_neN hC (tgt := 18) (by omega) dX7_soonest_9 (by decide) (fun hc => ?_) (fun hc => ?_) | refine nd_if_ne hC (tgt := 18) dX7_soonest_9 (by decide) (fun hc => ?_) (fun hc => ?_)
  · rw [if_pos hc] at hk
    refine nd_aload_n hC dX7_soonest_18 rfl rfl ?_
    refine nd_iconst hC (v := nI 5) (by rfl) dX7_soonest_19 ?_
    refine nd_aload_n hC dX7_soonest_20 rfl rfl ?_
    refine mo_callV (As := []) (d2 := d - 1) hC hw rfl lkX7_343 lyX7_343 (Nat.le_of_ble_eq_true rfl) (by omega) rfl (by exact Nat.le_of_ble_eq_true rfl) (Nat.zero_le _) (Nat.zero_le _) dX7_soonest_21 rfl ((sp_now hg (by omega) hI.th hS hw ?_))
    intro A2 h2 hl kA hI2 hw
    refine nd_iconst hC (v := nI 5) (by rfl) dX7_soonest_24 ?_
    refine mo_callV (As := [_, _, _]) (d2 := d - 1) hC hw rfl lkX7_502 lyX7_502 (Nat.le_of_ble_eq_true rfl) (by omega) rfl (by exact Nat.le_of_ble_eq_true rfl) (Nat.zero_le _) (Nat.zero_le _) dX7_soonest_25 rfl ((sp_askS hg (d0 := 6) none hI2 hn h5 (by omega) (by omega) (fun d2 hd2 => se_soonest_ok hg hd2 hS.1.1 h5 hI2.1.1) (fun s A F B f q => ⟨q.1.up19 f, q.2.1, mo_kept_up q.2.2⟩) (fun s A F B f q => ⟨q.1.up25 f, q.2.1, mo_kept_up q.2.2⟩) (by omega) (by omega) hw hl hok ⟨⟨fun _ _ _ _ => rfl, fun _ _ => rfl, fun _ _ => rfl⟩, rfl, rfl, rfl⟩ (lv_B_T _ _ (fun _ => trivial) _ _) ?_))
    intro A3 F3 B3 h3 hiv hI3 e4 e27 e33 hw
    rw [se_fd_congr hok (fun x hx => nk_holds_congr hx hn (hI2.fr hS) (hI2.bk hS))] at hiv
    refine nd_aload_n hC dX7_soonest_28 rfl rfl ?_
    refine nd_iload_n hC dX7_soonest_29 rfl ?_
    refine mo_callV (As := [_]) (d2 := d - 1) hC hw rfl lkX7_513 lyX7_513 (Nat.le_of_ble_eq_true rfl) (by omega) rfl (by exact Nat.le_of_ble_eq_true rfl) (Nat.zero_le _) (Nat.zero_le _) dX7_soonest_30 rfl ((sp_toldRow hg hw hiv.2.2 hc ?_))
    refine nd_ireturn hC rfl (by first | rfl | exact nd_b_nar _) (by omega) (by omega) dX7_soonest_33 ((hk _ _ _ _ (hI3.t (by omega)) (e4.trans (va_up_s _ _ _)) hw))
  · rw [if_neg (by rw [hc]; decide)] at hk
    refine nd_aload_n hC dX7_soonest_12 rfl rfl ?_
    refine nd_iconst hC (v := nI 1) (by rfl) dX7_soonest_13 ?_
    refine mo_callV (As := [_]) (d2 := d - 1) hC hw rfl lkX7_244 lyX7_244 (Nat.le_of_ble_eq_true rfl) (by omega) rfl (by exact Nat.le_of_ble_eq_true rfl) (Nat.zero_le _) (Nat.zero_le _) dX7_soonest_14 rfl ((sp_fails hg hw (fun h3 hw => ?_)))
    refine nd_ireturn hC rfl (by first | rfl | exact nd_b_nar _) (by omega) (by omega) dX7_soonest_17 ((hk A _ _ h3 (hI.th.th.t (by omega)) (va_up_s _ _ _) hw))
theorem sp_bestBy (hg : nd_OK g) (hd : 18 ≤ d) {what tt : Nat} {S : sy_S} {val1 : lv_E → Int32} {val : sy_S → lv_E → Int32} (hwh : what = 3 ∨ what = 6) (x y : Int32) (ht : tt ≤ 1000000) (hI : mo_I tt S A F B) (hS : sy_ok S) (hw : mo_W h0 A F B h)
    (hSee : ∀ A2 F2 d2, mo_k A A2 → 8 ≤ d2 → mo_see g h0 d2 (sy_n S) (sy_c S).1.length (Int32 × List Nat) (se_bt val1) (fun _ => True) (iv_bt what A2 F2 B)) (heq : ∀ x : lv_E, lk_ok (sy_n S) x.2 → val1 x = val S x)
    (hk : ∀ A2 F2 B2 h2, mo_I (tt + 4) (op_bestBy val x y S).2.2 A2 F2 B2 → F2 4 = nI (op_bestBy val x y S).1 → mo_W h0 A2 F2 B2 h2 → K (.inl (some (.int (op_bestBy val x y S).2.1))) h2) : nd_M g mX7_bestBy d 0 0 [.ref 101, .int (nI what), .int x, .int y] h K := by
  have h5 := sy_len5 hS
  have hok := sy_l_ok hS
  have hwd := lk_width hok
  have hn : sy_n S ≤ 6 := hS.1.1.1
  unfold op_bestBy at hk
  refine nd_enter hg (by decide) rfl (Nat.le_of_ble_eq_true rfl) (fun X hC => ?_)
  refine nd_aload_n hC dX7_bestBy_0 rfl rfl ?_
  refine nd_iconst hC (v := nI 0) (by rfl) dX7_bestBy_1 ?_
  refine mo_put_thrown hC hw rfl dX7_bestBy_2 (fun h hw => ?_)
  refine nd_iload_n hC dX7_bestBy_5 rfl ?_
  refine mo_callS (As := [_]) (d2 := d - 1) hC rfl lkX7_499 lyX7_499 (Nat.le_of_ble_eq_true rfl) (by omega) rfl (by exact Nat.le_of_ble_eq_true rfl) (Nat.zero_le _) (Nat.zero_le _) dX7_bestBy_6 rfl ((sp_isMore hg (by omega) ?_))
  have JF : ¬ (op_in x 0 5 = true ∧ (y = nI 1 ∨ op_isWhat y = true)) → nd_W g mX7_bestBy d 0 0 K X 24 [some (.ref 101), some (.int (nI what)), some (.int x), some (.int y)] [] h 0 0 := by
    intro q
    rw [if_neg q] at hk
    refine nd_aload_n hC dX7_bestBy_24 rfl rfl ?_
    refine nd_iconst hC (v := nI 1) (by rfl) dX7_bestBy_25 ?_
    refine mo_callV (As := [_]) (d2 := d - 1) hC hw rfl lkX7_244 lyX7_244 (Nat.le_of_ble_eq_true rfl) (by omega) rfl (by exact Nat.le_of_ble_eq_true rfl) (Nat.zero_le _) (Nat.zero_le _) dX7_bestBy_26 rfl ((sp_fails hg hw (fun h3 hw => ?_)))
    refine nd_ireturn hC rfl (by first | rfl | exact nd_b_nar _) (by omega) (by omega) dX7_bestBy_29 ((hk A _ _ h3 (hI.th.th.t (by omega)) (va_up_s _ _ _) hw))
  have JT : op_in x 0 5 = true → (y = nI 1 ∨ op_isWhat y = true) → nd_W g mX7_bestBy d 0 0 K X 30 [some (.ref 101), some (.int (nI what)), some (.int x), some (.int y)] [] h 0 0 := by
    intro hc hy
    rw [if_pos ⟨hc, hy⟩] at hk
    obtain ⟨k, hk1, rfl⟩ := op_in_nat hc
    rw [nI_cl (by omega)] at hk
    refine nd_aload_n hC dX7_bestBy_30 rfl rfl ?_
    refine nd_iload_n hC dX7_bestBy_31 rfl ?_
    refine nd_aload_n hC dX7_bestBy_32 rfl rfl ?_
    refine mo_callV (As := []) (d2 := d - 1) hC hw rfl lkX7_343 lyX7_343 (Nat.le_of_ble_eq_true rfl) (by omega) rfl (by exact Nat.le_of_ble_eq_true rfl) (Nat.zero_le _) (Nat.zero_le _) dX7_bestBy_33 rfl ((sp_now hg (by omega) hI.th hS hw ?_))
    intro A2 h2 hl kA hI2 hw
    refine nd_iload_n hC dX7_bestBy_36 rfl ?_
    refine mo_callV (As := [_, _, _]) (d2 := d - 1) hC hw rfl lkX7_502 lyX7_502 (Nat.le_of_ble_eq_true rfl) (by omega) rfl (by exact Nat.le_of_ble_eq_true rfl) (Nat.zero_le _) (Nat.zero_le _) dX7_bestBy_37 rfl ((sp_askS hg (d0 := 8) (-536870912, []) hI2 hn h5 (by omega) (by omega) (fun d2 hd2 => hSee A2 _ d2 kA hd2) (fun s A F B f q => ⟨q.1.up19 f, q.2⟩) (fun s A F B f q => ⟨q.1.up25 f, q.2⟩) (by omega) (by omega) hw hl hok ⟨⟨fun _ _ _ _ => rfl, fun _ _ => rfl, fun _ _ => rfl⟩, rfl, Nat.zero_le _, (by show (if what = 3 ∨ what = 6 ∨ what = 8 then _ else _) = _; rw [if_pos (by omega)]), rfl, fun i hi => absurd hi (Nat.not_lt_zero _)⟩ (lv_B_T _ _ (fun _ => trivial) _ _) ?_))
    intro A3 F3 B3 h3 hiv hI3 e4 e27 e33 hw
    rw [se_bt_congr hok heq] at hiv
    refine nd_aload_n hC dX7_bestBy_40 rfl rfl ?_
    refine nd_iload_n hC dX7_bestBy_41 rfl ?_
    refine mo_callV (As := [_]) (d2 := d - 1) hC hw rfl lkX7_516 lyX7_516 (Nat.le_of_ble_eq_true rfl) (by omega) rfl (by exact Nat.le_of_ble_eq_true rfl) (Nat.zero_le _) (Nat.zero_le _) dX7_bestBy_42 rfl ((sp_toldBest hg hw hiv.2.2.1 hiv.2.2.2.1 hiv.2.2.2.2.1 hiv.2.2.2.2.2 hy ?_))
    refine nd_ireturn hC rfl (by first | rfl | exact nd_b_nar _) (by omega) (by omega) dX7_bestBy_45 ((hk _ _ _ _ (hI3.t (by omega)) (e4.trans (va_up_s _ _ _)) hw))
  first | with_reducible refine nd_if_eqB hC (tgt := 24) dX7_bestBy_9 (by decide) (fun hc => ?_) (fun hc => ?_) | with_reducible refine nd_if_eqN hC (tgt := 24) (by omega) dX7_bestBy_9 (by decide) (fun hc => ?_) (fun hc => ?_) | refine nd_if_eq hC (tgt := 24) dX7_bestBy_9 (by decide) (fun hc => ?_) (fun hc => ?_)
  · exact JF (fun q => by rw [hc] at q; exact absurd q.1 (by decide))
  · refine nd_iload_n hC dX7_bestBy_12 rfl ?_
    refine nd_iconst hC (v := nI 1) (by rfl) dX7_bestBy_13 ?_
    first | with_reducible refine nd_icmp_eqN hC (tgt := 30) (by omega) (by omega) dX7_bestBy_14 (by decide) (fun hy => ?_) (fun hy => ?_) | refine nd_icmp_eq hC (tgt := 30) dX7_bestBy_14 (by decide) (fun hy => ?_) (fun hy => ?_)
    · exact JT hc (Or.inl hy)
    · refine nd_iload_n hC dX7_bestBy_17 rfl ?_
      refine mo_callS (As := [_]) (d2 := d - 1) hC rfl lkX7_510 lyX7_510 (Nat.le_of_ble_eq_true rfl) (by omega) rfl (by exact Nat.le_of_ble_eq_true rfl) (Nat.zero_le _) (Nat.zero_le _) dX7_bestBy_18 rfl ((sp_isWhat hg (by omega) ?_))
      first | with_reducible refine nd_if_neB hC (tgt := 30) dX7_bestBy_21 (by decide) (fun hq => ?_) (fun hq => ?_) | with_reducible refine nd_if_neN hC (tgt := 30) (by omega) dX7_bestBy_21 (by decide) (fun hq => ?_) (fun hq => ?_) | refine nd_if_ne hC (tgt := 30) dX7_bestBy_21 (by decide) (fun hq => ?_) (fun hq => ?_)
      · exact JT hc (Or.inr hq)
      · exact JF (fun q => q.2.elim hy (fun q => by rw [hq] at q; exact absurd q (by decide)))
theorem mp_best (hg : nd_OK g) (hd : 19 ≤ d) (x y : Int32) : mp_ok g h0 mX7_best d [.int x, .int y] (mp_i (op_best x y)) := by
  intro tt S A F B h K ht hI hS hw hk
  refine nd_enter hg (by decide) rfl (Nat.le_of_ble_eq_true rfl) (fun X hC => ?_)
  refine nd_aload_n hC dX7_best_0 rfl rfl ?_
  refine nd_iconst hC (v := nI 3) (by rfl) dX7_best_1 ?_
  refine nd_iload_n hC dX7_best_2 rfl ?_
  refine nd_iload_n hC dX7_best_3 rfl ?_
  refine mo_callV (As := [_, _, _]) (d2 := d - 1) hC hw rfl lkX7_519 lyX7_519 (Nat.le_of_ble_eq_true rfl) (by omega) rfl (by exact Nat.le_of_ble_eq_true rfl) (Nat.zero_le _) (Nat.zero_le _) dX7_best_4 rfl ((sp_bestBy hg (by omega) (Or.inl rfl) (val := sy_worth) (val1 := fun x => nk_worth (sy_N S) (mo_fr (A 0)) (mo_bk (A 0)) x.2 ((sy_c S).1.length + x.1.length)) x y ht hI hS hw (fun A2 F2 d2 kA hd2 => by rw [← kA 0 rfl]; exact se_best_ok hg (by omega) hS.1.1 (sy_len5 hS) (by rw [kA 0 rfl]; exact hI.1.1)) (fun x hx => nk_worth_congr hx hS.1.1.1 (hI.fr hS) (hI.bk hS)) ?_))
  intro A2 F2 B2 h2 q1 q2 hw
  refine nd_ireturn hC rfl (by first | rfl | exact nd_b_nar _) (by omega) (by omega) dX7_best_7 ((hk A2 F2 B2 h2 q1 q2 hw))
theorem nk_least_congr {N : nk_N} {fr bk fr2 bk2 : Nat → Int32} {folds : Nat} {s0 : Int32} {l : List (List Nat)} (hok : lk_ok (nk_n N) l) (hn : nk_n N ≤ 6) (h1 : ∀ c, c < nk_n N → fr c = fr2 c) (h2 : ∀ c, c < nk_n N → bk c = bk2 c) (k : Nat) : nk_least N fr bk l folds s0 k = nk_least N fr2 bk2 l folds s0 k := by
  induction k with
  | zero => rfl
  | succ k ih => unfold nk_least; rw [ih, nk_likes_congr hok hn h1 h2]
theorem mp_fairest (hg : nd_OK g) (hd : 19 ≤ d) (x y : Int32) : mp_ok g h0 mX7_fairest d [.int x, .int y] (mp_i (op_fairest x y)) := by
  intro tt S A F B h K ht hI hS hw hk
  refine nd_enter hg (by decide) rfl (Nat.le_of_ble_eq_true rfl) (fun X hC => ?_)
  refine nd_aload_n hC dX7_fairest_0 rfl rfl ?_
  refine nd_bipush hC (v := nI 6) (by rfl) dX7_fairest_1 ?_
  refine nd_iload_n hC dX7_fairest_3 rfl ?_
  refine nd_iload_n hC dX7_fairest_4 rfl ?_
  refine mo_callV (As := [_, _, _]) (d2 := d - 1) hC hw rfl lkX7_519 lyX7_519 (Nat.le_of_ble_eq_true rfl) (by omega) rfl (by exact Nat.le_of_ble_eq_true rfl) (Nat.zero_le _) (Nat.zero_le _) dX7_fairest_5 rfl ((sp_bestBy hg (by omega) (Or.inr rfl) (val := sy_least) (val1 := fun x => nk_least (sy_N S) (mo_fr (A 0)) (mo_bk (A 0)) x.2 ((sy_c S).1.length + x.1.length) (if (nk_w (sy_N S)).length = 0 then nI 0 else nI 536870912) (nk_w (sy_N S)).length) x y ht hI hS hw (fun A2 F2 d2 kA hd2 => by rw [← kA 0 rfl]; exact se_fairest_ok hg (by omega) hS.1.1 (sy_len5 hS) (by rw [kA 0 rfl]; exact hI.1.1)) (fun x hx => nk_least_congr hx hS.1.1.1 (hI.fr hS) (hI.bk hS) _) ?_))
  intro A2 F2 B2 h2 q1 q2 hw
  refine nd_ireturn hC rfl (by first | rfl | exact nd_b_nar _) (by omega) (by omega) dX7_fairest_8 ((hk A2 F2 B2 h2 q1 q2 hw))
end MO18

