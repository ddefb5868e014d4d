set_option maxRecDepth 100000
/-! ===== the reference's world holds the system's state ===== -/
def mo_sv (k : Nat → Int32) (o : Nat) (s : sv) : Prop := k o = nI s.1.length ∧ (∀ i, i < s.1.length → k (o + 1 + i) = nI (s.1.getD i 0)) ∧ (∀ c, c < s.2.1.length → k (o + 6 + c) = nI (s.2.1.getD c 0)) ∧ ∀ c, c < s.2.2.length → k (o + 12 + c) = nI (s.2.2.getD c 0)
def mo_kn (k : Nat → Int32) (P : sy_P) : Prop := mo_nap k P.1 ∧ mo_sv k 7 P.2.1 ∧ k 6 = nI P.2.2.length ∧ ∀ i, i < P.2.2.length → mo_sv k (29 + 18 * i) (P.2.2.getD i ([], [], []))
def mo_tt (mb : Nat → Int32) (turn : Int32) (tt : Nat) : Prop := ∃ T, T ≤ tt ∧ turn = nI T ∧ ∀ j, j < tb_T → ∃ t, t ≤ T ∧ mb j = nI t
def mo_I (tt : Nat) (S : sy_S) (A : Nat → Nat → Int32) (F : Nat → Int32) (B : Nat → Nat → Int64) : Prop :=
  mo_kn (A 0) (sy_p S) ∧ (∀ i, i < 3 → (sy_i S i = none → A 3 i = nI 0) ∧ ∀ P, sy_i S i = some P → A 3 i = nI 1 ∧ mo_kn (fun j => A 2 (2912 * i + j)) P) ∧
  (∀ t, t < 4 → (sy_t S t = none → A 40 t = -1) ∧ ∀ q, sy_t S t = some q → A 40 t = nI q.1 ∧ mo_tr A B t q.2) ∧ F 6 = nI (sy_b S).length ∧ (∀ i, i < (sy_b S).length → A 5 i = nI ((sy_b S).getD i 0)) ∧ F 14 = nI (sy_fk S) ∧ F 15 = sy_fp S ∧ mo_tt (A 36) (F 37) tt
def mo_ka (k : Nat) : Bool := k == 0 || k == 2 || k == 3 || k == 5 || k == 36 || k == 40 || k == 41
def mo_kf (k : Nat) : Bool := k == 6 || k == 14 || k == 15 || k == 37
theorem mo_I.keep {tt tt2 : Nat} {S : sy_S} {A A2 : Nat → Nat → Int32} {F F2 : Nat → Int32} {B B2 : Nat → Nat → Int64} (h : mo_I tt S A F B) (htt : tt ≤ tt2) (hA : ∀ k, mo_ka k = true → A2 k = A k) (hF : ∀ k, mo_kf k = true → F2 k = F k) (hB : B2 42 = B 42) : mo_I tt2 S A2 F2 B2 := by
  obtain ⟨h1, h2, h3, h4, h5, h6, h7, T, h8, h9⟩ := h
  unfold mo_I mo_tr
  rw [hA 0 rfl, hA 2 rfl, hA 3 rfl, hA 5 rfl, hA 36 rfl, hA 40 rfl, hA 41 rfl, hF 6 rfl, hF 14 rfl, hF 15 rfl, hF 37 rfl, hB]
  exact ⟨h1, h2, h3, h4, h5, h6, h7, T, by omega, h9⟩
/-- a public method of the reference does what the operation says -/
def mp_ok (g : nd_G) (h0 : nd_H) (mm : nd_Mt) (d : Nat) (argv : List Value) (f : sy_S → Nat × Option Value × sy_S) : Prop :=
  ∀ (tt : Nat) (S : sy_S) (A : Nat → Nat → Int32) (F : Nat → Int32) (B : Nat → Nat → Int64) (h : nd_H) (K : nd_K), tt ≤ 1000000 → mo_I tt S A F B → sy_ok S → mo_W h0 A F B h →
    (∀ A2 F2 B2 h2, mo_I (tt + 4) (f S).2.2 A2 F2 B2 → F2 4 = nI (f S).1 → mo_W h0 A2 F2 B2 h2 → K (.inl (f S).2.1) h2) → nd_M g mm d 0 0 (.ref 101 :: argv) h K
/-- .. that answers an int -/
abbrev mp_i (f : sy_S → sy_R) : sy_S → Nat × Option Value × sy_S := fun S => ((f S).1, some (.int (f S).2.1), (f S).2.2)
section MO17
variable {g : nd_G} {d : Nat} {K : nd_K} {h h0 : nd_H} {A : Nat → Nat → Int32} {F : Nat → Int32} {B : Nat → Nat → Int64} {f : Nat → Int32}
theorem mo_I.n {tt : Nat} {S : sy_S} (h : mo_I tt S A F B) : A 0 1 = nI (sy_n S) := h.1.1.2.1
theorem mo_I.fs {tt : Nat} {S : sy_S} (h : mo_I tt S A F B) : mo_fs (A 0) (sy_c S).1 := ⟨h.1.2.1.1, h.1.2.1.2.1⟩
theorem mo_I.fr {tt : Nat} {S : sy_S} (h : mo_I tt S A F B) (hs : sy_ok S) : ∀ c, c < sy_n S → mo_fr (A 0) c = sv_fr (sy_c S) c := fun c hc => h.1.2.1.2.2.1 c (by rw [hs.1.2.1.2.1]; exact hc)
theorem mo_I.bk {tt : Nat} {S : sy_S} (h : mo_I tt S A F B) (hs : sy_ok S) : ∀ c, c < sy_n S → mo_bk (A 0) c = sv_bk (sy_c S) c := fun c hc => h.1.2.1.2.2.2 c (by rw [hs.1.2.1.2.2.1]; exact hc)
theorem sp_fails (hg : nd_OK g) (hw : mo_W h0 A F B h) {k : Int32} (hk : ∀ h2, mo_W h0 A (va_up F 4 k) B h2 → K (.inl (some (.int (nI 0)))) h2) : nd_M g mX7_fails d 0 0 [.ref 101, .int k] h K := by
  refine nd_enter hg (by decide) rfl (Nat.le_of_ble_eq_true rfl) (fun X hC => ?_)
  refine nd_aload_n hC dX7_fails_0 rfl rfl ?_
  refine nd_iload_n hC dX7_fails_1 rfl ?_
  refine mo_put_thrown hC hw rfl dX7_fails_2 (fun h hw => ?_)
  refine nd_iconst hC (v := nI 0) (by rfl) dX7_fails_5 ?_
  refine nd_ireturn hC rfl (by first | rfl | exact nd_b_nar _) (by omega) (by omega) dX7_fails_6 ((hk h hw))
theorem sp_thrown (hg : nd_OK g) (hw : mo_W h0 A F B h) (hk : K (.inl (some (.int (F 4)))) h) : nd_M g mX7_thrown d 0 0 [.ref 101] h K := by
  refine nd_enter hg (by decide) rfl (Nat.le_of_ble_eq_true rfl) (fun X hC => ?_)
  refine nd_aload_n hC dX7_thrown_0 rfl rfl ?_
  refine mo_get_thrown hC hw rfl dX7_thrown_1 ?_
  refine nd_ireturn hC rfl (by first | rfl | exact nd_b_nar _) (by omega) (by omega) dX7_thrown_4 (hk)
def mo_k (A A2 : Nat → Nat → Int32) : Prop := ∀ k, (mo_ka k || k == 27 || k == 23) = true → A2 k = A k
theorem mo_k.rfl : mo_k A A := fun _ _ => Eq.refl _
theorem mo_k.trans {A A2 A3 : Nat → Nat → Int32} (h : mo_k A A2) (h2 : mo_k A2 A3) : mo_k A A3 := fun k e => (h2 k e).trans (h k e)
theorem mo_k.up {j : Nat} (hj : (mo_ka j || j == 27 || j == 23) = false) : mo_k A (va_up A j f) := fun k e => va_up_n A f (fun q => by subst q; rw [hj] at e; exact absurd e (by decide))
theorem mo_k.s2 {A A2 : Nat → Nat → Int32} (h : mo_s2 A A2) : mo_k A A2 := fun k e => h k (fun q => by subst q; exact absurd e (by decide)) (fun q => by subst q; exact absurd e (by decide))
theorem mo_I.a {tt : Nat} {S : sy_S} {A2 : Nat → Nat → Int32} (h : mo_I tt S A F B) (hA : mo_k A A2) : mo_I tt S A2 F B := h.keep (Nat.le_refl _) (fun k e => hA k (by rw [e]; rfl)) (fun _ _ => Eq.refl _) (Eq.refl _)
theorem mo_I.th {tt : Nat} {S : sy_S} {v : Int32} (h : mo_I tt S A F B) : mo_I tt S A (va_up F 4 v) B := h.keep (Nat.le_refl _) (fun _ _ => Eq.refl _) (fun k e => va_up_n F v (fun q => by subst q; exact absurd e (by decide))) (Eq.refl _)
theorem mo_I.t {tt tt2 : Nat} {S : sy_S} (h : mo_I tt S A F B) (ht : tt ≤ tt2) : mo_I tt2 S A F B := h.keep ht (fun _ _ => Eq.refl _) (fun _ _ => Eq.refl _) (Eq.refl _)
/-- the present look, laid -/
theorem sp_now (hg : nd_OK g) (hd : 3 ≤ d) {tt : Nat} {S : sy_S} (hI : mo_I tt S A F B) (hS : sy_ok S) (hw : mo_W h0 A F B h) (hk : ∀ A2 h2, mo_lk (A2 19) (sy_c S).1.length (sy_l S) → mo_k A A2 → mo_I tt S A2 F B → mo_W h0 A2 F B h2 → K (.inl (some (.int (nI (sy_c S).1.length)))) h2) : nd_M g mX7_laysNow d 0 0 [.ref 101] h K := sp_laysNow hg hd hw hI.n hS.1.1.1 hI.fs hS.1.2.1.1 (fun f2 h2 hl hw => hk _ h2 (by rw [va_up_s]; exact hl) (mo_k.up rfl) (hI.a (mo_k.up rfl)) hw)
theorem sy_len5 {S : sy_S} (hS : sy_ok S) : (sy_c S).1.length ≤ 5 := lk_val_le hS.1.1.1 hS.1.2.1.1
theorem op_in_nat {x : Int32} {m : Int} (h : op_in x 0 m = true) : ∃ k : Nat, (k : Int) ≤ m ∧ x = nI k := by
  unfold op_in at h
  rw [decide_eq_true_iff] at h
  refine ⟨x.toInt.toNat, by omega, ?_⟩
  rw [← Int32.toInt_inj, nI_toInt (by have := Int32.toInt_lt x; omega)]
  omega
theorem op_nat {x : Int32} (h : 0 ≤ x) : ∃ k : Nat, k < 2147483648 ∧ x = nI k := by
  rw [Int32.le_iff_toInt_le] at h
  have h0 : (0 : Int32).toInt = 0 := rfl
  have := Int32.toInt_lt x
  refine ⟨x.toInt.toNat, by omega, ?_⟩
  rw [← Int32.toInt_inj, nI_toInt (by omega)]
  omega
theorem nI_cl {k : Nat} (hk : k < 2147483648) : (nI k).toNatClampNeg = k := nd_toNat (nI_toInt hk)
theorem sp_isColumn (hg : nd_OK g) (hd : 4 ≤ d) {tt : Nat} {S : sy_S} {x : Int32} (hI : mo_I tt S A F B) (hS : sy_ok S) (hw : mo_W h0 A F B h) (hk : ∀ A2 h2, mo_lk (A2 19) (sy_c S).1.length (sy_l S) → mo_k A A2 → mo_I tt S A2 F B → mo_W h0 A2 F B h2 → K (.inl (some (.int (nd_b (op_in x 0 ((sy_l S).length - 1)))))) h2) : nd_M g mX7_isColumn d 0 0 [.ref 101, .int x] h K := by
  have h5 := sy_len5 hS
  have hwd := lk_width (sy_l_ok hS)
  have hn : sy_n S ≤ 6 := hS.1.1.1
  refine nd_enter hg (by decide) rfl (Nat.le_of_ble_eq_true rfl) (fun X hC => ?_)
  refine nd_iload_n hC dX7_isColumn_0 rfl ?_
  first | with_reducible refine nd_i2lN hC (by omega) dX7_isColumn_1 ?_ | refine nd_i2l hC dX7_isColumn_1 ?_
  refine nd_lconst hC (v := lN 0) (by rfl) dX7_isColumn_2 ?_
  refine nd_aload_n hC dX7_isColumn_3 rfl rfl ?_
  refine nd_aload_n hC dX7_isColumn_4 rfl rfl ?_
  refine mo_callV (As := []) (d2 := d - 1) hC hw rfl lkX7_343 lyX7_343 (Nat.le_of_ble_eq_true rfl) (by omega) rfl (by exact Nat.le_of_ble_eq_true rfl) (Nat.zero_le _) (Nat.zero_le _) dX7_isColumn_5 rfl ((sp_now hg (by omega) hI hS hw ?_))
  intro A2 h2 hl kA hI2 hw
  refine mo_callV (As := [_]) (d2 := d - 1) hC hw rfl lkX7_256 lyX7_256 (Nat.le_of_ble_eq_true rfl) (by omega) rfl (by exact Nat.le_of_ble_eq_true rfl) (Nat.zero_le _) (Nat.zero_le _) dX7_isColumn_8 rfl ((sp_columnsAt hg hw (by omega) ?_))
  rw [hl.1]
  refine nd_iconst hC (v := nI 1) (by rfl) dX7_isColumn_11 ?_
  first | with_reducible refine nd_isubN hC (by omega) dX7_isColumn_12 ?_ | refine nd_isub hC dX7_isColumn_12 ?_
  first | with_reducible refine nd_i2lN hC (by omega) dX7_isColumn_13 ?_ | refine nd_i2l hC dX7_isColumn_13 ?_
  refine mo_callS (As := [_, _, _]) (d2 := d - 1) hC rfl lkX7_138 lyX7_138 (Nat.le_of_ble_eq_true rfl) (by omega) rfl (by exact Nat.le_of_ble_eq_true rfl) (Nat.zero_le _) (Nat.zero_le _) dX7_isColumn_14 rfl ((sp_within hg ?_))
  have e : (decide (lN 0 ≤ x.toInt64) && decide (x.toInt64 ≤ (nI (sy_l S).length - nI 1).toInt64)) = op_in x 0 ((sy_l S).length - 1) := by
    unfold op_in
    rw [Bool.eq_iff_iff, Bool.and_eq_true, nd_lle, nd_lle, nd_tl, nd_tl, nd_ti (by omega) (by omega), lN_toInt (by decide), decide_eq_true_iff]
    omega
  rw [e]
  refine nd_ireturn hC rfl (by first | rfl | exact nd_b_nar _) (by omega) (by omega) dX7_isColumn_17 ((hk A2 h2 hl kA hI2 hw))
theorem mp_high (hg : nd_OK g) (hd : 5 ≤ d) (x : Int32) : mp_ok g h0 mX7_high d [.int x] (mp_i (op_high x)) := by
  intro tt S A F B h K ht hI hS hw hk
  have h5 := sy_len5 hS
  have hok := sy_l_ok hS
  have hwd := lk_width hok
  have hn : sy_n S ≤ 6 := hS.1.1.1
  unfold mp_i op_high at hk
  refine nd_enter hg (by decide) rfl (Nat.le_of_ble_eq_true rfl) (fun X hC => ?_)
  refine nd_aload_n hC dX7_high_0 rfl rfl ?_
  refine nd_iconst hC (v := nI 0) (by rfl) dX7_high_1 ?_
  refine mo_put_thrown hC hw rfl dX7_high_2 (fun h hw => ?_)
  refine nd_aload_n hC dX7_high_5 rfl rfl ?_
  refine nd_iload_n hC dX7_high_6 rfl ?_
  refine mo_callV (As := [_]) (d2 := d - 1) hC hw rfl lkX7_346 lyX7_346 (Nat.le_of_ble_eq_true rfl) (by omega) rfl (by exact Nat.le_of_ble_eq_true rfl) (Nat.zero_le _) (Nat.zero_le _) dX7_high_7 rfl ((sp_isColumn hg (by omega) hI.th hS hw ?_))
  intro A2 h2 hl kA hI2 hw
  first | with_reducible refine nd_if_eqB hC (tgt := 28) dX7_high_10 (by decide) (fun hc => ?_) (fun hc => ?_) | with_reducible refine nd_if_eqN hC (tgt := 28) (by omega) dX7_high_10 (by decide) (fun hc => ?_) (fun hc => ?_) | refine nd_if_eq hC (tgt := 28) dX7_high_10 (by decide) (fun hc => ?_) (fun hc => ?_)
  · rw [if_neg (by rw [hc]; decide)] at hk
    refine nd_aload_n hC dX7_high_28 rfl rfl ?_
    refine nd_iconst hC (v := nI 1) (by rfl) dX7_high_29 ?_
    refine mo_callV (As := [_]) (d2 := d - 1) hC hw rfl lkX7_244 lyX7_244 (Nat.le_of_ble_eq_true rfl) (by omega) rfl (by exact Nat.le_of_ble_eq_true rfl) (Nat.zero_le _) (Nat.zero_le _) dX7_high_30 rfl ((sp_fails hg hw (fun h3 hw3 => ?_)))
    refine nd_ireturn hC rfl (by first | rfl | exact nd_b_nar _) (by omega) (by omega) dX7_high_33 ((hk A2 _ _ h3 (hI2.th.t (by omega)) (va_up_s _ _ _) hw3))
  · rw [if_pos hc] at hk
    obtain ⟨k, hk1, rfl⟩ := op_in_nat hc
    rw [nI_cl (by omega)] at hk
    refine nd_aload_n hC dX7_high_13 rfl rfl ?_
    refine nd_aload_n hC dX7_high_14 rfl rfl ?_
    refine mo_get_known hC hw rfl dX7_high_15 ?_
    refine nd_bipush hC (v := nI 7) (by rfl) dX7_high_18 ?_
    refine nd_ialoadN hC hw.known (by omega) (by decide) dX7_high_20 ?_
    rw [hI2.fs.1]
    refine nd_iload_n hC dX7_high_21 rfl ?_
    refine mo_callV (As := [_, _]) (d2 := d - 1) hC hw rfl lkX7_261 lyX7_261 (Nat.le_of_ble_eq_true rfl) (by omega) rfl (by exact Nat.le_of_ble_eq_true rfl) (Nat.zero_le _) (Nat.zero_le _) dX7_high_22 rfl ((sp_highAt hg hw (by omega) ?_))
    rw [(hl.2 k (by omega)).1]
    refine nd_goto hC (tgt := 33) dX7_high_25 (by decide) ?_
    refine nd_ireturn hC rfl (by first | rfl | exact nd_b_nar _) (by omega) (by omega) dX7_high_33 ((hk A2 _ _ h2 (hI2.t (by omega)) (va_up_s _ _ _) hw))
theorem mp_above (hg : nd_OK g) (hd : 5 ≤ d) (x : Int32) : mp_ok g h0 mX7_above d [.int x] (mp_i (op_above x)) := by
  intro tt S A F B h K ht hI hS hw hk
  have h5 := sy_len5 hS
  have hok := sy_l_ok hS
  have hwd := lk_width hok
  have hn : sy_n S ≤ 6 := hS.1.1.1
  unfold mp_i op_above at hk
  refine nd_enter hg (by decide) rfl (Nat.le_of_ble_eq_true rfl) (fun X hC => ?_)
  refine nd_aload_n hC dX7_above_0 rfl rfl ?_
  refine nd_iconst hC (v := nI 0) (by rfl) dX7_above_1 ?_
  refine mo_put_thrown hC hw rfl dX7_above_2 (fun h hw => ?_)
  refine nd_aload_n hC dX7_above_5 rfl rfl ?_
  refine nd_iload_n hC dX7_above_6 rfl ?_
  refine mo_callV (As := [_]) (d2 := d - 1) hC hw rfl lkX7_346 lyX7_346 (Nat.le_of_ble_eq_true rfl) (by omega) rfl (by exact Nat.le_of_ble_eq_true rfl) (Nat.zero_le _) (Nat.zero_le _) dX7_above_7 rfl ((sp_isColumn hg (by omega) hI.th hS hw ?_))
  intro A2 h2 hl kA hI2 hw
  first | with_reducible refine nd_if_eqB hC (tgt := 28) dX7_above_10 (by decide) (fun hc => ?_) (fun hc => ?_) | with_reducible refine nd_if_eqN hC (tgt := 28) (by omega) dX7_above_10 (by decide) (fun hc => ?_) (fun hc => ?_) | refine nd_if_eq hC (tgt := 28) dX7_above_10 (by decide) (fun hc => ?_) (fun hc => ?_)
  · rw [if_neg (by rw [hc]; decide)] at hk
    refine nd_aload_n hC dX7_above_28 rfl rfl ?_
    refine nd_iconst hC (v := nI 1) (by rfl) dX7_above_29 ?_
    refine mo_callV (As := [_]) (d2 := d - 1) hC hw rfl lkX7_244 lyX7_244 (Nat.le_of_ble_eq_true rfl) (by omega) rfl (by exact Nat.le_of_ble_eq_true rfl) (Nat.zero_le _) (Nat.zero_le _) dX7_above_30 rfl ((sp_fails hg hw (fun h3 hw3 => ?_)))
    refine nd_ireturn hC rfl (by first | rfl | exact nd_b_nar _) (by omega) (by omega) dX7_above_33 ((hk A2 _ _ h3 (hI2.th.t (by omega)) (va_up_s _ _ _) hw3))
  · rw [if_pos hc] at hk
    obtain ⟨k, hk1, rfl⟩ := op_in_nat hc
    rw [nI_cl (by omega)] at hk
    refine nd_aload_n hC dX7_above_13 rfl rfl ?_
    refine nd_aload_n hC dX7_above_14 rfl rfl ?_
    refine mo_get_known hC hw rfl dX7_above_15 ?_
    refine nd_bipush hC (v := nI 7) (by rfl) dX7_above_18 ?_
    refine nd_ialoadN hC hw.known (by omega) (by decide) dX7_above_20 ?_
    rw [hI2.fs.1]
    refine nd_iload_n hC dX7_above_21 rfl ?_
    refine mo_callV (As := [_, _]) (d2 := d - 1) hC hw rfl lkX7_287 lyX7_287 (Nat.le_of_ble_eq_true rfl) (by omega) rfl (by exact Nat.le_of_ble_eq_true rfl) (Nat.zero_le _) (Nat.zero_le _) dX7_above_22 rfl ((sp_aboveAt hg (by omega) hw (by omega) hl hok hn (by omega) ?_))
    rw [lk_mk_congr (hI2.fr hS) (hI2.bk hS) (lk_top_half hok hn (by omega))]
    refine nd_goto hC (tgt := 33) dX7_above_25 (by decide) ?_
    refine nd_ireturn hC rfl (by first | rfl | exact nd_b_nar _) (by omega) (by omega) dX7_above_33 ((hk A2 _ _ h2 (hI2.t (by omega)) (va_up_s _ _ _) hw))
theorem mp_beneath (hg : nd_OK g) (hd : 5 ≤ d) (x : Int32) : mp_ok g h0 mX7_beneath d [.int x] (mp_i (op_beneath x)) := by
  intro tt S A F B h K ht hI hS hw hk
  have h5 := sy_len5 hS
  have hok := sy_l_ok hS
  have hwd := lk_width hok
  have hn : sy_n S ≤ 6 := hS.1.1.1
  unfold mp_i op_beneath at hk
  refine nd_enter hg (by decide) rfl (Nat.le_of_ble_eq_true rfl) (fun X hC => ?_)
  refine nd_aload_n hC dX7_beneath_0 rfl rfl ?_
  refine nd_iconst hC (v := nI 0) (by rfl) dX7_beneath_1 ?_
  refine mo_put_thrown hC hw rfl dX7_beneath_2 (fun h hw => ?_)
  refine nd_aload_n hC dX7_beneath_5 rfl rfl ?_
  refine nd_iload_n hC dX7_beneath_6 rfl ?_
  refine mo_callV (As := [_]) (d2 := d - 1) hC hw rfl lkX7_346 lyX7_346 (Nat.le_of_ble_eq_true rfl) (by omega) rfl (by exact Nat.le_of_ble_eq_true rfl) (Nat.zero_le _) (Nat.zero_le _) dX7_beneath_7 rfl ((sp_isColumn hg (by omega) hI.th hS hw ?_))
  intro A2 h2 hl kA hI2 hw
  first | with_reducible refine nd_if_eqB hC (tgt := 28) dX7_beneath_10 (by decide) (fun hc => ?_) (fun hc => ?_) | with_reducible refine nd_if_eqN hC (tgt := 28) (by omega) dX7_beneath_10 (by decide) (fun hc => ?_) (fun hc => ?_) | refine nd_if_eq hC (tgt := 28) dX7_beneath_10 (by decide) (fun hc => ?_) (fun hc => ?_)
  · rw [if_neg (by rw [hc]; decide)] at hk
    refine nd_aload_n hC dX7_beneath_28 rfl rfl ?_
    refine nd_iconst hC (v := nI 1) (by rfl) dX7_beneath_29 ?_
    refine mo_callV (As := [_]) (d2 := d - 1) hC hw rfl lkX7_244 lyX7_244 (Nat.le_of_ble_eq_true rfl) (by omega) rfl (by exact Nat.le_of_ble_eq_true rfl) (Nat.zero_le _) (Nat.zero_le _) dX7_beneath_30 rfl ((sp_fails hg hw (fun h3 hw3 => ?_)))
    refine nd_ireturn hC rfl (by first | rfl | exact nd_b_nar _) (by omega) (by omega) dX7_beneath_33 ((hk A2 _ _ h3 (hI2.th.t (by omega)) (va_up_s _ _ _) hw3))
  · rw [if_pos hc] at hk
    obtain ⟨k, hk1, rfl⟩ := op_in_nat hc
    rw [nI_cl (by omega)] at hk
    refine nd_aload_n hC dX7_beneath_13 rfl rfl ?_
    refine nd_aload_n hC dX7_beneath_14 rfl rfl ?_
    refine mo_get_known hC hw rfl dX7_beneath_15 ?_
    refine nd_bipush hC (v := nI 7) (by rfl) dX7_beneath_18 ?_
    refine nd_ialoadN hC hw.known (by omega) (by decide) dX7_beneath_20 ?_
    rw [hI2.fs.1]
    refine nd_iload_n hC dX7_beneath_21 rfl ?_
    refine mo_callV (As := [_, _]) (d2 := d - 1) hC hw rfl lkX7_290 lyX7_290 (Nat.le_of_ble_eq_true rfl) (by omega) rfl (by exact Nat.le_of_ble_eq_true rfl) (Nat.zero_le _) (Nat.zero_le _) dX7_beneath_22 rfl ((sp_beneathAt hg (by omega) hw (by omega) hl hok hn (by omega) ?_))
    rw [lk_mk_congr (hI2.fr hS) (hI2.bk hS) (lk_bot_half hok hn (by omega))]
    refine nd_goto hC (tgt := 33) dX7_beneath_25 (by decide) ?_
    refine nd_ireturn hC rfl (by first | rfl | exact nd_b_nar _) (by omega) (by omega) dX7_beneath_33 ((hk A2 _ _ h2 (hI2.t (by omega)) (va_up_s _ _ _) hw))
theorem mp_layer (hg : nd_OK g) (hd : 5 ≤ d) (x y : Int32) : mp_ok g h0 mX7_layer d [.int x, .int y] (mp_i (op_layer x y)) := by
  intro tt S A F B h K ht hI hS hw hk
  have h5 := sy_len5 hS
  have hok := sy_l_ok hS
  have hwd := lk_width hok
  have hn : sy_n S ≤ 6 := hS.1.1.1
  unfold mp_i op_layer at hk
  refine nd_enter hg (by decide) rfl (Nat.le_of_ble_eq_true rfl) (fun X hC => ?_)
  refine nd_aload_n hC dX7_layer_0 rfl rfl ?_
  refine nd_aload_n hC dX7_layer_1 rfl rfl ?_
  refine nd_iload_n hC dX7_layer_2 rfl ?_
  refine mo_callV (As := [_]) (d2 := d - 1) hC hw rfl lkX7_346 lyX7_346 (Nat.le_of_ble_eq_true rfl) (by omega) rfl (by exact Nat.le_of_ble_eq_true rfl) (Nat.zero_le _) (Nat.zero_le _) dX7_layer_3 rfl ((sp_isColumn hg (by omega) hI hS hw ?_))
  intro A2 h2 hl kA hI2 hw
  first | with_reducible refine nd_if_neB hC (tgt := 13) dX7_layer_6 (by decide) (fun hc => ?_) (fun hc => ?_) | with_reducible refine nd_if_neN hC (tgt := 13) (by omega) dX7_layer_6 (by decide) (fun hc => ?_) (fun hc => ?_) | refine nd_if_ne hC (tgt := 13) dX7_layer_6 (by decide) (fun hc => ?_) (fun hc => ?_)
  · rw [if_pos hc] at hk
    obtain ⟨k, hk1, rfl⟩ := op_in_nat hc
    rw [nI_cl (by omega)] at hk
    refine nd_iload_n hC dX7_layer_13 rfl ?_
    refine nd_if_ge hC (tgt := 21) dX7_layer_14 (by decide) (fun hy => ?_) (fun hy => ?_)
    · rw [if_pos hy] at hk
      obtain ⟨w, hw31, rfl⟩ := op_nat hy
      rw [nI_cl hw31] at hk
      refine nd_iconst hC (v := nI 0) (by rfl) dX7_layer_21 ?_
      refine mo_put_thrown hC hw rfl dX7_layer_22 (fun h hw => ?_)
      refine nd_aload_n hC dX7_layer_25 rfl rfl ?_
      refine mo_get_thrown hC hw rfl dX7_layer_26 ?_
      rw [va_up_s]
      refine nd_if_le hC (tgt := 34) dX7_layer_29 (by decide) (fun hq => ?_) (fun hq => ?_)
      · have J : nd_W g mX7_layer d 0 0 K X 34 [some (.ref 101), some (.int (nI k)), some (.int (nI w))] [] h 0 0 := by
          refine nd_iload_n hC dX7_layer_34 rfl ?_
          refine nd_aload_n hC dX7_layer_35 rfl rfl ?_
          refine nd_aload_n hC dX7_layer_36 rfl rfl ?_
          refine mo_get_known hC hw rfl dX7_layer_37 ?_
          refine nd_bipush hC (v := nI 7) (by rfl) dX7_layer_40 ?_
          refine nd_ialoadN hC hw.known (by omega) (by decide) dX7_layer_42 ?_
          rw [hI2.fs.1]
          refine nd_iload_n hC dX7_layer_43 rfl ?_
          refine mo_callV (As := [_, _]) (d2 := d - 1) hC hw rfl lkX7_261 lyX7_261 (Nat.le_of_ble_eq_true rfl) (by omega) rfl (by exact Nat.le_of_ble_eq_true rfl) (Nat.zero_le _) (Nat.zero_le _) dX7_layer_44 rfl ((sp_highAt hg hw (by omega) ?_))
          rw [(hl.2 k (by omega)).1]
          have h12 : ((sy_l S).getD k []).length ≤ 6 := Nat.le_trans (lk_one _ k) (by rw [lk_len hok]; exact hn)
          first | with_reducible refine nd_icmp_geN hC (tgt := 68) (by omega) (by omega) dX7_layer_47 (by decide) (fun hq2 => ?_) (fun hq2 => ?_) | refine nd_icmp_ge hC (tgt := 68) dX7_layer_47 (by decide) (fun hq2 => ?_) (fun hq2 => ?_)
          · rw [if_neg (by omega)] at hk
            refine nd_iconst hC (v := -1) (by rfl) dX7_layer_68 ?_
            refine nd_ireturn hC rfl (by first | rfl | exact nd_b_nar _) (by omega) (by omega) dX7_layer_69 ((hk A2 _ _ _ (hI2.th.t (by omega)) (va_up_s _ _ _) hw))
          · rw [if_pos (by omega)] at hk
            refine nd_aload_n hC dX7_layer_50 rfl rfl ?_
            refine nd_aload_n hC dX7_layer_51 rfl rfl ?_
            refine mo_get_known hC hw rfl dX7_layer_52 ?_
            refine nd_bipush hC (v := nI 7) (by rfl) dX7_layer_55 ?_
            refine nd_ialoadN hC hw.known (by omega) (by decide) dX7_layer_57 ?_
            rw [hI2.fs.1]
            refine nd_iload_n hC dX7_layer_58 rfl ?_
            refine nd_iload_n hC dX7_layer_59 rfl ?_
            refine mo_callV (As := [_, _, _]) (d2 := d - 1) hC hw rfl lkX7_264 lyX7_264 (Nat.le_of_ble_eq_true rfl) (by omega) rfl (by exact Nat.le_of_ble_eq_true rfl) (Nat.zero_le _) (Nat.zero_le _) dX7_layer_60 rfl ((sp_layerAt hg hw (by omega) ?_))
            rw [(hl.2 k (by omega)).2 w (by omega)]
            have hx := (lk_at_lt hok hn (lk_col_at hok (t := k) (i := w) (by omega) (by omega))).1
            refine nd_iconst hC (v := nI 2) (by rfl) dX7_layer_63 ?_
            first | with_reducible refine nd_idivN hC (by omega) (by omega) (by omega) dX7_layer_64 ?_ | refine nd_idiv hC (by decide) dX7_layer_64 ?_
            refine nd_goto hC (tgt := 69) dX7_layer_65 (by decide) ?_
            refine nd_ireturn hC rfl (by first | rfl | exact nd_b_nar _) (by omega) (by omega) dX7_layer_69 ((hk A2 _ _ _ (hI2.th.t (by omega)) (va_up_s _ _ _) hw))
        exact J
      · exact absurd hq (by decide)
    · rw [if_neg hy] at hk
      refine nd_iconst hC (v := nI 2) (by rfl) dX7_layer_17 ?_
      refine nd_goto hC (tgt := 22) dX7_layer_18 (by decide) ?_
      refine mo_put_thrown hC hw rfl dX7_layer_22 (fun h hw => ?_)
      refine nd_aload_n hC dX7_layer_25 rfl rfl ?_
      refine mo_get_thrown hC hw rfl dX7_layer_26 ?_
      rw [va_up_s]
      refine nd_if_le hC (tgt := 34) dX7_layer_29 (by decide) (fun hq => ?_) (fun hq => ?_)
      · exact absurd hq (by decide)
      refine nd_iconst hC (v := nI 0) (by rfl) dX7_layer_32 ?_
      refine nd_ireturn hC rfl (by first | rfl | exact nd_b_nar _) (by omega) (by omega) dX7_layer_33 ((hk A2 _ _ _ (hI2.th.t (by omega)) (va_up_s _ _ _) hw))
  · rw [if_neg (by rw [hc]; decide)] at hk
    refine nd_iconst hC (v := nI 1) (by rfl) dX7_layer_9 ?_
    refine nd_goto hC (tgt := 22) dX7_layer_10 (by decide) ?_
    refine mo_put_thrown hC hw rfl dX7_layer_22 (fun h hw => ?_)
    refine nd_aload_n hC dX7_layer_25 rfl rfl ?_
    refine mo_get_thrown hC hw rfl dX7_layer_26 ?_
    rw [va_up_s]
    refine nd_if_le hC (tgt := 34) dX7_layer_29 (by decide) (fun hq => ?_) (fun hq => ?_)
    · exact absurd hq (by decide)
    refine nd_iconst hC (v := nI 0) (by rfl) dX7_layer_32 ?_
    refine nd_ireturn hC rfl (by first | rfl | exact nd_b_nar _) (by omega) (by omega) dX7_layer_33 ((hk A2 _ _ _ (hI2.th.t (by omega)) (va_up_s _ _ _) hw))
theorem mp_crease (hg : nd_OK g) (hd : 5 ≤ d) (x : Int32) : mp_ok g h0 mX7_crease d [.int x] (mp_i (op_crease x)) := by
  intro tt S A F B h K ht hI hS hw hk
  have h5 := sy_len5 hS
  have hok := sy_l_ok hS
  have hwd := lk_width hok
  have hn : sy_n S ≤ 6 := hS.1.1.1
  unfold mp_i op_crease at hk
  refine nd_enter hg (by decide) rfl (Nat.le_of_ble_eq_true rfl) (fun X hC => ?_)
  refine nd_aload_n hC dX7_crease_0 rfl rfl ?_
  refine nd_iconst hC (v := nI 0) (by rfl) dX7_crease_1 ?_
  refine mo_put_thrown hC hw rfl dX7_crease_2 (fun h hw => ?_)
  refine nd_iload_n hC dX7_crease_5 rfl ?_
  first | with_reducible refine nd_i2lN hC (by omega) dX7_crease_6 ?_ | refine nd_i2l hC dX7_crease_6 ?_
  refine nd_lconst hC (v := lN 0) (by rfl) dX7_crease_7 ?_
  refine nd_aload_n hC dX7_crease_8 rfl rfl ?_
  refine mo_callV (As := []) (d2 := d - 1) hC hw rfl lkX7_253 lyX7_253 (Nat.le_of_ble_eq_true rfl) (by omega) rfl (by exact Nat.le_of_ble_eq_true rfl) (Nat.zero_le _) (Nat.zero_le _) dX7_crease_9 rfl ((sp_cells hg hw ?_))
  rw [hI.n]
  refine nd_iconst hC (v := nI 2) (by rfl) dX7_crease_12 ?_
  first | with_reducible refine nd_isubN hC (by omega) dX7_crease_13 ?_ | refine nd_isub hC dX7_crease_13 ?_
  first | with_reducible refine nd_i2lN hC (by omega) dX7_crease_14 ?_ | refine nd_i2l hC dX7_crease_14 ?_
  refine mo_callS (As := [_, _, _]) (d2 := d - 1) hC rfl lkX7_138 lyX7_138 (Nat.le_of_ble_eq_true rfl) (by omega) rfl (by exact Nat.le_of_ble_eq_true rfl) (Nat.zero_le _) (Nat.zero_le _) dX7_crease_15 rfl ((sp_within hg ?_))
  have e : (decide (lN 0 ≤ x.toInt64) && decide (x.toInt64 ≤ (nI (sy_n S) - nI 2).toInt64)) = op_in x 0 ((sy_n S : Int) - 2) := by
    unfold op_in
    rw [Bool.eq_iff_iff, Bool.and_eq_true, nd_lle, nd_lle, nd_tl, nd_tl, nd_ti (by omega) (by omega), lN_toInt (by decide), decide_eq_true_iff]
    omega
  rw [e]
  first | with_reducible refine nd_if_neB hC (tgt := 27) dX7_crease_18 (by decide) (fun hc => ?_) (fun hc => ?_) | with_reducible refine nd_if_neN hC (tgt := 27) (by omega) dX7_crease_18 (by decide) (fun hc => ?_) (fun hc => ?_) | refine nd_if_ne hC (tgt := 27) dX7_crease_18 (by decide) (fun hc => ?_) (fun hc => ?_)
  · rw [if_pos hc] at hk
    obtain ⟨k, hk1, rfl⟩ := op_in_nat hc
    rw [nI_cl (by omega)] at hk
    refine nd_aload_n hC dX7_crease_27 rfl rfl ?_
    refine nd_aload_n hC dX7_crease_28 rfl rfl ?_
    refine mo_callV (As := []) (d2 := d - 1) hC hw rfl lkX7_343 lyX7_343 (Nat.le_of_ble_eq_true rfl) (by omega) rfl (by exact Nat.le_of_ble_eq_true rfl) (Nat.zero_le _) (Nat.zero_le _) dX7_crease_29 rfl ((sp_now hg (by omega) hI.th hS hw ?_))
    intro A2 h2 hl kA hI2 hw
    refine mo_callV (As := [_]) (d2 := d - 1) hC hw rfl lkX7_302 lyX7_302 (Nat.le_of_ble_eq_true rfl) (by omega) rfl (by exact Nat.le_of_ble_eq_true rfl) (Nat.zero_le _) (Nat.zero_le _) dX7_crease_32 rfl ((sp_laysPlaces hg (by omega) hw (by omega) hl hok hn ?_))
    intro f2 h3 hpl hw
    refine nd_aload_n hC dX7_crease_35 rfl rfl ?_
    refine nd_iload_n hC dX7_crease_36 rfl ?_
    refine mo_callV (As := [_]) (d2 := d - 1) hC hw rfl lkX7_305 lyX7_305 (Nat.le_of_ble_eq_true rfl) (by omega) rfl (by exact Nat.le_of_ble_eq_true rfl) (Nat.zero_le _) (Nat.zero_le _) dX7_crease_37 rfl ((sp_creaseOf hg hw (by rw [va_up_s]; exact hpl) hok hn (by omega) ?_))
    refine nd_ireturn hC rfl (by first | rfl | exact nd_b_nar _) (by omega) (by omega) dX7_crease_40 ((hk _ _ _ h3 ((hI2.a (mo_k.up rfl)).t (by omega)) (va_up_s _ _ _) hw))
  · rw [if_neg (by rw [hc]; decide)] at hk
    refine nd_aload_n hC dX7_crease_21 rfl rfl ?_
    refine nd_iconst hC (v := nI 1) (by rfl) dX7_crease_22 ?_
    refine mo_callV (As := [_]) (d2 := d - 1) hC hw rfl lkX7_244 lyX7_244 (Nat.le_of_ble_eq_true rfl) (by omega) rfl (by exact Nat.le_of_ble_eq_true rfl) (Nat.zero_le _) (Nat.zero_le _) dX7_crease_23 rfl ((sp_fails hg hw (fun h3 hw => ?_)))
    refine nd_ireturn hC rfl (by first | rfl | exact nd_b_nar _) (by omega) (by omega) dX7_crease_26 ((hk A _ _ h3 (hI.th.th.t (by omega)) (va_up_s _ _ _) hw))
theorem mp_worth (hg : nd_OK g) (hd : 6 ≤ d) : mp_ok g h0 mX7_worth d [] (mp_i op_worth) := by
  intro tt S A F B h K ht hI hS hw hk
  have h5 := sy_len5 hS
  have hok := sy_l_ok hS
  have hwd := lk_width hok
  have hn : sy_n S ≤ 6 := hS.1.1.1
  unfold mp_i op_worth at hk
  refine nd_enter hg (by decide) rfl (Nat.le_of_ble_eq_true rfl) (fun X hC => ?_)
  refine nd_aload_n hC dX7_worth_0 rfl rfl ?_
  refine nd_iconst hC (v := nI 0) (by rfl) dX7_worth_1 ?_
  refine mo_put_thrown hC hw rfl dX7_worth_2 (fun h hw => ?_)
  refine nd_aload_n hC dX7_worth_5 rfl rfl ?_
  refine nd_aload_n hC dX7_worth_6 rfl rfl ?_
  refine mo_callV (As := []) (d2 := d - 1) hC hw rfl lkX7_343 lyX7_343 (Nat.le_of_ble_eq_true rfl) (by omega) rfl (by exact Nat.le_of_ble_eq_true rfl) (Nat.zero_le _) (Nat.zero_le _) dX7_worth_7 rfl ((sp_now hg (by omega) hI.th hS hw ?_))
  intro A2 h2 hl kA hI2 hw
  refine mo_callV (As := [_]) (d2 := d - 1) hC hw rfl lkX7_349 lyX7_349 (Nat.le_of_ble_eq_true rfl) (by omega) rfl (by exact Nat.le_of_ble_eq_true rfl) (Nat.zero_le _) (Nat.zero_le _) dX7_worth_10 rfl ((sp_worthAt hg (by omega) hw (by omega) hI2.1.1 hS.1.1 hl hok ?_))
  intro A3 h3 hs hw
  rw [nk_worth_congr hok hn (hI2.fr hS) (hI2.bk hS)]
  refine nd_ireturn hC rfl (by first | rfl | exact nd_b_nar _) (by omega) (by omega) dX7_worth_13 ((hk _ _ _ h3 ((hI2.a (mo_k.s2 hs)).t (by omega)) (va_up_s _ _ _) hw))
theorem mp_holds (hg : nd_OK g) (hd : 6 ≤ d) : mp_ok g h0 mX7_holds d [] (mp_i op_holds) := by
  intro tt S A F B h K ht hI hS hw hk
  have h5 := sy_len5 hS
  have hok := sy_l_ok hS
  have hwd := lk_width hok
  have hn : sy_n S ≤ 6 := hS.1.1.1
  unfold mp_i op_holds at hk
  refine nd_enter hg (by decide) rfl (Nat.le_of_ble_eq_true rfl) (fun X hC => ?_)
  refine nd_aload_n hC dX7_holds_0 rfl rfl ?_
  refine nd_iconst hC (v := nI 0) (by rfl) dX7_holds_1 ?_
  refine mo_put_thrown hC hw rfl dX7_holds_2 (fun h hw => ?_)
  refine nd_aload_n hC dX7_holds_5 rfl rfl ?_
  refine nd_aload_n hC dX7_holds_6 rfl rfl ?_
  refine mo_callV (As := []) (d2 := d - 1) hC hw rfl lkX7_343 lyX7_343 (Nat.le_of_ble_eq_true rfl) (by omega) rfl (by exact Nat.le_of_ble_eq_true rfl) (Nat.zero_le _) (Nat.zero_le _) dX7_holds_7 rfl ((sp_now hg (by omega) hI.th hS hw ?_))
  intro A2 h2 hl kA hI2 hw
  refine mo_callV (As := [_]) (d2 := d - 1) hC hw rfl lkX7_352 lyX7_352 (Nat.le_of_ble_eq_true rfl) (by omega) rfl (by exact Nat.le_of_ble_eq_true rfl) (Nat.zero_le _) (Nat.zero_le _) dX7_holds_10 rfl ((sp_holdsAt hg (by omega) hw (by omega) hI2.1.1 hS.1.1 hl hok ?_))
  intro A3 h3 hs hw
  rw [nk_holds_congr hok hn (hI2.fr hS) (hI2.bk hS)]
  refine nd_ireturn hC rfl (by first | rfl | exact nd_b_nar _) (by omega) (by omega) dX7_holds_13 ((hk _ _ _ h3 ((hI2.a (mo_k.s2 hs)).t (by omega)) (va_up_s _ _ _) hw))
theorem mp_likes (hg : nd_OK g) (hd : 6 ≤ d) (x : Int32) : mp_ok g h0 mX7_likes d [.int x] (mp_i (op_likes x)) := by
  intro tt S A F B h K ht hI hS hw hk
  have h5 := sy_len5 hS
  have hok := sy_l_ok hS
  have hwd := lk_width hok
  have hn : sy_n S ≤ 6 := hS.1.1.1
  have hw4 : (nk_w (sy_N S)).length ≤ 4 := hS.1.1.2.2.1
  unfold mp_i op_likes at hk
  refine nd_enter hg (by decide) rfl (Nat.le_of_ble_eq_true rfl) (fun X hC => ?_)
  refine nd_aload_n hC dX7_likes_0 rfl rfl ?_
  refine nd_iconst hC (v := nI 0) (by rfl) dX7_likes_1 ?_
  refine mo_put_thrown hC hw rfl dX7_likes_2 (fun h hw => ?_)
  refine nd_iload_n hC dX7_likes_5 rfl ?_
  first | with_reducible refine nd_i2lN hC (by omega) dX7_likes_6 ?_ | refine nd_i2l hC dX7_likes_6 ?_
  refine nd_lconst hC (v := lN 0) (by rfl) dX7_likes_7 ?_
  refine nd_aload_n hC dX7_likes_8 rfl rfl ?_
  refine mo_get_known hC hw rfl dX7_likes_9 ?_
  refine nd_iconst hC (v := nI 2) (by rfl) dX7_likes_12 ?_
  refine nd_ialoadN hC hw.known (by omega) (by decide) dX7_likes_13 ?_
  rw [hI.1.1.2.2.1]
  refine nd_iconst hC (v := nI 1) (by rfl) dX7_likes_14 ?_
  first | with_reducible refine nd_isubN hC (by omega) dX7_likes_15 ?_ | refine nd_isub hC dX7_likes_15 ?_
  first | with_reducible refine nd_i2lN hC (by omega) dX7_likes_16 ?_ | refine nd_i2l hC dX7_likes_16 ?_
  refine mo_callS (As := [_, _, _]) (d2 := d - 1) hC rfl lkX7_138 lyX7_138 (Nat.le_of_ble_eq_true rfl) (by omega) rfl (by exact Nat.le_of_ble_eq_true rfl) (Nat.zero_le _) (Nat.zero_le _) dX7_likes_17 rfl ((sp_within hg ?_))
  have e : (decide (lN 0 ≤ x.toInt64) && decide (x.toInt64 ≤ (nI (nk_w (sy_N S)).length - nI 1).toInt64)) = op_in x 0 ((nk_w (sy_N S)).length - 1) := by
    unfold op_in
    rw [Bool.eq_iff_iff, Bool.and_eq_true, nd_lle, nd_lle, nd_tl, nd_tl, nd_ti (by omega) (by omega), lN_toInt (by decide), decide_eq_true_iff]
    omega
  rw [e]
  first | with_reducible refine nd_if_eqB hC (tgt := 35) dX7_likes_20 (by decide) (fun hc => ?_) (fun hc => ?_) | with_reducible refine nd_if_eqN hC (tgt := 35) (by omega) dX7_likes_20 (by decide) (fun hc => ?_) (fun hc => ?_) | refine nd_if_eq hC (tgt := 35) dX7_likes_20 (by decide) (fun hc => ?_) (fun hc => ?_)
  · rw [if_neg (by rw [hc]; decide)] at hk
    refine nd_aload_n hC dX7_likes_35 rfl rfl ?_
    refine nd_iconst hC (v := nI 1) (by rfl) dX7_likes_36 ?_
    refine mo_callV (As := [_]) (d2 := d - 1) hC hw rfl lkX7_244 lyX7_244 (Nat.le_of_ble_eq_true rfl) (by omega) rfl (by exact Nat.le_of_ble_eq_true rfl) (Nat.zero_le _) (Nat.zero_le _) dX7_likes_37 rfl ((sp_fails hg hw (fun h3 hw => ?_)))
    refine nd_ireturn hC rfl (by first | rfl | exact nd_b_nar _) (by omega) (by omega) dX7_likes_40 ((hk A _ _ h3 (hI.th.th.t (by omega)) (va_up_s _ _ _) hw))
  · rw [if_pos hc] at hk
    obtain ⟨k, hk1, rfl⟩ := op_in_nat hc
    rw [nI_cl (by omega)] at hk
    refine nd_aload_n hC dX7_likes_23 rfl rfl ?_
    refine nd_aload_n hC dX7_likes_24 rfl rfl ?_
    refine mo_callV (As := []) (d2 := d - 1) hC hw rfl lkX7_343 lyX7_343 (Nat.le_of_ble_eq_true rfl) (by omega) rfl (by exact Nat.le_of_ble_eq_true rfl) (Nat.zero_le _) (Nat.zero_le _) dX7_likes_25 rfl ((sp_now hg (by omega) hI.th hS hw ?_))
    intro A2 h2 hl kA hI2 hw
    refine nd_iload_n hC dX7_likes_28 rfl ?_
    refine mo_callV (As := [_, _]) (d2 := d - 1) hC hw rfl lkX7_355 lyX7_355 (Nat.le_of_ble_eq_true rfl) (by omega) rfl (by exact Nat.le_of_ble_eq_true rfl) (Nat.zero_le _) (Nat.zero_le _) dX7_likes_29 rfl ((sp_likesAt hg (by omega) hw (by omega) (show k < (nk_w (sy_N S)).length by omega) hI2.1.1 hS.1.1 hl hok ?_))
    intro A3 h3 hs hw
    rw [nk_likes_congr hok hn (hI2.fr hS) (hI2.bk hS)]
    refine nd_goto hC (tgt := 40) dX7_likes_32 (by decide) ?_
    refine nd_ireturn hC rfl (by first | rfl | exact nd_b_nar _) (by omega) (by omega) dX7_likes_40 ((hk _ _ _ h3 ((hI2.a (mo_k.s2 hs)).t (by omega)) (va_up_s _ _ _) hw))
theorem mp_fault (hg : nd_OK g) (x : Int32) : mp_ok g h0 mX7_fault d [.int x] (mp_i (op_fault x)) := by
  intro tt S A F B h K ht hI hS hw hk
  unfold mp_i op_fault at hk
  have e14 : (va_up F 4 (nI 0)) 14 = nI (sy_fk S) := (va_up_n F (nI 0) (by decide)).trans hI.2.2.2.2.2.1
  have e15 : (va_up F 4 (nI 0)) 15 = sy_fp S := (va_up_n F (nI 0) (by decide)).trans hI.2.2.2.2.2.2.1
  refine nd_enter hg (by decide) rfl (Nat.le_of_ble_eq_true rfl) (fun X hC => ?_)
  refine nd_aload_n hC dX7_fault_0 rfl rfl ?_
  refine nd_iconst hC (v := nI 0) (by rfl) dX7_fault_1 ?_
  refine mo_put_thrown hC hw rfl dX7_fault_2 (fun h hw => ?_)
  refine nd_iload_n hC dX7_fault_5 rfl ?_
  first | with_reducible refine nd_if_neB hC (tgt := 16) dX7_fault_6 (by decide) (fun hc => ?_) (fun hc => ?_) | with_reducible refine nd_if_neN hC (tgt := 16) (by omega) dX7_fault_6 (by decide) (fun hc => ?_) (fun hc => ?_) | refine nd_if_ne hC (tgt := 16) dX7_fault_6 (by decide) (fun hc => ?_) (fun hc => ?_)
  · rw [if_neg hc] at hk
    refine nd_iload_n hC dX7_fault_16 rfl ?_
    refine nd_iconst hC (v := nI 1) (by rfl) dX7_fault_17 ?_
    first | with_reducible refine nd_icmp_neN hC (tgt := 28) (by omega) (by omega) dX7_fault_18 (by decide) (fun hc2 => ?_) (fun hc2 => ?_) | refine nd_icmp_ne hC (tgt := 28) dX7_fault_18 (by decide) (fun hc2 => ?_) (fun hc2 => ?_)
    · rw [if_neg hc2] at hk
      refine nd_iconst hC (v := -1) (by rfl) dX7_fault_28 ?_
      refine nd_ireturn hC rfl (by first | rfl | exact nd_b_nar _) (by omega) (by omega) dX7_fault_29 ((hk _ _ _ h (hI.th.t (by omega)) (va_up_s _ _ _) hw))
    · rw [if_pos hc2] at hk
      refine nd_aload_n hC dX7_fault_21 rfl rfl ?_
      refine mo_get_faultPlace hC hw rfl dX7_fault_22 ?_
      refine nd_goto hC (tgt := 29) dX7_fault_25 (by decide) ?_
      rw [e15]
      refine nd_ireturn hC rfl (by first | rfl | exact nd_b_nar _) (by omega) (by omega) dX7_fault_29 ((hk _ _ _ h (hI.th.t (by omega)) (va_up_s _ _ _) hw))
  · rw [if_pos hc] at hk
    refine nd_aload_n hC dX7_fault_9 rfl rfl ?_
    refine mo_get_faultKind hC hw rfl dX7_fault_10 ?_
    refine nd_goto hC (tgt := 29) dX7_fault_13 (by decide) ?_
    rw [e14]
    refine nd_ireturn hC rfl (by first | rfl | exact nd_b_nar _) (by omega) (by omega) dX7_fault_29 ((hk _ _ _ h (hI.th.t (by omega)) (va_up_s _ _ _) hw))
theorem mp_folded (hg : nd_OK g) (hd : 1 ≤ d) (x : Int32) : mp_ok g h0 mX7_folded d [.int x] (mp_i (op_folded x)) := by
  intro tt S A F B h K ht hI hS hw hk
  have h5 := sy_len5 hS
  unfold mp_i op_folded at hk
  refine nd_enter hg (by decide) rfl (Nat.le_of_ble_eq_true rfl) (fun X hC => ?_)
  refine nd_aload_n hC dX7_folded_0 rfl rfl ?_
  refine nd_iconst hC (v := nI 0) (by rfl) dX7_folded_1 ?_
  refine mo_put_thrown hC hw rfl dX7_folded_2 (fun h hw => ?_)
  refine nd_iload_n hC dX7_folded_5 rfl ?_
  refine nd_if_ge hC (tgt := 15) dX7_folded_6 (by decide) (fun hc => ?_) (fun hc => ?_)
  · rw [if_pos hc] at hk
    obtain ⟨k, hk1, rfl⟩ := op_nat hc
    rw [nI_cl hk1] at hk
    refine nd_iload_n hC dX7_folded_15 rfl ?_
    refine nd_aload_n hC dX7_folded_16 rfl rfl ?_
    refine mo_get_known hC hw rfl dX7_folded_17 ?_
    refine nd_bipush hC (v := nI 7) (by rfl) dX7_folded_20 ?_
    refine nd_ialoadN hC hw.known (by omega) (by decide) dX7_folded_22 ?_
    rw [hI.fs.1]
    first | with_reducible refine nd_icmp_geN hC (tgt := 38) (by omega) (by omega) dX7_folded_23 (by decide) (fun hq => ?_) (fun hq => ?_) | refine nd_icmp_ge hC (tgt := 38) dX7_folded_23 (by decide) (fun hq => ?_) (fun hq => ?_)
    · rw [if_neg (by omega)] at hk
      refine nd_iconst hC (v := -1) (by rfl) dX7_folded_38 ?_
      refine nd_ireturn hC rfl (by first | rfl | exact nd_b_nar _) (by omega) (by omega) dX7_folded_39 ((hk A _ _ _ (hI.th.t (by omega)) (va_up_s _ _ _) hw))
    · rw [if_pos (by omega)] at hk
      refine nd_aload_n hC dX7_folded_26 rfl rfl ?_
      refine mo_get_known hC hw rfl dX7_folded_27 ?_
      refine nd_bipush hC (v := nI 8) (by rfl) dX7_folded_30 ?_
      refine nd_iload_n hC dX7_folded_32 rfl ?_
      first | with_reducible refine nd_iaddN hC dX7_folded_33 ?_ | refine nd_iadd hC dX7_folded_33 ?_
      refine nd_ialoadN hC hw.known (by omega) (by decide) dX7_folded_34 ?_
      rw [hI.fs.2 k (by omega)]
      refine nd_goto hC (tgt := 39) dX7_folded_35 (by decide) ?_
      refine nd_ireturn hC rfl (by first | rfl | exact nd_b_nar _) (by omega) (by omega) dX7_folded_39 ((hk A _ _ _ (hI.th.t (by omega)) (va_up_s _ _ _) hw))
  · rw [if_neg hc] at hk
    refine nd_aload_n hC dX7_folded_9 rfl rfl ?_
    refine nd_iconst hC (v := nI 1) (by rfl) dX7_folded_10 ?_
    refine mo_callV (As := [_]) (d2 := d - 1) hC hw rfl lkX7_244 lyX7_244 (Nat.le_of_ble_eq_true rfl) (by omega) rfl (by exact Nat.le_of_ble_eq_true rfl) (Nat.zero_le _) (Nat.zero_le _) dX7_folded_11 rfl ((sp_fails hg hw (fun h3 hw => ?_)))
    refine nd_ireturn hC rfl (by first | rfl | exact nd_b_nar _) (by omega) (by omega) dX7_folded_14 ((hk A _ _ h3 (hI.th.th.t (by omega)) (va_up_s _ _ _) hw))
theorem mp_cell (hg : nd_OK g) (hd : 4 ≤ d) (x y : Int32) : mp_ok g h0 mX7_cell d [.int x, .int y] (mp_i (op_cell x y)) := by
  intro tt S A F B h K ht hI hS hw hk
  have h5 := sy_len5 hS
  have hok := sy_l_ok hS
  have hn : sy_n S ≤ 6 := hS.1.1.1
  unfold mp_i op_cell at hk
  refine nd_enter hg (by decide) rfl (Nat.le_of_ble_eq_true rfl) (fun X hC => ?_)
  refine nd_aload_n hC dX7_cell_0 rfl rfl ?_
  refine nd_aload_n hC dX7_cell_1 rfl rfl ?_
  refine nd_iload_n hC dX7_cell_2 rfl ?_
  first | with_reducible refine nd_i2lN hC (by omega) dX7_cell_3 ?_ | refine nd_i2l hC dX7_cell_3 ?_
  refine mo_callV (As := [_]) (d2 := d - 1) hC hw rfl lkX7_337 lyX7_337 (Nat.le_of_ble_eq_true rfl) (by omega) rfl (by exact Nat.le_of_ble_eq_true rfl) (Nat.zero_le _) (Nat.zero_le _) dX7_cell_4 rfl ((sp_isCell hg (by omega) hw hI.n hn ?_))
  have e : decide (0 ≤ x.toInt64.toInt ∧ x.toInt64.toInt < (sy_n S : Nat)) = op_in x 0 ((sy_n S : Int) - 1) := by
    unfold op_in
    rw [nd_tl, Bool.eq_iff_iff, decide_eq_true_iff, decide_eq_true_iff]
    omega
  rw [e]
  first | with_reducible refine nd_if_neB hC (tgt := 14) dX7_cell_7 (by decide) (fun hc => ?_) (fun hc => ?_) | with_reducible refine nd_if_neN hC (tgt := 14) (by omega) dX7_cell_7 (by decide) (fun hc => ?_) (fun hc => ?_) | refine nd_if_ne hC (tgt := 14) dX7_cell_7 (by decide) (fun hc => ?_) (fun hc => ?_)
  · rw [if_pos hc] at hk
    obtain ⟨k, hk1, rfl⟩ := op_in_nat hc
    rw [nI_cl (by omega)] at hk
    refine nd_iload_n hC dX7_cell_14 rfl ?_
    first | with_reducible refine nd_i2lN hC (by omega) dX7_cell_15 ?_ | refine nd_i2l hC dX7_cell_15 ?_
    refine nd_lconst hC (v := lN 0) (by rfl) dX7_cell_16 ?_
    refine nd_ldc2 hC q3005 dX7_cell_17 ?_
    refine nd_v_eq (y := .long (lN 4)) (by rfl) ?_
    refine mo_callS (As := [_, _, _]) (d2 := d - 1) hC rfl lkX7_138 lyX7_138 (Nat.le_of_ble_eq_true rfl) (by omega) rfl (by exact Nat.le_of_ble_eq_true rfl) (Nat.zero_le _) (Nat.zero_le _) dX7_cell_20 rfl ((sp_within hg ?_))
    have e : (decide (lN 0 ≤ y.toInt64) && decide (y.toInt64 ≤ lN 4)) = op_in y 0 4 := by
      unfold op_in
      rw [Bool.eq_iff_iff, Bool.and_eq_true, nd_lle, nd_lle, nd_tl, lN_toInt (by decide), lN_toInt (by decide), decide_eq_true_iff]
      omega
    rw [e]
    first | with_reducible refine nd_if_eqB hC (tgt := 30) dX7_cell_23 (by decide) (fun hy => ?_) (fun hy => ?_) | with_reducible refine nd_if_eqN hC (tgt := 30) (by omega) dX7_cell_23 (by decide) (fun hy => ?_) (fun hy => ?_) | refine nd_if_eq hC (tgt := 30) dX7_cell_23 (by decide) (fun hy => ?_) (fun hy => ?_)
    · rw [if_neg (by rw [hy]; decide)] at hk
      refine nd_iconst hC (v := nI 2) (by rfl) dX7_cell_30 ?_
      refine mo_put_thrown hC hw rfl dX7_cell_31 (fun h hw => ?_)
      refine nd_aload_n hC dX7_cell_34 rfl rfl ?_
      refine mo_get_thrown hC hw rfl dX7_cell_35 ?_
      rw [va_up_s]
      refine nd_if_le hC (tgt := 43) dX7_cell_38 (by decide) (fun hq => ?_) (fun hq => ?_)
      · exact absurd hq (by decide)
      refine nd_iconst hC (v := nI 0) (by rfl) dX7_cell_41 ?_
      refine nd_ireturn hC rfl (by first | rfl | exact nd_b_nar _) (by omega) (by omega) dX7_cell_42 ((hk A _ _ _ (hI.th.t (by omega)) (va_up_s _ _ _) hw))
    · rw [if_pos hy] at hk
      obtain ⟨w, hw4, rfl⟩ := op_in_nat hy
      rw [nI_cl (by omega)] at hk
      have hp := lk_pos_lt hok hn (c := k) (by omega)
      refine nd_iconst hC (v := nI 0) (by rfl) dX7_cell_26 ?_
      refine nd_goto hC (tgt := 31) dX7_cell_27 (by decide) ?_
      refine mo_put_thrown hC hw rfl dX7_cell_31 (fun h hw => ?_)
      refine nd_aload_n hC dX7_cell_34 rfl rfl ?_
      refine mo_get_thrown hC hw rfl dX7_cell_35 ?_
      rw [va_up_s]
      refine nd_if_le hC (tgt := 43) dX7_cell_38 (by decide) (fun hq => ?_) (fun hq => ?_)
      · refine nd_iload_n hC dX7_cell_43 rfl ?_
        refine nd_iconst hC (v := nI 2) (by rfl) dX7_cell_44 ?_
        first | with_reducible refine nd_icmp_geN hC (tgt := 63) (by omega) (by omega) dX7_cell_45 (by decide) (fun hq2 => ?_) (fun hq2 => ?_) | refine nd_icmp_ge hC (tgt := 63) dX7_cell_45 (by decide) (fun hq2 => ?_) (fun hq2 => ?_)
        · refine nd_aload_n hC dX7_cell_63 rfl rfl ?_
          refine nd_aload_n hC dX7_cell_64 rfl rfl ?_
          refine mo_callV (As := []) (d2 := d - 1) hC hw rfl lkX7_343 lyX7_343 (Nat.le_of_ble_eq_true rfl) (by omega) rfl (by exact Nat.le_of_ble_eq_true rfl) (Nat.zero_le _) (Nat.zero_le _) dX7_cell_65 rfl ((sp_now hg (by omega) hI.th hS hw ?_))
          intro A2 h2 hl kA hI2 hw
          refine mo_callV (As := [_]) (d2 := d - 1) hC hw rfl lkX7_302 lyX7_302 (Nat.le_of_ble_eq_true rfl) (by omega) rfl (by exact Nat.le_of_ble_eq_true rfl) (Nat.zero_le _) (Nat.zero_le _) dX7_cell_68 rfl ((sp_laysPlaces hg (by omega) hw (by omega) hl hok hn ?_))
          intro f2 h3 hpl hw
          have hI3 : mo_I tt S (va_up A2 20 f2) (va_up F 4 (nI 0)) B := hI2.a (mo_k.up rfl)
          have ep : (va_up A2 20 f2) 20 k = nI (lk_pos (sy_l S) k) := by rw [va_up_s]; exact hpl k (by omega)
          refine nd_iload_n hC dX7_cell_71 rfl ?_
          refine nd_iconst hC (v := nI 2) (by rfl) dX7_cell_72 ?_
          first | with_reducible refine nd_icmp_neN hC (tgt := 88) (by omega) (by omega) dX7_cell_73 (by decide) (fun hq3 => ?_) (fun hq3 => ?_) | refine nd_icmp_ne hC (tgt := 88) dX7_cell_73 (by decide) (fun hq3 => ?_) (fun hq3 => ?_)
          · refine nd_iload_n hC dX7_cell_88 rfl ?_
            refine nd_iconst hC (v := nI 3) (by rfl) dX7_cell_89 ?_
            first | with_reducible refine nd_icmp_neN hC (tgt := 107) (by omega) (by omega) dX7_cell_90 (by decide) (fun hq4 => ?_) (fun hq4 => ?_) | refine nd_icmp_ne hC (tgt := 107) dX7_cell_90 (by decide) (fun hq4 => ?_) (fun hq4 => ?_)
            · obtain rfl : w = 4 := by omega
              refine nd_aload_n hC dX7_cell_107 rfl rfl ?_
              refine mo_get_places hC hw rfl dX7_cell_108 ?_
              refine nd_iload_n hC dX7_cell_111 rfl ?_
              refine nd_ialoadN hC hw.places (by omega) (by decide) dX7_cell_112 ?_
              rw [ep]
              refine nd_iconst hC (v := nI 2) (by rfl) dX7_cell_113 ?_
              first | with_reducible refine nd_iremN hC (by omega) (by omega) (by omega) dX7_cell_114 ?_ | refine nd_irem hC (by decide) dX7_cell_114 ?_
              refine nd_ireturn hC rfl (by first | rfl | exact nd_b_nar _) (by omega) (by omega) dX7_cell_115 ((hk _ _ _ _ (hI3.t (by omega)) (va_up_s _ _ _) hw))
            · obtain rfl : w = 3 := by omega
              refine nd_aload_n hC dX7_cell_93 rfl rfl ?_
              refine mo_get_places hC hw rfl dX7_cell_94 ?_
              refine nd_iload_n hC dX7_cell_97 rfl ?_
              refine nd_ialoadN hC hw.places (by omega) (by decide) dX7_cell_98 ?_
              rw [ep]
              refine nd_iconst hC (v := nI 2) (by rfl) dX7_cell_99 ?_
              first | with_reducible refine nd_idivN hC (by omega) (by omega) (by omega) dX7_cell_100 ?_ | refine nd_idiv hC (by decide) dX7_cell_100 ?_
              refine nd_bipush hC (v := nI 8) (by rfl) dX7_cell_101 ?_
              first | with_reducible refine nd_iremN hC (by omega) (by omega) (by omega) dX7_cell_103 ?_ | refine nd_irem hC (by decide) dX7_cell_103 ?_
              refine nd_goto hC (tgt := 115) dX7_cell_104 (by decide) ?_
              refine nd_ireturn hC rfl (by first | rfl | exact nd_b_nar _) (by omega) (by omega) dX7_cell_115 ((hk _ _ _ _ (hI3.t (by omega)) (va_up_s _ _ _) hw))
          · obtain rfl : w = 2 := by omega
            refine nd_aload_n hC dX7_cell_76 rfl rfl ?_
            refine mo_get_places hC hw rfl dX7_cell_77 ?_
            refine nd_iload_n hC dX7_cell_80 rfl ?_
            refine nd_ialoadN hC hw.places (by omega) (by decide) dX7_cell_81 ?_
            rw [ep]
            refine nd_bipush hC (v := nI 16) (by rfl) dX7_cell_82 ?_
            first | with_reducible refine nd_idivN hC (by omega) (by omega) (by omega) dX7_cell_84 ?_ | refine nd_idiv hC (by decide) dX7_cell_84 ?_
            refine nd_goto hC (tgt := 115) dX7_cell_85 (by decide) ?_
            refine nd_ireturn hC rfl (by first | rfl | exact nd_b_nar _) (by omega) (by omega) dX7_cell_115 ((hk _ _ _ _ (hI3.t (by omega)) (va_up_s _ _ _) hw))
        · refine nd_aload_n hC dX7_cell_48 rfl rfl ?_
          refine mo_get_known hC hw rfl dX7_cell_49 ?_
          refine nd_bipush hC (v := nI 13) (by rfl) dX7_cell_52 ?_
          refine nd_bipush hC (v := nI 6) (by rfl) dX7_cell_54 ?_
          refine nd_iload_n hC dX7_cell_56 rfl ?_
          first | with_reducible refine nd_imulN hC dX7_cell_57 ?_ | refine nd_imul hC dX7_cell_57 ?_
          first | with_reducible refine nd_iaddN hC dX7_cell_58 ?_ | refine nd_iadd hC dX7_cell_58 ?_
          refine nd_iload_n hC dX7_cell_59 rfl ?_
          first | with_reducible refine nd_iaddN hC dX7_cell_60 ?_ | refine nd_iadd hC dX7_cell_60 ?_
          refine nd_ialoadN hC hw.known (by omega) (by decide) dX7_cell_61 ?_
          have ev : A 0 (13 + 6 * w + k) = op_place k w (lk_pos (sy_l S) k) (sy_c S) := by
            unfold op_place
            obtain rfl | rfl : w = 0 ∨ w = 1 := by omega
            · rw [if_pos rfl]; exact hI.fr hS k (by omega)
            · rw [if_neg (by decide), if_pos rfl]; exact hI.bk hS k (by omega)
          rw [ev]
          refine nd_ireturn hC rfl (by first | rfl | exact nd_b_nar _) (by omega) (by omega) dX7_cell_62 ((hk A _ _ _ (hI.th.t (by omega)) (va_up_s _ _ _) hw))
      · exact absurd hq (by decide)
  · rw [if_neg (by rw [hc]; decide)] at hk
    refine nd_iconst hC (v := nI 1) (by rfl) dX7_cell_10 ?_
    refine nd_goto hC (tgt := 31) dX7_cell_11 (by decide) ?_
    refine mo_put_thrown hC hw rfl dX7_cell_31 (fun h hw => ?_)
    refine nd_aload_n hC dX7_cell_34 rfl rfl ?_
    refine mo_get_thrown hC hw rfl dX7_cell_35 ?_
    rw [va_up_s]
    refine nd_if_le hC (tgt := 43) dX7_cell_38 (by decide) (fun hq => ?_) (fun hq => ?_)
    · exact absurd hq (by decide)
    refine nd_iconst hC (v := nI 0) (by rfl) dX7_cell_41 ?_
    refine nd_ireturn hC rfl (by first | rfl | exact nd_b_nar _) (by omega) (by omega) dX7_cell_42 ((hk A _ _ _ (hI.th.t (by omega)) (va_up_s _ _ _) hw))
end MO17

