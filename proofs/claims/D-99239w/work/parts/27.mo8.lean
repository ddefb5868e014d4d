set_option maxRecDepth 100000
/-- .. and in the row 'known' -/
def mo_nap (k : Nat → Int32) (N : nk_N) : Prop := k 0 = nI (nk_ln N) ∧ k 1 = nI (nk_n N) ∧ k 2 = nI (nk_w N).length ∧ (∀ i, i < (nk_w N).length → k (25 + i) = nI ((nk_w N).getD i 0)) ∧ mo_lw k 3 209 (nk_wp N) ∧ mo_lw k 4 1109 (nk_hp N) ∧ mo_lw k 5 2009 (nk_lp N)
theorem lw_wf_mono {m m2 : Nat} (hm : m ≤ m2) (p : List Nat) : ∀ n, lw_wf m n p → lw_wf m2 n p := by
  induction p with
  | nil => intro n h; exact h
  | cons c t ih =>
    intro n h
    unfold lw_wf at h ⊢
    by_cases h1 : 1000 ≤ c
    · simp only [h1, if_true] at h ⊢; exact ⟨h.1, h.2.1, ih _ h.2.2⟩
    · by_cases h2 : 100 ≤ c
      · simp only [h1, h2, if_true, if_false] at h ⊢; exact ⟨by omega, h.2.1, ih _ h.2.2⟩
      · by_cases h3 : c = 18
        · simp only [h1, h2, h3, if_true, if_false] at h ⊢; exact ⟨h.1, ih _ h.2⟩
        · simp only [h1, h2, h3, if_false] at h ⊢; exact ⟨h.1, h.2.1, ih _ h.2.2⟩
section MO8
variable {g : nd_G} {d : Nat} {K : nd_K} {h h0 : nd_H} {A : Nat → Nat → Int32} {F : Nat → Int32} {B : Nat → Nat → Int64} {f : Nat → Int32}
theorem sp_asks (hg : nd_OK g) (hd : 4 ≤ d) (hw : mo_W h0 A F B h) {p n : Nat} {l : List (List Nat)} (hp : p ≤ 10) (hc0 : A 0 1 = nI n) (hl : mo_lk (A 19) p l) (hok : lk_ok n l) (hn : n ≤ 6) (hk : ∀ f2 h2, (∀ k, k < 6 → f2 k = lw_ask (mo_fr (A 0)) (mo_bk (A 0)) n l p k) → mo_W h0 (va_up A 22 f2) F B h2 → K (.inl none) h2) : nd_M g mX7_asks d 0 0 [.ref 101, .int (nI p)] h K := by
  have e0 : ∀ f2, (va_up A 22 f2) 0 = A 0 := fun f2 => va_up_n A f2 (by decide)
  have e19 : ∀ f2, (va_up A 22 f2) 19 = A 19 := fun f2 => va_up_n A f2 (by decide)
  have hl2 : ∀ f2, mo_lk ((va_up A 22 f2) 19) p l := fun f2 => by rw [e19]; exact hl
  have hc2 : ∀ f2, (va_up A 22 f2) 0 1 = nI n := fun f2 => by rw [e0]; exact hc0
  refine nd_enter hg (by decide) rfl (Nat.le_of_ble_eq_true rfl) (fun X hC => ?_)
  refine nd_aload_n hC dX7_asks_0 rfl rfl ?_
  refine mo_get_asked hC hw rfl dX7_asks_1 ?_
  refine nd_iconst hC (v := nI 0) (by rfl) dX7_asks_4 ?_
  refine nd_aload_n hC dX7_asks_5 rfl rfl ?_
  refine nd_iload_n hC dX7_asks_6 rfl ?_
  refine mo_callV (As := [_]) (d2 := d - 1) hC hw rfl lkX7_256 lyX7_256 (Nat.le_of_ble_eq_true rfl) (by omega) rfl (by exact Nat.le_of_ble_eq_true rfl) (Nat.zero_le _) (Nat.zero_le _) dX7_asks_7 rfl ((sp_columnsAt hg hw hp ?_))
  rw [hl.1]
  refine mo_ast_asked hC hw (by omega) dX7_asks_10 (fun h hw => ?_)
  try simp only [va_up_up, va_up_s] at hw
  refine nd_aload_n hC dX7_asks_11 rfl rfl ?_
  refine mo_get_asked hC hw rfl dX7_asks_12 ?_
  refine nd_iconst hC (v := nI 1) (by rfl) dX7_asks_15 ?_
  refine nd_aload_n hC dX7_asks_16 rfl rfl ?_
  refine nd_iload_n hC dX7_asks_17 rfl ?_
  refine mo_callV (As := [_]) (d2 := d - 1) hC hw rfl lkX7_325 lyX7_325 (Nat.le_of_ble_eq_true rfl) (by omega) rfl (by exact Nat.le_of_ble_eq_true rfl) (Nat.zero_le _) (Nat.zero_le _) dX7_asks_18 rfl ((sp_highestAt hg (by omega) hw hp (hl2 _) hok hn ?_))
  refine mo_ast_asked hC hw (by omega) dX7_asks_21 (fun h hw => ?_)
  try simp only [va_up_up, va_up_s] at hw
  refine nd_aload_n hC dX7_asks_22 rfl rfl ?_
  refine mo_get_asked hC hw rfl dX7_asks_23 ?_
  refine nd_iconst hC (v := nI 2) (by rfl) dX7_asks_26 ?_
  refine nd_iload_n hC dX7_asks_27 rfl ?_
  refine mo_ast_asked hC hw (by omega) dX7_asks_28 (fun h hw => ?_)
  try simp only [va_up_up, va_up_s] at hw
  refine nd_aload_n hC dX7_asks_29 rfl rfl ?_
  refine mo_get_asked hC hw rfl dX7_asks_30 ?_
  refine nd_iconst hC (v := nI 3) (by rfl) dX7_asks_33 ?_
  refine nd_aload_n hC dX7_asks_34 rfl rfl ?_
  refine nd_iload_n hC dX7_asks_35 rfl ?_
  refine mo_callV (As := [_]) (d2 := d - 1) hC hw rfl lkX7_293 lyX7_293 (Nat.le_of_ble_eq_true rfl) (by omega) rfl (by exact Nat.le_of_ble_eq_true rfl) (Nat.zero_le _) (Nat.zero_le _) dX7_asks_36 rfl ((sp_topAt hg (by omega) hw hp (hl2 _) hok hn ?_))
  rw [e0]
  refine mo_ast_asked hC hw (by omega) dX7_asks_39 (fun h hw => ?_)
  try simp only [va_up_up, va_up_s] at hw
  refine nd_aload_n hC dX7_asks_40 rfl rfl ?_
  refine mo_get_asked hC hw rfl dX7_asks_41 ?_
  refine nd_iconst hC (v := nI 4) (by rfl) dX7_asks_44 ?_
  refine nd_aload_n hC dX7_asks_45 rfl rfl ?_
  refine nd_iload_n hC dX7_asks_46 rfl ?_
  refine mo_callV (As := [_]) (d2 := d - 1) hC hw rfl lkX7_296 lyX7_296 (Nat.le_of_ble_eq_true rfl) (by omega) rfl (by exact Nat.le_of_ble_eq_true rfl) (Nat.zero_le _) (Nat.zero_le _) dX7_asks_47 rfl ((sp_underAt hg (by omega) hw hp (hl2 _) hok hn ?_))
  rw [e0]
  refine mo_ast_asked hC hw (by omega) dX7_asks_50 (fun h hw => ?_)
  try simp only [va_up_up, va_up_s] at hw
  refine nd_aload_n hC dX7_asks_51 rfl rfl ?_
  refine mo_get_asked hC hw rfl dX7_asks_52 ?_
  refine nd_iconst hC (v := nI 5) (by rfl) dX7_asks_55 ?_
  refine nd_aload_n hC dX7_asks_56 rfl rfl ?_
  refine nd_iload_n hC dX7_asks_57 rfl ?_
  refine mo_callV (As := [_]) (d2 := d - 1) hC hw rfl lkX7_328 lyX7_328 (Nat.le_of_ble_eq_true rfl) (by omega) rfl (by exact Nat.le_of_ble_eq_true rfl) (Nat.zero_le _) (Nat.zero_le _) dX7_asks_58 rfl ((sp_hiddenAt hg (by omega) hw hp (hc2 _) (hl2 _) hok hn ?_))
  rw [e0]
  refine mo_ast_asked hC hw (by omega) dX7_asks_61 (fun h hw => ?_)
  try simp only [va_up_up, va_up_s] at hw
  refine nd_return hC rfl (by omega) (by omega) dX7_asks_62 ((hk _ h ?_ hw))
  intro k hk6
  obtain rfl | rfl | rfl | rfl | rfl | rfl : k = 0 ∨ k = 1 ∨ k = 2 ∨ k = 3 ∨ k = 4 ∨ k = 5 := by omega
  all_goals rfl
theorem nk_ne {k : Nat → Int32} {many at_ : Nat} {p : List Nat} (h : mo_lw k many at_ p) (hl : p.length ≤ 900) : (¬ k many = 0 → p ≠ []) ∧ (k many = 0 → p = []) := by
  rw [h.1]
  constructor
  · intro q e; subst e; exact q rfl
  · intro q
    have := (nI_eq (a := p.length) (b := 0) (by omega) (by decide)).mp q
    exact List.length_eq_zero_iff.mp this
/-- what evaluating a law changes: two scratch rows -/
def mo_s2 (A A2 : Nat → Nat → Int32) : Prop := ∀ k, k ≠ 21 → k ≠ 22 → A2 k = A k
theorem mo_s2.rfl {A : Nat → Nat → Int32} : mo_s2 A A := fun _ _ _ => Eq.refl _
theorem mo_s2.trans {A A2 A3 : Nat → Nat → Int32} (h : mo_s2 A A2) (h2 : mo_s2 A2 A3) : mo_s2 A A3 := fun k a b => (h2 k a b).trans (h k a b)
theorem mo_s2.up21 {A A2 : Nat → Nat → Int32} {f : Nat → Int32} (h : mo_s2 A A2) : mo_s2 A (va_up A2 21 f) := fun k a b => by rw [va_up_n A2 f a]; exact h k a b
theorem mo_s2.up22 {A A2 : Nat → Nat → Int32} {f : Nat → Int32} (h : mo_s2 A A2) : mo_s2 A (va_up A2 22 f) := fun k a b => by rw [va_up_n A2 f b]; exact h k a b
theorem sp_worthAt (hg : nd_OK g) (hd : 5 ≤ d) (hw : mo_W h0 A F B h) {p : Nat} {N : nk_N} {l : List (List Nat)} (hp : p ≤ 10) (hN : mo_nap (A 0) N) (hNok : nk_ok N) (hl : mo_lk (A 19) p l) (hok : lk_ok (nk_n N) l) (hk : ∀ A2 h2, mo_s2 A A2 → mo_W h0 A2 F B h2 → K (.inl (some (.int (nk_worth N (mo_fr (A 0)) (mo_bk (A 0)) l p)))) h2) : nd_M g mX7_worthAt d 0 0 [.ref 101, .int (nI p)] h K := by
  obtain ⟨n1, n2, n3, n4, n5, n6, n7⟩ := hN
  have hwp := hNok.2.2.2.2.1
  have hlen := hNok.2.2.2.2.2.1
  have hne := nk_ne n5 hlen
  refine nd_enter hg (by decide) rfl (Nat.le_of_ble_eq_true rfl) (fun X hC => ?_)
  refine nd_aload_n hC dX7_worthAt_0 rfl rfl ?_
  refine mo_get_known hC hw rfl dX7_worthAt_1 ?_
  refine nd_iconst hC (v := nI 3) (by rfl) dX7_worthAt_4 ?_
  refine nd_ialoadN hC hw.known (by omega) (by decide) dX7_worthAt_5 ?_
  refine nd_if_ne hC (tgt := 11) dX7_worthAt_6 (by decide) (fun hc => ?_) (fun hc => ?_)
  · have hne := hne.1 hc
    have hwf := hwp.resolve_left hne
    refine nd_aload_n hC dX7_worthAt_11 rfl rfl ?_
    refine nd_iload_n hC dX7_worthAt_12 rfl ?_
    refine mo_callV (As := [_]) (d2 := d - 1) hC hw rfl lkX7_331 lyX7_331 (Nat.le_of_ble_eq_true rfl) (by omega) rfl (by exact Nat.le_of_ble_eq_true rfl) (Nat.zero_le _) (Nat.zero_le _) dX7_worthAt_13 rfl ((sp_asks hg (by omega) hw hp n2 hl hok hNok.1 ?_))
    intro f2 h ha hw
    have e : nk_worth N (mo_fr (A 0)) (mo_bk (A 0)) l p = (lw_ev f2 (nk_wp N) []).headD 0 := by unfold nk_worth lw_val; rw [if_neg hne, lw_ev_congr (fun k hk => (ha k hk).symm) _ _ _ hwf]
    rw [e] at hk
    refine nd_aload_n hC dX7_worthAt_16 rfl rfl ?_
    refine nd_iconst hC (v := nI 3) (by rfl) dX7_worthAt_17 ?_
    refine nd_sipush hC (v := nI 209) (by rfl) dX7_worthAt_18 ?_
    refine mo_callV (As := [_, _]) (d2 := d - 1) hC hw rfl lkX7_334 lyX7_334 (Nat.le_of_ble_eq_true rfl) (by omega) rfl (by exact Nat.le_of_ble_eq_true rfl) (Nat.zero_le _) (Nat.zero_le _) dX7_worthAt_21 rfl ((sp_lawOf hg (by omega) hw (by decide) (by omega) (p := nk_wp N) (by rw [va_up_n A f2 (by decide)]; exact n5) (lw_wf_mono (by decide) _ _ hwf) ?_))
    intro f3 h hw
    rw [va_up_s]
    refine nd_ireturn hC rfl (by first | rfl | exact nd_b_nar _) (by omega) (by omega) dX7_worthAt_24 ((hk _ h (mo_s2.rfl.up22.up21) hw))
  · refine nd_iconst hC (v := nI 0) (by rfl) dX7_worthAt_9 ?_
    have e := hne.2 hc
    have e2 : nk_worth N (mo_fr (A 0)) (mo_bk (A 0)) l p = nI 0 := by unfold nk_worth lw_val; rw [if_pos e]
    rw [e2] at hk
    refine nd_ireturn hC rfl (by first | rfl | exact nd_b_nar _) (by omega) (by omega) dX7_worthAt_10 ((hk A h mo_s2.rfl hw))
theorem sp_holdsAt (hg : nd_OK g) (hd : 5 ≤ d) (hw : mo_W h0 A F B h) {p : Nat} {N : nk_N} {l : List (List Nat)} (hp : p ≤ 10) (hN : mo_nap (A 0) N) (hNok : nk_ok N) (hl : mo_lk (A 19) p l) (hok : lk_ok (nk_n N) l) (hk : ∀ A2 h2, mo_s2 A A2 → mo_W h0 A2 F B h2 → K (.inl (some (.int (nd_b (nk_holds N (mo_fr (A 0)) (mo_bk (A 0)) l p))))) h2) : nd_M g mX7_holdsAt d 0 0 [.ref 101, .int (nI p)] h K := by
  obtain ⟨n1, n2, n3, n4, n5, n6, n7⟩ := hN
  have hwp := hNok.2.2.2.2.2.2.1
  have hlen := hNok.2.2.2.2.2.2.2.1
  have hne := nk_ne n6 hlen
  refine nd_enter hg (by decide) rfl (Nat.le_of_ble_eq_true rfl) (fun X hC => ?_)
  refine nd_aload_n hC dX7_holdsAt_0 rfl rfl ?_
  refine mo_get_known hC hw rfl dX7_holdsAt_1 ?_
  refine nd_iconst hC (v := nI 4) (by rfl) dX7_holdsAt_4 ?_
  refine nd_ialoadN hC hw.known (by omega) (by decide) dX7_holdsAt_5 ?_
  refine nd_if_ne hC (tgt := 11) dX7_holdsAt_6 (by decide) (fun hc => ?_) (fun hc => ?_)
  · have hne := hne.1 hc
    have hwf := hwp.resolve_left hne
    refine nd_aload_n hC dX7_holdsAt_11 rfl rfl ?_
    refine nd_iload_n hC dX7_holdsAt_12 rfl ?_
    refine mo_callV (As := [_]) (d2 := d - 1) hC hw rfl lkX7_331 lyX7_331 (Nat.le_of_ble_eq_true rfl) (by omega) rfl (by exact Nat.le_of_ble_eq_true rfl) (Nat.zero_le _) (Nat.zero_le _) dX7_holdsAt_13 rfl ((sp_asks hg (by omega) hw hp n2 hl hok hNok.1 ?_))
    intro f2 h ha hw
    have e : nk_holds N (mo_fr (A 0)) (mo_bk (A 0)) l p = decide ((lw_ev f2 (nk_hp N) []).headD 0 = nI 1) := by unfold nk_holds lw_val; rw [if_neg hne, lw_ev_congr (fun k hk => (ha k hk).symm) _ _ _ hwf]; simp [hne]
    rw [e] at hk
    refine nd_aload_n hC dX7_holdsAt_16 rfl rfl ?_
    refine nd_iconst hC (v := nI 4) (by rfl) dX7_holdsAt_17 ?_
    refine nd_sipush hC (v := nI 1109) (by rfl) dX7_holdsAt_18 ?_
    refine mo_callV (As := [_, _]) (d2 := d - 1) hC hw rfl lkX7_334 lyX7_334 (Nat.le_of_ble_eq_true rfl) (by omega) rfl (by exact Nat.le_of_ble_eq_true rfl) (Nat.zero_le _) (Nat.zero_le _) dX7_holdsAt_21 rfl ((sp_lawOf hg (by omega) hw (by decide) (by omega) (p := nk_hp N) (by rw [va_up_n A f2 (by decide)]; exact n6) (lw_wf_mono (by decide) _ _ hwf) ?_))
    intro f3 h hw
    rw [va_up_s]
    have hk := hk _ h (mo_s2.rfl.up22.up21) hw
    refine nd_iconst hC (v := nI 1) (by rfl) dX7_holdsAt_24 ?_
    refine nd_icmp_ne hC (tgt := 32) dX7_holdsAt_25 (by decide) (fun hc => ?_) (fun hc => ?_)
    · refine nd_iconst hC (v := nI 0) (by rfl) dX7_holdsAt_32 ?_
      rw [decide_eq_false hc] at hk
      refine nd_ireturn hC rfl (by first | rfl | exact nd_b_nar _) (by omega) (by omega) dX7_holdsAt_33 (hk)
    · refine nd_iconst hC (v := nI 1) (by rfl) dX7_holdsAt_28 ?_
      refine nd_goto hC (tgt := 33) dX7_holdsAt_29 (by decide) ?_
      rw [decide_eq_true hc] at hk
      refine nd_ireturn hC rfl (by first | rfl | exact nd_b_nar _) (by omega) (by omega) dX7_holdsAt_33 (hk)
  · refine nd_iconst hC (v := nI 0) (by rfl) dX7_holdsAt_9 ?_
    have e := hne.2 hc
    have e2 : nk_holds N (mo_fr (A 0)) (mo_bk (A 0)) l p = false := by unfold nk_holds; simp [e]
    rw [e2] at hk
    refine nd_ireturn hC rfl (by first | rfl | exact nd_b_nar _) (by omega) (by omega) dX7_holdsAt_10 ((hk A h mo_s2.rfl hw))
theorem sp_likesAt (hg : nd_OK g) (hd : 5 ≤ d) (hw : mo_W h0 A F B h) {p gs : Nat} {N : nk_N} {l : List (List Nat)} (hp : p ≤ 10) (hgs : gs < (nk_w N).length) (hN : mo_nap (A 0) N) (hNok : nk_ok N) (hl : mo_lk (A 19) p l) (hok : lk_ok (nk_n N) l) (hk : ∀ A2 h2, mo_s2 A A2 → mo_W h0 A2 F B h2 → K (.inl (some (.int (nk_likes N (mo_fr (A 0)) (mo_bk (A 0)) l p gs)))) h2) : nd_M g mX7_likesAt d 0 0 [.ref 101, .int (nI p), .int (nI gs)] h K := by
  obtain ⟨n1, n2, n3, n4, n5, n6, n7⟩ := hN
  have hwp := hNok.2.2.2.2.2.2.2.2.1
  have hlen := hNok.2.2.2.2.2.2.2.2.2
  have hw4 := hNok.2.2.1
  have hne := nk_ne n7 hlen
  refine nd_enter hg (by decide) rfl (Nat.le_of_ble_eq_true rfl) (fun X hC => ?_)
  refine nd_aload_n hC dX7_likesAt_0 rfl rfl ?_
  refine mo_get_known hC hw rfl dX7_likesAt_1 ?_
  refine nd_iconst hC (v := nI 5) (by rfl) dX7_likesAt_4 ?_
  refine nd_ialoadN hC hw.known (by omega) (by decide) dX7_likesAt_5 ?_
  refine nd_if_ne hC (tgt := 11) dX7_likesAt_6 (by decide) (fun hc => ?_) (fun hc => ?_)
  · have hne := hne.1 hc
    have hwf := hwp.resolve_left hne
    refine nd_aload_n hC dX7_likesAt_11 rfl rfl ?_
    refine nd_iload_n hC dX7_likesAt_12 rfl ?_
    refine mo_callV (As := [_]) (d2 := d - 1) hC hw rfl lkX7_331 lyX7_331 (Nat.le_of_ble_eq_true rfl) (by omega) rfl (by exact Nat.le_of_ble_eq_true rfl) (Nat.zero_le _) (Nat.zero_le _) dX7_likesAt_13 rfl ((sp_asks hg (by omega) hw hp n2 hl hok hNok.1 ?_))
    intro f2 h ha hw
    refine nd_aload_n hC dX7_likesAt_16 rfl rfl ?_
    refine mo_get_asked hC hw rfl dX7_likesAt_17 ?_
    refine nd_bipush hC (v := nI 6) (by rfl) dX7_likesAt_20 ?_
    refine nd_iload_n hC dX7_likesAt_22 rfl ?_
    refine mo_ast_asked hC hw (by omega) dX7_likesAt_23 (fun h hw => ?_)
    try simp only [va_up_up, va_up_s] at hw
    refine nd_aload_n hC dX7_likesAt_24 rfl rfl ?_
    refine mo_get_asked hC hw rfl dX7_likesAt_25 ?_
    refine nd_bipush hC (v := nI 7) (by rfl) dX7_likesAt_28 ?_
    refine nd_aload_n hC dX7_likesAt_30 rfl rfl ?_
    refine mo_get_known hC hw rfl dX7_likesAt_31 ?_
    refine nd_bipush hC (v := nI 25) (by rfl) dX7_likesAt_34 ?_
    refine nd_iload_n hC dX7_likesAt_36 rfl ?_
    first | with_reducible refine nd_iaddN hC dX7_likesAt_37 ?_ | refine nd_iadd hC dX7_likesAt_37 ?_
    refine nd_ialoadN hC hw.known (by omega) (by decide) dX7_likesAt_38 ?_
    rw [va_up_n A _ (show 0 ≠ 22 by decide), n4 gs hgs]
    refine mo_ast_asked hC hw (by omega) dX7_likesAt_39 (fun h hw => ?_)
    try simp only [va_up_up, va_up_s] at hw
    refine nd_aload_n hC dX7_likesAt_40 rfl rfl ?_
    refine nd_iconst hC (v := nI 5) (by rfl) dX7_likesAt_41 ?_
    refine nd_sipush hC (v := nI 2009) (by rfl) dX7_likesAt_42 ?_
    have e : nk_likes N (mo_fr (A 0)) (mo_bk (A 0)) l p gs = (lw_ev (upd (upd f2 6 (nI gs)) 7 (nI ((nk_w N).getD gs 0))) (nk_lp N) []).headD 0 := by
      unfold nk_likes lw_val
      rw [if_neg hne]
      congr 1
      refine lw_ev_congr (fun k hk => ?_) _ _ _ hwf
      unfold lw_ask2
      by_cases e7 : k = 7
      · subst e7; rw [if_pos rfl, upd_s]
      · rw [if_neg e7, upd_n e7]
        by_cases e6 : k = 6
        · subst e6; rw [if_pos rfl, upd_s]
        · rw [if_neg e6, upd_n e6, ha k (by omega)]
    rw [e] at hk
    refine mo_callV (As := [_, _]) (d2 := d - 1) hC hw rfl lkX7_334 lyX7_334 (Nat.le_of_ble_eq_true rfl) (by omega) rfl (by exact Nat.le_of_ble_eq_true rfl) (Nat.zero_le _) (Nat.zero_le _) dX7_likesAt_45 rfl ((sp_lawOf hg (by omega) hw (by decide) (by omega) (p := nk_lp N) (by rw [va_up_n A _ (by decide)]; exact n7) hwf ?_))
    intro f3 h hw
    rw [va_up_s]
    refine nd_ireturn hC rfl (by first | rfl | exact nd_b_nar _) (by omega) (by omega) dX7_likesAt_48 ((hk _ h (mo_s2.rfl.up22.up21) hw))
  · refine nd_iconst hC (v := nI 0) (by rfl) dX7_likesAt_9 ?_
    have e := hne.2 hc
    have e2 : nk_likes N (mo_fr (A 0)) (mo_bk (A 0)) l p gs = nI 0 := by unfold nk_likes lw_val; rw [if_pos e]
    rw [e2] at hk
    refine nd_ireturn hC rfl (by first | rfl | exact nd_b_nar _) (by omega) (by omega) dX7_likesAt_10 ((hk A h mo_s2.rfl hw))
end MO8

