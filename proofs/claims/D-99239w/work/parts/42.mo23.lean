set_option maxRecDepth 100000
/-! ===== seen ===== -/
def sn_f (x y : Int32) (S : sy_S) : Nat := if mk_f x S = 0 then (if op_in y 0 4 = true then 0 else 3) else mk_f x S
theorem sn_f_le (x y : Int32) (S : sy_S) : sn_f x y S ≤ 3 := by
  have := mk_f_le x S
  unfold sn_f
  split
  · split <;> omega
  · omega
theorem mk_f_0 {x : Int32} {S : sy_S} (h : mk_f x S = 0) : ty_f x S = 0 ∧ ty_mk (ty_v x S) = true := by
  unfold mk_f at h
  by_cases q : ty_f x S = 0
  · rw [if_pos q] at h
    by_cases q2 : ty_mk (ty_v x S) = true
    · exact ⟨q, q2⟩
    · rw [if_neg q2] at h; exact absurd h (by decide)
  · rw [if_neg q] at h; exact absurd h q
theorem sn_f_0 {x y : Int32} {S : sy_S} (h : sn_f x y S = 0) : mk_f x S = 0 ∧ op_in y 0 4 = true := by
  unfold sn_f at h
  by_cases q : mk_f x S = 0
  · rw [if_pos q] at h
    by_cases q2 : op_in y 0 4 = true
    · exact ⟨q, q2⟩
    · rw [if_neg q2] at h; exact absurd h (by decide)
  · rw [if_neg q] at h; exact absurd h q
/-- the set of all creases -/
def sn_all (n : Nat) : Int32 := if n = 0 then nI 0 else nI 1 <<< (nI (n - 1) &&& 31) - nI 1
noncomputable abbrev sn_r (S : sy_S) (v : List Int64) (m : Nat) : Nat × Int32 × (Nat → Int32) := (lv_go (se_sn (sv_fr (sy_c S)) (sv_bk (sy_c S)) (sy_n S) v) (0, sn_all (sy_n S), fun _ => nI 0) (lv_all m (lk_flat (sy_n S)))).1
noncomputable def op_seen (x y : Int32) (S : sy_S) : sy_R := if sn_f x y S = 0 then (0, nI (sn_r S (ty_v x S) y.toNatClampNeg).1, S) else (sn_f x y S, nI 0, S)
noncomputable def op_sure (x y : Int32) (S : sy_S) : sy_R := if sn_f x y S = 0 then (0, (if (sn_r S (ty_v x S) y.toNatClampNeg).1 = 0 then nI 0 else (sn_r S (ty_v x S) y.toNatClampNeg).2.1), S) else (sn_f x y S, nI 0, S)
def sn_R (s t : Nat × Int32 × (Nat → Int32)) : Prop := s.1 = t.1 ∧ s.2.1 = t.2.1 ∧ ∀ i, i < 600 → s.2.2 i = t.2.2 i
theorem sn_bh_congr {fr bk fr2 bk2 : Nat → Int32} {n : Nat} {l : List (List Nat)} {f f2 : Nat → Int32} (hok : lk_ok n l) (hn : n ≤ 6) (h1 : ∀ c, c < n → fr c = fr2 c) (h2 : ∀ c, c < n → bk c = bk2 c) (hf : ∀ i, i < 600 → f i = f2 i) : ∀ k, k ≤ l.length → ∀ i, i < 600 → sn_bh fr bk l f k i = sn_bh fr2 bk2 l f2 k i := by
  intro k
  induction k with
  | zero => intro _ i hi; exact hf i hi
  | succ k ih =>
    intro hk i hi
    have e := lk_mk_congr h1 h2 (lk_bot_half hok hn (t := k) (by omega))
    unfold sn_bh
    rw [e]
    generalize (100 * k + (lk_mk fr2 bk2 (lk_bot (l.getD k []))).toNatClampNeg) = j
    by_cases q : i = j
    · subst q; rw [upd_s, upd_s, ih (by omega) i hi]
    · rw [upd_n q, upd_n q, ih (by omega) i hi]
theorem sn_congr {fr bk fr2 bk2 : Nat → Int32} {n : Nat} {v : List Int64} (hn : n ≤ 6) (h1 : ∀ c, c < n → fr c = fr2 c) (h2 : ∀ c, c < n → bk c = bk2 c) (xs : List lv_E) : ∀ s t, (∀ x ∈ xs, lk_ok n x.2) → sn_R s t → sn_R (lv_go (se_sn fr bk n v) s xs).1 (lv_go (se_sn fr2 bk2 n v) t xs).1 := by
  induction xs with
  | nil => intro s t _ h; exact h
  | cons x xs ih =>
    intro s t hx h
    have hok := hx x (List.mem_cons_self ..)
    have e2 : ∀ (fr bk : Nat → Int32) s, (se_sn fr bk n v s x).2 = false := by intro fr bk s; unfold se_sn; split <;> rfl
    unfold lv_go
    rw [if_neg (by rw [e2]; decide), if_neg (by rw [e2]; decide)]
    refine ih _ _ (fun y hy => hx y (List.mem_cons_of_mem _ hy)) ?_
    unfold se_sn
    rw [lk_reads_congr hok hn h1 h2]
    by_cases q : lk_reads fr2 bk2 x.2 v = true
    · rw [if_pos q, if_pos q]
      exact ⟨by show s.1 + 1 = t.1 + 1; rw [h.1], by show sn_sure _ _ _ = sn_sure _ _ _; rw [h.2.1], fun i hi => sn_bh_congr hok hn h1 h2 h.2.2 _ (Nat.le_refl _) i hi⟩
    · rw [if_neg q, if_neg q]; exact h
section MO23
variable {g : nd_G} {d : Nat} {K : nd_K} {h h0 : nd_H} {A : Nat → Nat → Int32} {F : Nat → Int32} {B : Nat → Nat → Int64} {f : Nat → Int32}
theorem sp_seenFault (hg : nd_OK g) (hd : 4 ≤ d) {tt : Nat} {S : sy_S} (hI : mo_I tt S A F B) (hS : sy_ok S) (hw : mo_W h0 A F B h) {x y : Int32} (hk : K (.inl (some (.int (nI (sn_f x y S))))) h) : nd_M g mX7_seenFault d 0 0 [.ref 101, .int x, .int y] h K := by
  have hf := mk_f_le x S
  unfold sn_f at hk
  refine nd_enter hg (by decide) rfl (Nat.le_of_ble_eq_true rfl) (fun X hC => ?_)
  refine nd_aload_n hC dX7_seenFault_0 rfl rfl ?_
  refine nd_iload_n hC dX7_seenFault_1 rfl ?_
  refine mo_callV (As := [_]) (d2 := d - 1) hC hw rfl lkX7_524 lyX7_524 (Nat.le_of_ble_eq_true rfl) (by omega) rfl (by exact Nat.le_of_ble_eq_true rfl) (Nat.zero_le _) (Nat.zero_le _) dX7_seenFault_2 rfl ((sp_marksFault hg (by omega) hI hS hw ?_))
  refine nd_istore_n hC dX7_seenFault_5 (Nat.le_of_ble_eq_true rfl) ?_
  refine nd_iload_n hC dX7_seenFault_6 rfl ?_
  first | with_reducible refine nd_if_neB hC (tgt := 26) dX7_seenFault_7 (by decide) (fun hc => ?_) (fun hc => ?_) | with_reducible refine nd_if_neN hC (tgt := 26) (by omega) dX7_seenFault_7 (by decide) (fun hc => ?_) (fun hc => ?_) | refine nd_if_ne hC (tgt := 26) dX7_seenFault_7 (by decide) (fun hc => ?_) (fun hc => ?_)
  · rw [if_neg (by omega)] at hk
    refine nd_iload_n hC dX7_seenFault_26 rfl ?_
    refine nd_ireturn hC rfl (by first | rfl | exact nd_b_nar _) (by omega) (by omega) dX7_seenFault_27 (hk)
  · have h0c : mk_f x S = 0 := by omega
    rw [if_pos h0c] at hk
    refine nd_iload_n hC dX7_seenFault_10 rfl ?_
    first | with_reducible refine nd_i2lN hC (by omega) dX7_seenFault_11 ?_ | refine nd_i2l hC dX7_seenFault_11 ?_
    refine nd_lconst hC (v := lN 0) (by rfl) dX7_seenFault_12 ?_
    refine nd_ldc2 hC q3005 dX7_seenFault_13 ?_
    refine nd_v_eq (y := .long (lN 4)) (by rfl) ?_
    refine mo_callS (As := [_, _, _]) (d2 := d - 1) hC rfl lkX7_138 lyX7_138 (Nat.le_of_ble_eq_true rfl) (by omega) rfl (by exact Nat.le_of_ble_eq_true rfl) (Nat.zero_le _) (Nat.zero_le _) dX7_seenFault_16 rfl ((sp_within hg ?_))
    have e : (decide (lN 0 ≤ y.toInt64) && decide (y.toInt64 ≤ lN 4)) = op_in y 0 4 := by
      unfold op_in
      rw [Bool.eq_iff_iff, Bool.and_eq_true, nd_lle, nd_lle, nd_tl, lN_toInt (by decide), lN_toInt (by decide), decide_eq_true_iff]
      omega
    rw [e]
    first | with_reducible refine nd_if_neB hC (tgt := 26) dX7_seenFault_19 (by decide) (fun hy => ?_) (fun hy => ?_) | with_reducible refine nd_if_neN hC (tgt := 26) (by omega) dX7_seenFault_19 (by decide) (fun hy => ?_) (fun hy => ?_) | refine nd_if_ne hC (tgt := 26) dX7_seenFault_19 (by decide) (fun hy => ?_) (fun hy => ?_)
    · rw [if_pos hy] at hk
      rw [h0c]
      refine nd_iload_n hC dX7_seenFault_26 rfl ?_
      refine nd_ireturn hC rfl (by first | rfl | exact nd_b_nar _) (by omega) (by omega) dX7_seenFault_27 (hk)
    · rw [if_neg (by rw [hy]; decide)] at hk
      refine nd_iconst hC (v := nI 3) (by rfl) dX7_seenFault_22 ?_
      refine nd_goto hC (tgt := 27) dX7_seenFault_23 (by decide) ?_
      refine nd_ireturn hC rfl (by first | rfl | exact nd_b_nar _) (by omega) (by omega) dX7_seenFault_27 (hk)
theorem sp_laysSeen (hg : nd_OK g) (hd : 14 ≤ d) {tt t m : Nat} {S : sy_S} {q : Nat × List Int64} (ht : tt ≤ 1000000) (hI : mo_I tt S A F B) (hS : sy_ok S) (hw : mo_W h0 A F B h) (htt : t < 4) (eq : sy_t S t = some q) (hm : m ≤ 4)
    (hk : ∀ A2 F2 B2 h2, mo_I (tt + 1) S A2 F2 B2 → F2 4 = F 4 → F2 30 = nI (sn_r S q.2 m).1 → F2 34 = (sn_r S q.2 m).2.1 → (∀ i, i < 600 → A2 39 i = (sn_r S q.2 m).2.2 i) → mo_W h0 A2 F2 B2 h2 → K (.inl none) h2) : nd_M g mX7_laysSeen d 0 0 [.ref 101, .int (nI t), .int (nI m)] h K := by
  have hn : sy_n S ≤ 6 := hS.1.1.1
  have hok := lk_flat_ok (sy_n S)
  have hwd := lk_width hok
  refine nd_enter hg (by decide) rfl (Nat.le_of_ble_eq_true rfl) (fun X hC => ?_)
  refine nd_aload_n hC dX7_laysSeen_0 rfl rfl ?_
  refine nd_iload_n hC dX7_laysSeen_1 rfl ?_
  refine mo_put_askedTray hC hw rfl dX7_laysSeen_2 (fun h hw => ?_)
  refine nd_aload_n hC dX7_laysSeen_5 rfl rfl ?_
  refine nd_aload_n hC dX7_laysSeen_6 rfl rfl ?_
  refine mo_callV (As := []) (d2 := d - 1) hC hw rfl lkX7_253 lyX7_253 (Nat.le_of_ble_eq_true rfl) (by omega) rfl (by exact Nat.le_of_ble_eq_true rfl) (Nat.zero_le _) (Nat.zero_le _) dX7_laysSeen_7 rfl ((sp_cells hg hw ?_))
  rw [hI.n]
  have J : ∀ F1 h1, F1 = va_up F 33 (nI t) → mo_W h0 A F1 B h1 → nd_W g mX7_laysSeen d 0 0 K X 27 [some (.ref 101), some (.int (nI t)), some (.int (nI m)), none] [.int (sn_all (sy_n S)), .ref 101] h1 0 0 := by
    intro F1 h hF1 hw
    subst hF1
    refine mo_put_sureSet hC hw rfl dX7_laysSeen_27 (fun h hw => ?_)
    refine nd_iconst hC (v := nI 0) (by rfl) dX7_laysSeen_30 ?_
    refine nd_istore_n hC dX7_laysSeen_31 (Nat.le_of_ble_eq_true rfl) ?_
    have L : ∀ k, k ≤ 600 → ∀ f3 h3, (∀ i, i < k → f3 i = nI 0) → mo_W h0 (va_up A 39 f3) (va_up (va_up F 33 (nI t)) 34 (sn_all (sy_n S))) B h3 → nd_W g mX7_laysSeen d 0 0 K X 32 [some (.ref 101), some (.int (nI t)), some (.int (nI m)), some (.int (nI k))] [] h3 0 0 := by
      refine nd_for _ _ ?_ ?_
      · intro f3 h hf hw
        refine nd_iload_n hC dX7_laysSeen_32 rfl ?_
        refine nd_sipush hC (v := nI 600) (by rfl) dX7_laysSeen_33 ?_
        first | with_reducible refine nd_icmp_geN hC (tgt := 52) (by omega) (by omega) dX7_laysSeen_36 (by decide) (fun hc => ?_) (fun hc => ?_) | refine nd_icmp_ge hC (tgt := 52) dX7_laysSeen_36 (by decide) (fun hc => ?_) (fun hc => ?_)
        · refine nd_aload_n hC dX7_laysSeen_52 rfl rfl ?_
          refine mo_callV (As := []) (d2 := d - 1) hC hw rfl lkX7_277 lyX7_277 (Nat.le_of_ble_eq_true rfl) (by omega) rfl (by exact Nat.le_of_ble_eq_true rfl) (Nat.zero_le _) (Nat.zero_le _) dX7_laysSeen_53 rfl ((sp_laysFlat hg (by omega) hw hI.n hn ?_))
          intro f2 h2 hl hw
          have hI2 : mo_I tt S (va_up (va_up A 39 f3) 19 f2) (va_up (va_up F 33 (nI t)) 34 (sn_all (sy_n S))) B := (((hI.uf (k := 33) rfl).uf (k := 34) rfl).ar (j := 39) rfl).ar (j := 19) rfl
          have hmk : mk_ok (mo_fr ((va_up (va_up A 39 f3) 19 f2) 0)) (mo_bk ((va_up (va_up A 39 f3) 19 f2) 0)) (sy_n S) := fun c hc => by
            have := sv_mk hS.1.2.1 c hc
            rw [hI2.fr hS c hc, hI2.bk hS c hc]; exact this
          refine nd_aload_n hC dX7_laysSeen_56 rfl rfl ?_
          refine nd_bipush hC (v := nI 13) (by rfl) dX7_laysSeen_57 ?_
          refine nd_iconst hC (v := nI 0) (by rfl) dX7_laysSeen_59 ?_
          refine nd_iload_n hC dX7_laysSeen_60 rfl ?_
          refine mo_callV (As := [_, _, _]) (d2 := d - 1) hC hw rfl lkX7_502 lyX7_502 (Nat.le_of_ble_eq_true rfl) (by omega) rfl (by exact Nat.le_of_ble_eq_true rfl) (Nat.zero_le _) (Nat.zero_le _) dX7_laysSeen_61 rfl ((sp_askS hg (d0 := 5) (0, sn_all (sy_n S), f3) hI2 hn (by omega) (by omega) (by omega) (fun d2 hd2 => se_seen_ok hg hd2 hn (by omega) htt ((hI2.2.2.1 t htt).2 q eq).2 (show mo_F0 (va_up (va_up F 33 (nI t)) 34 (sn_all (sy_n S))) 13 0 33 = nI t from rfl) hI2.n hmk) (fun s A F B f q => ⟨q.1.up19 f, q.2.1, q.2.2.1, q.2.2.2.1, by rw [va_up_n _ _ (by decide)]; exact q.2.2.2.2⟩) (fun s A F B f q => ⟨q.1.up25 f, q.2.1, q.2.2.1, q.2.2.2.1, by rw [va_up_n _ _ (by decide)]; exact q.2.2.2.2⟩) (by omega) (by omega) hw (by rw [va_up_s]; exact hl) hok ⟨⟨fun _ _ _ _ => rfl, fun _ _ => rfl, fun _ _ => rfl⟩, rfl, rfl, rfl, rfl⟩ (lv_B_T _ _ (fun _ => trivial) _ _) ?_))
          intro A3 F3 B3 h3 hiv hI3 e4 e27 e33 hw
          have hR := sn_congr hn (hI2.fr hS) (hI2.bk hS) (v := q.2) (lv_all m (lk_flat (sy_n S))) (0, sn_all (sy_n S), f3) (0, sn_all (sy_n S), fun _ => nI 0) (fun x hx => (lv_all_ok hok x hx).1) ⟨rfl, rfl, hf⟩
          refine nd_return hC rfl (by omega) (by omega) dX7_laysSeen_64 ((hk A3 F3 B3 h3 hI3 (e4.trans rfl) (by rw [hiv.2.2.1, hR.1]) (by rw [hiv.2.2.2.1, hR.2.1]) (fun i hi => by rw [hiv.2.2.2.2]; exact hR.2.2 i hi) hw))
        · omega
      · intro k hk1 ih f3 h hf hw
        refine nd_iload_n hC dX7_laysSeen_32 rfl ?_
        refine nd_sipush hC (v := nI 600) (by rfl) dX7_laysSeen_33 ?_
        first | with_reducible refine nd_icmp_geN hC (tgt := 52) (by omega) (by omega) dX7_laysSeen_36 (by decide) (fun hc => ?_) (fun hc => ?_) | refine nd_icmp_ge hC (tgt := 52) dX7_laysSeen_36 (by decide) (fun hc => ?_) (fun hc => ?_)
        · omega
        · refine nd_aload_n hC dX7_laysSeen_39 rfl rfl ?_
          refine mo_get_beneathHow hC hw rfl dX7_laysSeen_40 ?_
          refine nd_iload_n hC dX7_laysSeen_43 rfl ?_
          refine nd_iconst hC (v := nI 0) (by rfl) dX7_laysSeen_44 ?_
          refine mo_ast_beneathHow hC hw (by omega) dX7_laysSeen_45 (fun h hw => ?_)
          try simp only [va_up_up, va_up_s] at hw
          first | with_reducible refine nd_iincN hC dX7_laysSeen_46 rfl (Nat.le_of_ble_eq_true rfl) ?_ | refine nd_iinc hC dX7_laysSeen_46 rfl rfl (Nat.le_of_ble_eq_true rfl) ?_
          refine nd_goto hC (tgt := 32) dX7_laysSeen_49 (by decide) ?_
          refine ih _ h (fun i hi => ?_) hw
          by_cases e : i = k
          · subst e; rw [upd_s]
          · rw [upd_n e]; exact hf i (by omega)
    exact L 0 (Nat.zero_le _) (A 39) h (fun i hi => absurd hi (Nat.not_lt_zero _)) (by rw [va_up_id]; exact hw)
  first | with_reducible refine nd_if_neB hC (tgt := 17) dX7_laysSeen_10 (by decide) (fun hc => ?_) (fun hc => ?_) | with_reducible refine nd_if_neN hC (tgt := 17) (by omega) dX7_laysSeen_10 (by decide) (fun hc => ?_) (fun hc => ?_) | refine nd_if_ne hC (tgt := 17) dX7_laysSeen_10 (by decide) (fun hc => ?_) (fun hc => ?_)
  · have e : nI 1 <<< (nI (sy_n S - 1) &&& 31) - nI 1 = sn_all (sy_n S) := by unfold sn_all; rw [if_neg (by omega)]
    refine nd_iconst hC (v := nI 1) (by rfl) dX7_laysSeen_17 ?_
    refine nd_aload_n hC dX7_laysSeen_18 rfl rfl ?_
    refine mo_callV (As := []) (d2 := d - 1) hC hw rfl lkX7_253 lyX7_253 (Nat.le_of_ble_eq_true rfl) (by omega) rfl (by exact Nat.le_of_ble_eq_true rfl) (Nat.zero_le _) (Nat.zero_le _) dX7_laysSeen_19 rfl ((sp_cells hg hw ?_))
    rw [hI.n]
    refine nd_iconst hC (v := nI 1) (by rfl) dX7_laysSeen_22 ?_
    first | with_reducible refine nd_isubN hC (by omega) dX7_laysSeen_23 ?_ | refine nd_isub hC dX7_laysSeen_23 ?_
    refine nd_ishl hC dX7_laysSeen_24 ?_
    refine nd_iconst hC (v := nI 1) (by rfl) dX7_laysSeen_25 ?_
    first | with_reducible refine nd_isubN hC (by omega) dX7_laysSeen_26 ?_ | refine nd_isub hC dX7_laysSeen_26 ?_
    rw [e]
    exact J _ h rfl hw
  · have e : nI 0 = sn_all (sy_n S) := by unfold sn_all; rw [if_pos (by omega)]
    refine nd_iconst hC (v := nI 0) (by rfl) dX7_laysSeen_13 ?_
    refine nd_goto hC (tgt := 27) dX7_laysSeen_14 (by decide) ?_
    rw [e]
    exact J _ h rfl hw
theorem mp_seen (hg : nd_OK g) (hd : 15 ≤ d) (x y : Int32) : mp_ok g h0 mX7_seen d [.int x, .int y] (mp_i (op_seen x y)) := by
  intro tt S A F B h K ht hI hS hw hk
  have hm3 := sn_f_le x y S
  unfold mp_i op_seen at hk
  refine nd_enter hg (by decide) rfl (Nat.le_of_ble_eq_true rfl) (fun X hC => ?_)
  refine nd_aload_n hC dX7_seen_0 rfl rfl ?_
  refine nd_aload_n hC dX7_seen_1 rfl rfl ?_
  refine nd_iload_n hC dX7_seen_2 rfl ?_
  refine nd_iload_n hC dX7_seen_3 rfl ?_
  refine mo_callV (As := [_, _]) (d2 := d - 1) hC hw rfl lkX7_558 lyX7_558 (Nat.le_of_ble_eq_true rfl) (by omega) rfl (by exact Nat.le_of_ble_eq_true rfl) (Nat.zero_le _) (Nat.zero_le _) dX7_seen_4 rfl ((sp_seenFault hg (by omega) hI hS hw ?_))
  refine mo_put_thrown hC hw rfl dX7_seen_7 (fun h hw => ?_)
  refine nd_aload_n hC dX7_seen_10 rfl rfl ?_
  refine mo_get_thrown hC hw rfl dX7_seen_11 ?_
  rw [va_up_s]
  by_cases h0c : sn_f x y S = 0
  · rw [if_pos h0c] at hk
    obtain ⟨hmk0, hy⟩ := sn_f_0 h0c
    obtain ⟨hf0, hmk⟩ := mk_f_0 hmk0
    obtain ⟨t, q, htt, rfl, eq, ev⟩ := ty_f_0 hf0
    obtain ⟨m, hm4, rfl⟩ := op_in_nat hy
    rw [ev, nI_cl (by omega)] at hk
    rw [h0c] at hw ⊢
    refine nd_if_le hC (tgt := 19) dX7_seen_14 (by decide) (fun hq => ?_) (fun hq => ?_)
    · refine nd_aload_n hC dX7_seen_19 rfl rfl ?_
      refine nd_iload_n hC dX7_seen_20 rfl ?_
      refine nd_iload_n hC dX7_seen_21 rfl ?_
      refine mo_callV (As := [_, _]) (d2 := d - 1) hC hw rfl lkX7_561 lyX7_561 (Nat.le_of_ble_eq_true rfl) (by omega) rfl (by exact Nat.le_of_ble_eq_true rfl) (Nat.zero_le _) (Nat.zero_le _) dX7_seen_22 rfl ((sp_laysSeen hg (by omega) ht hI.th hS hw htt eq (by omega) ?_))
      intro A3 F3 B3 h3 hI3 e4 e30 e34 e39 hw
      refine nd_aload_n hC dX7_seen_25 rfl rfl ?_
      refine mo_get_rowMany hC hw rfl dX7_seen_26 ?_
      rw [e30]
      refine nd_ireturn hC rfl (by first | rfl | exact nd_b_nar _) (by omega) (by omega) dX7_seen_29 ((hk _ _ _ _ (hI3.t (by omega)) (e4.trans rfl) hw))
    · exact absurd hq (by decide)
  · rw [if_neg h0c] at hk
    refine nd_if_le hC (tgt := 19) dX7_seen_14 (by decide) (fun hq => ?_) (fun hq => ?_)
    · exact absurd hq (nI_gt0 (by omega) (by omega))
    · refine nd_iconst hC (v := nI 0) (by rfl) dX7_seen_17 ?_
      refine nd_ireturn hC rfl (by first | rfl | exact nd_b_nar _) (by omega) (by omega) dX7_seen_18 ((hk A _ B _ (hI.th.t (by omega)) (va_up_s _ _ _) hw))
theorem sn_go_le {fr bk : Nat → Int32} {n : Nat} {v : List Int64} (xs : List lv_E) : ∀ s, (lv_go (se_sn fr bk n v) s xs).1.1 ≤ s.1 + xs.length := by
  induction xs with
  | nil => intro s; exact Nat.le_refl _
  | cons x xs ih =>
    intro s
    have e2 : (se_sn fr bk n v s x).2 = false := by unfold se_sn; split <;> rfl
    have e1 : (se_sn fr bk n v s x).1.1 ≤ s.1 + 1 := by
      unfold se_sn
      split
      · exact Nat.le_refl _
      · exact Nat.le_succ _
    unfold lv_go
    rw [if_neg (by rw [e2]; decide)]
    have := ih (se_sn fr bk n v s x).1
    simp only [List.length_cons]
    omega
theorem sn_cnt (S : sy_S) (v : List Int64) (m : Nat) (hm : m ≤ 5) (hn : sy_n S ≤ 6) : (sn_r S v m).1 ≤ 27925 := by
  have h1 := sn_go_le (fr := sv_fr (sy_c S)) (bk := sv_bk (sy_c S)) (n := sy_n S) (v := v) (lv_all m (lk_flat (sy_n S))) (0, sn_all (sy_n S), fun _ => nI 0)
  have h2 := lv_cntA_le m hm (lk_flat (sy_n S)).length (Nat.le_trans (lk_width (lk_flat_ok (sy_n S))) hn)
  rw [lv_all_length] at h1
  show (lv_go (se_sn (sv_fr (sy_c S)) (sv_bk (sy_c S)) (sy_n S) v) (0, sn_all (sy_n S), fun _ => nI 0) (lv_all m (lk_flat (sy_n S)))).1.1 ≤ 27925
  omega
theorem mp_sure (hg : nd_OK g) (hd : 15 ≤ d) (x y : Int32) : mp_ok g h0 mX7_sure d [.int x, .int y] (mp_i (op_sure x y)) := by
  intro tt S A F B h K ht hI hS hw hk
  have hm3 := sn_f_le x y S
  unfold mp_i op_sure at hk
  refine nd_enter hg (by decide) rfl (Nat.le_of_ble_eq_true rfl) (fun X hC => ?_)
  refine nd_aload_n hC dX7_sure_0 rfl rfl ?_
  refine nd_aload_n hC dX7_sure_1 rfl rfl ?_
  refine nd_iload_n hC dX7_sure_2 rfl ?_
  refine nd_iload_n hC dX7_sure_3 rfl ?_
  refine mo_callV (As := [_, _]) (d2 := d - 1) hC hw rfl lkX7_558 lyX7_558 (Nat.le_of_ble_eq_true rfl) (by omega) rfl (by exact Nat.le_of_ble_eq_true rfl) (Nat.zero_le _) (Nat.zero_le _) dX7_sure_4 rfl ((sp_seenFault hg (by omega) hI hS hw ?_))
  refine mo_put_thrown hC hw rfl dX7_sure_7 (fun h hw => ?_)
  refine nd_aload_n hC dX7_sure_10 rfl rfl ?_
  refine mo_get_thrown hC hw rfl dX7_sure_11 ?_
  rw [va_up_s]
  by_cases h0c : sn_f x y S = 0
  · rw [if_pos h0c] at hk
    obtain ⟨hmk0, hy⟩ := sn_f_0 h0c
    obtain ⟨hf0, hmk⟩ := mk_f_0 hmk0
    obtain ⟨t, q, htt, rfl, eq, ev⟩ := ty_f_0 hf0
    obtain ⟨m, hm4, rfl⟩ := op_in_nat hy
    rw [ev, nI_cl (by omega)] at hk
    rw [h0c] at hw ⊢
    refine nd_if_le hC (tgt := 19) dX7_sure_14 (by decide) (fun hq => ?_) (fun hq => ?_)
    · refine nd_aload_n hC dX7_sure_19 rfl rfl ?_
      refine nd_iload_n hC dX7_sure_20 rfl ?_
      refine nd_iload_n hC dX7_sure_21 rfl ?_
      refine mo_callV (As := [_, _]) (d2 := d - 1) hC hw rfl lkX7_561 lyX7_561 (Nat.le_of_ble_eq_true rfl) (by omega) rfl (by exact Nat.le_of_ble_eq_true rfl) (Nat.zero_le _) (Nat.zero_le _) dX7_sure_22 rfl ((sp_laysSeen hg (by omega) ht hI.th hS hw htt eq (by omega) ?_))
      intro A3 F3 B3 h3 hI3 e4 e30 e34 e39 hw
      refine nd_aload_n hC dX7_sure_25 rfl rfl ?_
      refine mo_get_rowMany hC hw rfl dX7_sure_26 ?_
      rw [e30]
      have hb := sn_cnt S q.2 m (by omega) hS.1.1.1
      first | with_reducible refine nd_if_neB hC (tgt := 36) dX7_sure_29 (by decide) (fun hq2 => ?_) (fun hq2 => ?_) | with_reducible refine nd_if_neN hC (tgt := 36) (by omega) dX7_sure_29 (by decide) (fun hq2 => ?_) (fun hq2 => ?_) | refine nd_if_ne hC (tgt := 36) dX7_sure_29 (by decide) (fun hq2 => ?_) (fun hq2 => ?_)
      · rw [if_neg hq2] at hk
        refine nd_aload_n hC dX7_sure_36 rfl rfl ?_
        refine mo_get_sureSet hC hw rfl dX7_sure_37 ?_
        rw [e34]
        refine nd_ireturn hC rfl (by first | rfl | exact nd_b_nar _) (by omega) (by omega) dX7_sure_40 ((hk _ _ _ _ (hI3.t (by omega)) (e4.trans rfl) hw))
      · rw [if_pos hq2] at hk
        refine nd_iconst hC (v := nI 0) (by rfl) dX7_sure_32 ?_
        refine nd_goto hC (tgt := 40) dX7_sure_33 (by decide) ?_
        refine nd_ireturn hC rfl (by first | rfl | exact nd_b_nar _) (by omega) (by omega) dX7_sure_40 ((hk _ _ _ _ (hI3.t (by omega)) (e4.trans rfl) hw))
    · exact absurd hq (by decide)
  · rw [if_neg h0c] at hk
    refine nd_if_le hC (tgt := 19) dX7_sure_14 (by decide) (fun hq => ?_) (fun hq => ?_)
    · exact absurd hq (nI_gt0 (by omega) (by omega))
    · refine nd_iconst hC (v := nI 0) (by rfl) dX7_sure_17 ?_
      refine nd_ireturn hC rfl (by first | rfl | exact nd_b_nar _) (by omega) (by omega) dX7_sure_18 ((hk A _ B _ (hI.th.t (by omega)) (va_up_s _ _ _) hw))
end MO23

