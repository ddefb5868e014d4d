set_option maxRecDepth 100000
/-! ===== trays: which one, marks in it ===== -/
section CP50
variable {g : nd_G} {d : Nat} {K : nd_K} {h : nd_H} {o : Nat → Nat} {nap : Nat} {ds : List Nat} {gi : Nat → Value} {dss : Nat → List Nat} {S : sy_S}
theorem nd_tight0 {mm : nd_Mt} {mc ms : Nat} {X : nd_X} {pc : Nat} {lv : List (Option Value)} {st : List Value} {cs ss : Nat} (hX : X.2.2.1.heap.size = nd_z g + h.length) (k : nd_W g mm d mc ms K X pc lv st h 0 0) : nd_W g mm d mc ms K X pc lv st h cs ss :=
  nd_tight (h0 := h) hX (Nat.le_refl _) (Nat.le_refl _) (by rw [List.drop_of_length_le (by rw [List.length_map]; exact Nat.le_refl _)]; exact Nat.le_refl _) (fun i k h1 h2 => by have := nd_get_lt h2; omega) k
theorem cx_trayOf (hg : nd_OK g) (hd : 1 ≤ d) (hK : cw_K o nap ds gi dss S h) {x : Int32} (hk : op_in x 0 3 = true → ∀ t, t < 4 → x = nI t → K (.inl (some (.ref (96 + t)))) h) (he : op_in x 0 3 = false → ∀ n, K (.inr (eNSE, h.length)) (h ++ List.replicate (n + 1) nd_J)) : nd_M g mX1_trayOf d 1 6 [.ref 0, .int x] h K := by
  obtain ⟨⟨x0, hO⟩, -, -, -, -, -, h95, -⟩ := id hK
  unfold cx_O at hO
  refine nd_enter hg (by decide) rfl (Nat.le_of_ble_eq_true rfl) (fun X hC => ?_)
  refine nd_iload_n hC dX1_trayOf_0 rfl ?_
  first | with_reducible refine nd_i2lN hC (by omega) dX1_trayOf_1 ?_ | refine nd_i2l hC dX1_trayOf_1 ?_
  refine nd_lconst hC (v := lN 0) (by rfl) dX1_trayOf_2 ?_
  refine nd_ldc2 hC q632 dX1_trayOf_3 ?_
  refine nd_v_eq (y := .long (lN 3)) (by rfl) ?_
  refine nd_callS (mm2 := mX1_isIn) (As := [_, _, _]) (mc2 := 0) (ms2 := 0) (d2 := d - 1) hC rfl lkX1_106 lmX1_isIn (Nat.le_of_ble_eq_true rfl) (by omega) rfl (by exact Nat.le_of_ble_eq_true rfl) (by omega) (by omega) dX1_trayOf_6 rfl ((ci_isIn hg ?_))
  have e : (decide (lN 0 ≤ x.toInt64) && decide (x.toInt64 ≤ lN 3)) = op_in x 0 3 := by
    unfold op_in
    rw [Bool.eq_iff_iff, Bool.and_eq_true, nd_lle, nd_lle, nd_tl, lN_toInt (by decide), lN_toInt (by decide), decide_eq_true_iff]
    omega
  rw [e]
  refine nd_callS (mm2 := mX1_there) (As := [_]) (mc2 := 1) (ms2 := 6) (d2 := d - 1) hC rfl lkX1_168 lmX1_there (Nat.le_of_ble_eq_true rfl) (by omega) rfl (by exact Nat.le_of_ble_eq_true rfl) (by omega) (by omega) dX1_trayOf_9 rfl ((ci_there hg (fun hc => ?_) (fun hc n => ?_)))
  · obtain ⟨t, ht, rfl⟩ := op_in_nat hc
    refine nd_aload_n hC dX1_trayOf_12 rfl rfl ?_
    refine nd_get (ci := nX1) hC in_X1 rfl hO 10 (by decide) q396 (fun _ z => z) rfl dX1_trayOf_13 ?_
    refine nd_iload_n hC dX1_trayOf_16 rfl ?_
    refine nd_aaloadN hC rfl rfl h95 (by omega) (by omega) dX1_trayOf_17 ?_
    refine nd_areturn hC rfl (by first | exact Or.inl ⟨_, rfl⟩ | exact Or.inr ⟨_, rfl⟩) (by rfl) (by omega) (by omega) dX1_trayOf_18 ((hk hc t (by omega) rfl))
  · exact nd_out hC rfl (by omega) (by omega) (he hc n)
theorem cx_mustBeR (hg : nd_OK g) (hd : 1 ≤ d) {T b : Nat} (ht : h[T]? = some (.inr (nX6, [.ref b]))) (hk : K (.inl none) h) : nd_M g mX1_mustBe d 1 6 [.ref T] h K := by
  refine nd_enter hg (by decide) rfl (Nat.le_of_ble_eq_true rfl) (fun X hC => ?_)
  refine nd_aload_n hC dX1_mustBe_0 rfl rfl ?_
  refine nd_getN (ci := nX6) hC in_X6 rfl ht 0 (by decide) q377 (fun _ z => z) rfl dX1_mustBe_1 ?_
  refine nd_isnull hC dX1_mustBe_4 ?_
  refine nd_iconst hC (v := nI 1) (by rfl) dX1_mustBe_7 ?_
  refine nd_goto hC (tgt := 12) dX1_mustBe_8 (by decide) ?_
  refine nd_callS (mm2 := mX1_can) (As := [_]) (mc2 := 1) (ms2 := 6) (d2 := d - 1) hC rfl lkX1_303 lmX1_can (Nat.le_of_ble_eq_true rfl) (by omega) rfl (by exact Nat.le_of_ble_eq_true rfl) (by omega) (by omega) dX1_mustBe_12 rfl ((ci_can (b := true) hg (fun _ => ?_) (fun z => by cases z)))
  refine nd_return hC rfl (by omega) (by omega) dX1_mustBe_15 (hk)
theorem cx_mustBeN (hg : nd_OK g) (hd : 1 ≤ d) {T : Nat} (ht : h[T]? = some (.inr (nX6, [.null]))) (hk : ∀ n, K (.inr (eISE, h.length)) (h ++ List.replicate (n + 1) nd_J)) : nd_M g mX1_mustBe d 1 6 [.ref T] h K := by
  refine nd_enter hg (by decide) rfl (Nat.le_of_ble_eq_true rfl) (fun X hC => ?_)
  refine nd_aload_n hC dX1_mustBe_0 rfl rfl ?_
  refine nd_getN (ci := nX6) hC in_X6 rfl ht 0 (by decide) q377 (fun _ z => z) rfl dX1_mustBe_1 ?_
  refine nd_isnullN hC (tgt := 11) dX1_mustBe_4 (by decide) ?_
  refine nd_iconst hC (v := nI 0) (by rfl) dX1_mustBe_11 ?_
  refine nd_callS (mm2 := mX1_can) (As := [_]) (mc2 := 1) (ms2 := 6) (d2 := d - 1) hC rfl lkX1_303 lmX1_can (Nat.le_of_ble_eq_true rfl) (by omega) rfl (by exact Nat.le_of_ble_eq_true rfl) (by omega) (by omega) dX1_mustBe_12 rfl ((ci_can (b := false) hg (fun z => by cases z) (fun _ n => ?_)))
  exact nd_out hC rfl (by omega) (by omega) (hk n)
theorem cw_ty.at {t : Nat} {q : Nat × List Int64} (H : cw_ty o h t (some q)) : ty_at h (96 + t) (some q) := by
  obtain ⟨b, -, -, b3, b4⟩ := H
  exact ⟨b, b3, b4⟩
/-- a tray asked for: all three answers -/
theorem ty_cases (hK : cw_K o nap ds gi dss S h) {x : Int32} (hc : op_in x 0 3 = true) {t : Nat} (ht : t < 4) (hx : x = nI t) : (ty_f x S = 2 ∧ h[96 + t]? = some (.inr (nX6, [.null]))) ∨ ∃ q b, ty_f x S = 0 ∧ ty_v x S = q.2 ∧ ty_s x S = q.1 ∧ sy_t S t = some q ∧ h[96 + t]? = some (.inr (nX6, [.ref b])) ∧ ty_at h (96 + t) (some q) := by
  obtain ⟨-, -, -, -, -, -, -, h8, -⟩ := hK
  have M := h8 t ht
  have e : x.toNatClampNeg = t := by rw [hx]; exact nI_cl (by omega)
  unfold ty_f ty_v ty_s
  rw [if_pos hc, e]
  cases hq : sy_t S t with
  | none => rw [hq] at M; exact Or.inl ⟨rfl, M⟩
  | some q =>
    rw [hq] at M
    obtain ⟨b, b1, b2, b3, b4⟩ := id M
    exact Or.inr ⟨q, b, rfl, rfl, rfl, rfl, b3, M.at⟩
theorem ty_f1 {x : Int32} (hc : op_in x 0 3 = false) : ty_f x S = 1 := by unfold ty_f; rw [if_neg (by rw [hc]; decide)]
theorem ty_mk_of {v : List Int64} (h1 : 1 ≤ v.length ∧ v.length ≤ 6) (h2 : ∀ i, i < v.length → (-1 : Int64) ≤ v.getD i 0) : ty_mk v = true := by
  unfold ty_mk
  rw [Bool.and_eq_true, decide_eq_true_iff, List.all_eq_true]
  exact ⟨h1, fun i hi => decide_eq_true (h2 i (List.mem_range.mp hi))⟩
theorem ty_mk_no {v : List Int64} {k : Nat} (hk : k < v.length) (h2 : v.getD k 0 < -1) : ty_mk v = false := by
  cases e : ty_mk v with
  | false => rfl
  | true =>
    unfold ty_mk at e
    rw [Bool.and_eq_true, List.all_eq_true] at e
    exact absurd h2 (Int64.not_lt.mpr (of_decide_eq_true (e.2 k (List.mem_range.mpr hk))))
theorem ty_mk_len {v : List Int64} (h1 : ¬ (1 ≤ v.length ∧ v.length ≤ 6)) : ty_mk v = false := by
  unfold ty_mk
  rw [decide_eq_false h1, Bool.false_and]
theorem cx_marksOf (hg : nd_OK g) (hd : 3 ≤ d) (hS : sy_ok S) (hK : cw_K o nap ds gi dss S h) {x : Int32} (hk : mk_f x S = 0 → ∀ t q, t < 4 → sy_t S t = some q → x = nI t → ty_v x S = q.2 → ty_at h (96 + t) (some q) → (∃ b, h[96 + t]? = some (.inr (nX6, [.ref b]))) → K (.inl (some (.ref (96 + t)))) h) (he : mk_f x S ≠ 0 → ∀ k n, K (.inr (ex3 eNSE eISE eIAE (mk_f x S), k)) (h ++ List.replicate (n + 1) nd_J)) : nd_M g mX1_marksOf d 5 30 [.ref 0, .int x] h K := by
  obtain ⟨⟨x0, hO⟩, -⟩ := id hK
  unfold cx_O at hO
  refine nd_enterL hg (by decide) rfl (Nat.le_of_ble_eq_true rfl) (fun X hC hX => ?_)
  refine nd_aload_n hC dX1_marksOf_0 rfl rfl ?_
  refine nd_iload_n hC dX1_marksOf_1 rfl ?_
  refine nd_callV (mm2 := mX1_trayOf) (As := [_]) (mc2 := 1) (ms2 := 6) (d2 := d - 1) hC rfl lkX1_332 ⟨rfl, lmX1_trayOf⟩ (hO) rfl (Nat.le_of_ble_eq_true rfl) (by omega) rfl (by exact Nat.le_of_ble_eq_true rfl) (by omega) (by omega) dX1_marksOf_2 rfl ((cx_trayOf hg (by omega) hK (fun hc t ht hx => ?_) (fun hc n => ?_)))
  · rcases ty_cases hK hc ht hx with ⟨q1, q2⟩ | ⟨q, b, q1, q2, q3, q4, q5, q6⟩
    · have em : mk_f x S = 2 := by unfold mk_f; rw [q1]; rfl
      rw [em] at he
      refine nd_astore_n hC dX1_marksOf_5 (Nat.le_of_ble_eq_true rfl) rfl ?_
      refine nd_aload_n hC dX1_marksOf_6 rfl rfl ?_
      refine nd_callS (mm2 := mX1_mustBe) (As := [_]) (mc2 := 1) (ms2 := 6) (d2 := d - 1) hC rfl lkX1_336 lmX1_mustBe (Nat.le_of_ble_eq_true rfl) (by omega) rfl (by exact Nat.le_of_ble_eq_true rfl) (by omega) (by omega) dX1_marksOf_7 rfl ((cx_mustBeN hg (by omega) q2 (fun n => ?_)))
      exact nd_out hC rfl (by omega) (by omega) (he (by decide) _ n)
    · have hlen : q.2.length ≤ 30 := (hS.2.2.1 t ht q q4).2
      have em : mk_f x S = if ty_mk q.2 = true then 0 else 3 := by unfold mk_f; rw [q1, q2, if_pos rfl]
      have bad : ty_mk q.2 = false → ∀ k n, K (.inr (eIAE, k)) (h ++ List.replicate (n + 1) nd_J) := by
        intro z k n
        rw [em, if_neg (by rw [z]; decide)] at he
        exact he (by decide) k n
      refine nd_astore_n hC dX1_marksOf_5 (Nat.le_of_ble_eq_true rfl) rfl ?_
      refine nd_aload_n hC dX1_marksOf_6 rfl rfl ?_
      refine nd_callS (mm2 := mX1_mustBe) (As := [_]) (mc2 := 1) (ms2 := 6) (d2 := d - 1) hC rfl lkX1_336 lmX1_mustBe (Nat.le_of_ble_eq_true rfl) (by omega) rfl (by exact Nat.le_of_ble_eq_true rfl) (by omega) (by omega) dX1_marksOf_7 rfl ((cx_mustBeR hg (by omega) q5 ?_))
      refine nd_tight0 hX ?_
      refine nd_aload_n hC dX1_marksOf_10 rfl rfl ?_
      refine nd_callV (mm2 := mX6_size) (As := []) (mc2 := 0) (ms2 := 0) (d2 := d - 1) hC rfl lkX1_340 ⟨rfl, lmX6_size⟩ (q5) rfl (Nat.le_of_ble_eq_true rfl) (by omega) rfl (by exact Nat.le_of_ble_eq_true rfl) (by omega) (by omega) dX1_marksOf_11 rfl ((ty_size hg q6 hlen ?_))
      first | with_reducible refine nd_i2lN hC (by omega) dX1_marksOf_14 ?_ | refine nd_i2l hC dX1_marksOf_14 ?_
      refine nd_lconst hC (v := lN 1) (by rfl) dX1_marksOf_15 ?_
      refine nd_ldc2 hC q2289 dX1_marksOf_16 ?_
      refine nd_v_eq (y := .long (lN 6)) (by rfl) ?_
      refine nd_callS (mm2 := mX1_isIn) (As := [_, _, _]) (mc2 := 0) (ms2 := 0) (d2 := d - 1) hC rfl lkX1_106 lmX1_isIn (Nat.le_of_ble_eq_true rfl) (by omega) rfl (by exact Nat.le_of_ble_eq_true rfl) (by omega) (by omega) dX1_marksOf_19 rfl ((ci_isIn hg ?_))
      have e1 : (decide (lN 1 ≤ lN q.2.length) && decide (lN q.2.length ≤ lN 6)) = decide (1 ≤ q.2.length ∧ q.2.length ≤ 6) := by
        rw [Bool.eq_iff_iff, Bool.and_eq_true, nd_lle, nd_lle, lN_toInt (by decide), lN_toInt (by omega), lN_toInt (by decide), decide_eq_true_iff]
        omega
      rw [e1]
      refine nd_callS (mm2 := mX1_needs) (As := [_]) (mc2 := 1) (ms2 := 6) (d2 := d - 1) hC rfl lkX1_110 lmX1_needs (Nat.le_of_ble_eq_true rfl) (by omega) rfl (by exact Nat.le_of_ble_eq_true rfl) (by omega) (by omega) dX1_marksOf_22 rfl ((ci_needs hg (fun h1 => ?_) (fun h1 n => ?_)))
      · rw [decide_eq_true_iff] at h1
        refine nd_tight0 hX ?_
        refine nd_iconst hC (v := nI 0) (by rfl) dX1_marksOf_25 ?_
        refine nd_istore_n hC dX1_marksOf_26 (Nat.le_of_ble_eq_true rfl) ?_
        have L : ∀ k, k ≤ q.2.length → (∀ i, i < k → (-1 : Int64) ≤ q.2.getD i 0) → nd_W g mX1_marksOf d 5 30 K X 27 [some (.ref 0), some (.int x), some (.ref (96 + t)), some (.int (nI k))] [] h 0 0 := by
          refine nd_for _ _ ?_ ?_
          · intro hall
            have R := hk (by rw [em, if_pos (ty_mk_of h1 hall)]) t q ht q4 hx q2 q6 ⟨b, q5⟩
            refine nd_iload_n hC dX1_marksOf_27 rfl ?_
            refine nd_aload_n hC dX1_marksOf_28 rfl rfl ?_
            refine nd_callV (mm2 := mX6_size) (As := []) (mc2 := 0) (ms2 := 0) (d2 := d - 1) hC rfl lkX1_340 ⟨rfl, lmX6_size⟩ (q5) rfl (Nat.le_of_ble_eq_true rfl) (by omega) rfl (by exact Nat.le_of_ble_eq_true rfl) (by omega) (by omega) dX1_marksOf_29 rfl ((ty_size hg q6 hlen ?_))
            first | with_reducible refine nd_icmp_geN hC (tgt := 61) (by omega) (by omega) dX1_marksOf_32 (by decide) (fun hq2 => ?_) (fun hq2 => ?_) | refine nd_icmp_ge hC (tgt := 61) dX1_marksOf_32 (by decide) (fun hq2 => ?_) (fun hq2 => ?_)
            · refine nd_aload_n hC dX1_marksOf_61 rfl rfl ?_
              refine nd_areturn hC rfl (by first | exact Or.inl ⟨_, rfl⟩ | exact Or.inr ⟨_, rfl⟩) (by rfl) (by omega) (by omega) dX1_marksOf_62 (R)
            · omega
          · intro k hk1 ih hall
            refine nd_iload_n hC dX1_marksOf_27 rfl ?_
            refine nd_aload_n hC dX1_marksOf_28 rfl rfl ?_
            refine nd_callV (mm2 := mX6_size) (As := []) (mc2 := 0) (ms2 := 0) (d2 := d - 1) hC rfl lkX1_340 ⟨rfl, lmX6_size⟩ (q5) rfl (Nat.le_of_ble_eq_true rfl) (by omega) rfl (by exact Nat.le_of_ble_eq_true rfl) (by omega) (by omega) dX1_marksOf_29 rfl ((ty_size hg q6 hlen ?_))
            first | with_reducible refine nd_icmp_geN hC (tgt := 61) (by omega) (by omega) dX1_marksOf_32 (by decide) (fun hq2 => ?_) (fun hq2 => ?_) | refine nd_icmp_ge hC (tgt := 61) dX1_marksOf_32 (by decide) (fun hq2 => ?_) (fun hq2 => ?_)
            · omega
            refine nd_aload_n hC dX1_marksOf_35 rfl rfl ?_
            refine nd_iload_n hC dX1_marksOf_36 rfl ?_
            refine nd_callV (mm2 := mX6_at) (As := [_]) (mc2 := 0) (ms2 := 0) (d2 := d - 1) hC rfl lkX1_341 ⟨rfl, lmX6_at⟩ (q5) rfl (Nat.le_of_ble_eq_true rfl) (by omega) rfl (by exact Nat.le_of_ble_eq_true rfl) (by omega) (by omega) dX1_marksOf_37 rfl ((ty_get hg q6 hlen hk1 ?_))
            refine nd_ldc2 hC q900 dX1_marksOf_40 ?_
            refine nd_lcmp_lt hC (tgt := 51) dX1_marksOf_43 dX1_marksOf_44 (by decide) (fun hq3 => ?_) (fun hq3 => ?_)
            · refine nd_iconst hC (v := nI 0) (by rfl) dX1_marksOf_51 ?_
              refine nd_callS (mm2 := mX1_needs) (As := [_]) (mc2 := 1) (ms2 := 6) (d2 := d - 1) hC rfl lkX1_110 lmX1_needs (Nat.le_of_ble_eq_true rfl) (by omega) rfl (by exact Nat.le_of_ble_eq_true rfl) (by omega) (by omega) dX1_marksOf_52 rfl ((ci_needs (b := false) hg (fun z => by cases z) (fun _ n => ?_)))
              exact nd_out hC rfl (by omega) (by omega) (bad (ty_mk_no hk1 hq3) _ n)
            · refine nd_iconst hC (v := nI 1) (by rfl) dX1_marksOf_47 ?_
              refine nd_goto hC (tgt := 52) dX1_marksOf_48 (by decide) ?_
              refine nd_callS (mm2 := mX1_needs) (As := [_]) (mc2 := 1) (ms2 := 6) (d2 := d - 1) hC rfl lkX1_110 lmX1_needs (Nat.le_of_ble_eq_true rfl) (by omega) rfl (by exact Nat.le_of_ble_eq_true rfl) (by omega) (by omega) dX1_marksOf_52 rfl ((ci_needs (b := true) hg (fun _ => ?_) (fun z => by cases z)))
              refine nd_tight0 hX ?_
              first | with_reducible refine nd_iincN hC dX1_marksOf_55 rfl (Nat.le_of_ble_eq_true rfl) ?_ | refine nd_iinc hC dX1_marksOf_55 rfl rfl (Nat.le_of_ble_eq_true rfl) ?_
              refine nd_goto hC (tgt := 27) dX1_marksOf_58 (by decide) ?_
              refine ih (fun i hi => ?_)
              by_cases z : i = k
              · subst z; exact Int64.not_lt.mp hq3
              · exact hall i (by omega)
        exact L 0 (Nat.zero_le _) (fun i hi => absurd hi (Nat.not_lt_zero _))
      · exact nd_out hC rfl (by omega) (by omega) (bad (ty_mk_len (of_decide_eq_false h1)) _ n)
  · have em : mk_f x S = 1 := by unfold mk_f; rw [ty_f1 hc]; rfl
    rw [em] at he
    exact nd_out hC rfl (by omega) (by omega) (he (by decide) _ n)
theorem cx_reads (hg : nd_OK g) (hd : 2 ≤ d) (hS : sy_ok S) (hs : cw_S h) (hK : cw_K o nap ds gi dss S h) {L t : Nat} {l : List (List Nat)} {q : Nat × List Int64} (hl : ck_lk h L l) (hok : lk_ok (sy_n S) l) (hT : ty_at h (96 + t) (some q)) (hb : ∃ b, h[96 + t]? = some (.inr (nX6, [.ref b]))) (hlen : q.2.length ≤ 30) (hk : K (.inl (some (.int (nd_b (lk_reads (sv_fr (sy_c S)) (sv_bk (sy_c S)) l q.2))))) h) : nd_M g mX1_reads d 0 0 [.ref 0, .ref L, .ref (96 + t)] h K := by
  obtain ⟨⟨x0, hO⟩, -, hkk, -⟩ := id hK
  unfold cx_O at hO
  obtain ⟨sfr, sbk, sfo, smn, hSt, hcv⟩ := id hkk.2.1
  have hn : sy_n S ≤ 6 := hS.1.1.1
  have hsv : sv_ok (sy_n S) (sy_c S) := hS.1.2.1
  have hwd := lk_width hok
  obtain ⟨b, q5⟩ := hb
  obtain ⟨w, hi, co, hL, hw, hcl⟩ := id hl
  subst hw
  refine nd_enter hg (by decide) rfl (Nat.le_of_ble_eq_true rfl) (fun X hC => ?_)
  refine nd_aload_n hC dX1_reads_0 rfl rfl ?_
  refine nd_getN (ci := nX4) hC in_X4 rfl hL.1 2 (by decide) q344 (fun _ z => z) rfl dX1_reads_1 ?_
  refine nd_aload_n hC dX1_reads_4 rfl rfl ?_
  refine nd_callV (mm2 := mX6_size) (As := []) (mc2 := 0) (ms2 := 0) (d2 := d - 1) hC rfl lkX1_340 ⟨rfl, lmX6_size⟩ (q5) rfl (Nat.le_of_ble_eq_true rfl) (by omega) rfl (by exact Nat.le_of_ble_eq_true rfl) (by omega) (by omega) dX1_reads_5 rfl ((ty_size hg hT hlen ?_))
  first | with_reducible refine nd_icmp_eqN hC (tgt := 13) (by omega) (by omega) dX1_reads_8 (by decide) (fun hq => ?_) (fun hq => ?_) | refine nd_icmp_eq hC (tgt := 13) dX1_reads_8 (by decide) (fun hq => ?_) (fun hq => ?_)
  · refine nd_iconst hC (v := nI 0) (by rfl) dX1_reads_13 ?_
    refine nd_istore_n hC dX1_reads_14 (Nat.le_of_ble_eq_true rfl) ?_
    have LL : ∀ k, k ≤ l.length → (∀ i, i < k → q.2.getD i 0 = -1 ∨ q.2.getD i 0 = (lk_mk (sv_fr (sy_c S)) (sv_bk (sy_c S)) (lk_top (l.getD i []))).toInt64) → nd_W g mX1_reads d 0 0 K X 15 [some (.ref 0), some (.ref L), some (.ref (96 + t)), some (.int (nI k))] [] h 0 0 := by
      refine nd_for _ _ ?_ ?_
      · intro hall
        have e : lk_reads (sv_fr (sy_c S)) (sv_bk (sy_c S)) l q.2 = true := by
          unfold lk_reads
          rw [Bool.and_eq_true, decide_eq_true_iff, List.all_eq_true]
          refine ⟨hq, fun i hi => ?_⟩
          rw [Bool.or_eq_true, decide_eq_true_iff, decide_eq_true_iff]
          exact hall i (by rw [hq]; exact List.mem_range.mp hi)
        rw [e] at hk
        refine nd_iload_n hC dX1_reads_15 rfl ?_
        refine nd_aload_n hC dX1_reads_16 rfl rfl ?_
        refine nd_getN (ci := nX4) hC in_X4 rfl hL.1 2 (by decide) q344 (fun _ z => z) rfl dX1_reads_17 ?_
        first | with_reducible refine nd_icmp_geN hC (tgt := 65) (by omega) (by omega) dX1_reads_20 (by decide) (fun hq2 => ?_) (fun hq2 => ?_) | refine nd_icmp_ge hC (tgt := 65) dX1_reads_20 (by decide) (fun hq2 => ?_) (fun hq2 => ?_)
        · refine nd_iconst hC (v := nI 1) (by rfl) dX1_reads_65 ?_
          refine nd_ireturn hC rfl (by first | rfl | exact nd_b_nar _) (by omega) (by omega) dX1_reads_66 (hk)
        · omega
      · intro k hk1 ih hall
        refine nd_iload_n hC dX1_reads_15 rfl ?_
        refine nd_aload_n hC dX1_reads_16 rfl rfl ?_
        refine nd_getN (ci := nX4) hC in_X4 rfl hL.1 2 (by decide) q344 (fun _ z => z) rfl dX1_reads_17 ?_
        first | with_reducible refine nd_icmp_geN hC (tgt := 65) (by omega) (by omega) dX1_reads_20 (by decide) (fun hq2 => ?_) (fun hq2 => ?_) | refine nd_icmp_ge hC (tgt := 65) dX1_reads_20 (by decide) (fun hq2 => ?_) (fun hq2 => ?_)
        · omega
        refine nd_aload_n hC dX1_reads_23 rfl rfl ?_
        refine nd_iload_n hC dX1_reads_24 rfl ?_
        refine nd_callV (mm2 := mX6_at) (As := [_]) (mc2 := 0) (ms2 := 0) (d2 := d - 1) hC rfl lkX1_341 ⟨rfl, lmX6_at⟩ (q5) rfl (Nat.le_of_ble_eq_true rfl) (by omega) rfl (by exact Nat.le_of_ble_eq_true rfl) (by omega) (by omega) dX1_reads_25 rfl ((ty_get hg hT hlen (by omega) ?_))
        refine nd_ldc2 hC q900 dX1_reads_28 ?_
        refine nd_lcmp_eq hC (tgt := 59) dX1_reads_31 dX1_reads_32 (by decide) (fun hq3 => ?_) (fun hq3 => ?_)
        · first | with_reducible refine nd_iincN hC dX1_reads_59 rfl (Nat.le_of_ble_eq_true rfl) ?_ | refine nd_iinc hC dX1_reads_59 rfl rfl (Nat.le_of_ble_eq_true rfl) ?_
          refine nd_goto hC (tgt := 15) dX1_reads_62 (by decide) ?_
          refine ih (fun i hi => ?_)
          by_cases z : i = k
          · subst z; exact Or.inl hq3
          · exact hall i (by omega)
        · refine nd_aload_n hC dX1_reads_35 rfl rfl ?_
          refine nd_iload_n hC dX1_reads_36 rfl ?_
          refine nd_callV (mm2 := mX6_at) (As := [_]) (mc2 := 0) (ms2 := 0) (d2 := d - 1) hC rfl lkX1_341 ⟨rfl, lmX6_at⟩ (q5) rfl (Nat.le_of_ble_eq_true rfl) (by omega) rfl (by exact Nat.le_of_ble_eq_true rfl) (by omega) (by omega) dX1_reads_37 rfl ((ty_get hg hT hlen (by omega) ?_))
          refine nd_aload_n hC dX1_reads_40 rfl rfl ?_
          refine nd_get (ci := nX1) hC in_X1 rfl hO 0 (by decide) q384 (fun _ z => z) rfl dX1_reads_41 ?_
          refine nd_aload_n hC dX1_reads_44 rfl rfl ?_
          refine nd_iload_n hC dX1_reads_45 rfl ?_
          refine nd_callV (mm2 := mX4_above) (As := [_]) (mc2 := 0) (ms2 := 0) (d2 := d - 1) hC rfl lkX1_205 ⟨rfl, lmX4_above⟩ (hL.1) rfl (Nat.le_of_ble_eq_true rfl) (by omega) rfl (by exact Nat.le_of_ble_eq_true rfl) (by omega) (by omega) dX1_reads_46 rfl ((cl_above hg hl hok hn (t := k) hk1 ?_))
          refine nd_callV (mm2 := mX2_mark) (As := [_]) (mc2 := 0) (ms2 := 0) (d2 := d - 1) hC rfl lkX1_208 ⟨rfl, lmX2_mark⟩ (hSt.1) rfl (Nat.le_of_ble_eq_true rfl) (by omega) rfl (by exact Nat.le_of_ble_eq_true rfl) (by omega) (by omega) dX1_reads_49 rfl ((cs_mark hg hkk.2.1 hsv.2.1 hsv.2.2.1 hn (lk_top_half hok hn hk1) ?_))
          refine nd_i2l hC dX1_reads_52 ?_
          refine nd_lcmp_eq hC (tgt := 59) dX1_reads_53 dX1_reads_54 (by decide) (fun hq4 => ?_) (fun hq4 => ?_)
          · first | with_reducible refine nd_iincN hC dX1_reads_59 rfl (Nat.le_of_ble_eq_true rfl) ?_ | refine nd_iinc hC dX1_reads_59 rfl rfl (Nat.le_of_ble_eq_true rfl) ?_
            refine nd_goto hC (tgt := 15) dX1_reads_62 (by decide) ?_
            refine ih (fun i hi => ?_)
            by_cases z : i = k
            · subst z; exact Or.inr hq4
            · exact hall i (by omega)
          · have e : lk_reads (sv_fr (sy_c S)) (sv_bk (sy_c S)) l q.2 = false := by
              cases e : lk_reads (sv_fr (sy_c S)) (sv_bk (sy_c S)) l q.2 with
              | false => rfl
              | true =>
                unfold lk_reads at e
                rw [Bool.and_eq_true, List.all_eq_true] at e
                have e2 := e.2 k (List.mem_range.mpr (by omega))
                rw [Bool.or_eq_true, decide_eq_true_iff, decide_eq_true_iff] at e2
                rcases e2 with z | z
                · exact absurd z hq3
                · exact absurd z hq4
            rw [e] at hk
            refine nd_iconst hC (v := nI 0) (by rfl) dX1_reads_57 ?_
            refine nd_ireturn hC rfl (by first | rfl | exact nd_b_nar _) (by omega) (by omega) dX1_reads_58 (hk)
    exact LL 0 (Nat.zero_le _) (fun i hi => absurd hi (Nat.not_lt_zero _))
  · have e : lk_reads (sv_fr (sy_c S)) (sv_bk (sy_c S)) l q.2 = false := by
      unfold lk_reads
      rw [decide_eq_false hq, Bool.false_and]
    rw [e] at hk
    refine nd_iconst hC (v := nI 0) (by rfl) dX1_reads_11 ?_
    refine nd_ireturn hC rfl (by first | rfl | exact nd_b_nar _) (by omega) (by omega) dX1_reads_12 (hk)
theorem cq_soX30 (hg : nd_OK g) (hd : 3 ≤ d) (hS : sy_ok S) (hs : cw_S h) (hK : cw_K o nap ds gi dss S h) {b L t : Nat} {l : List (List Nat)} {q : Nat × List Int64} {folds : Int32} {x0 x1 x2 x3 x4 x5 x6 : Value} (hb : h[b]? = some (.inr (nX30, [x0, x1, x2, x3, x4, x5, x6, .ref (96 + t), .ref 0]))) (hl : ck_lk h L l) (hok : lk_ok (sy_n S) l) (hT : ty_at h (96 + t) (some q)) (hb2 : ∃ b, h[96 + t]? = some (.inr (nX6, [.ref b]))) (hlen : q.2.length ≤ 30) (hk : K (.inl (some (.int (nd_b (lk_reads (sv_fr (sy_c S)) (sv_bk (sy_c S)) l q.2))))) h) : nd_M g mX30_isSo d 0 0 [.ref b, .ref L, .int folds] h K := by
  obtain ⟨⟨y0, hO⟩, -⟩ := id hK
  unfold cx_O at hO
  refine nd_enter hg (by decide) rfl (Nat.le_of_ble_eq_true rfl) (fun X hC => ?_)
  refine nd_aload_n hC dX30_isSo_0 rfl rfl ?_
  refine nd_get (ci := nX30) hC in_X30 rfl hb 8 (by decide) q2297 (fun _ z => z) rfl dX30_isSo_1 ?_
  refine nd_aload_n hC dX30_isSo_4 rfl rfl ?_
  refine nd_aload_n hC dX30_isSo_5 rfl rfl ?_
  refine nd_get (ci := nX30) hC in_X30 rfl hb 7 (by decide) q2296 (fun _ z => z) rfl dX30_isSo_6 ?_
  refine nd_callVN (mm2 := mX1_reads) (As := [_, _]) (mc2 := 0) (ms2 := 0) (d2 := d - 1) hC rfl q887 q149 q884 q886 qs18 lmX1_reads (hO) rfl (Nat.le_of_ble_eq_true rfl) (by omega) rfl (by exact Nat.le_of_ble_eq_true rfl) (by omega) (by omega) dX30_isSo_9 rfl ((cx_reads hg (by omega) hS hs hK hl hok hT hb2 hlen ?_))
  refine nd_ireturn hC rfl (by first | rfl | exact nd_b_nar _) (by omega) (by omega) dX30_isSo_12 (hk)
end CP50

