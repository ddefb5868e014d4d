set_option maxRecDepth 100000
/-! ===== reads, made, madeBy ===== -/
def cv (v : List Int64) : Nat → Nat
  | 0 => 0
  | k + 1 => 3 * cv v k + (v.getD k 0).toInt.toNat
theorem cv_lt {v : List Int64} : ∀ k, (∀ i, i < k → 0 ≤ (v.getD i 0).toInt ∧ (v.getD i 0).toInt ≤ 2) → cv v k < 3 ^ k := by
  intro k
  induction k with
  | zero => intro _; exact Nat.one_pos
  | succ k ih =>
    intro h
    have h1 := h k (by omega)
    have h2 := ih (fun i hi => h i (by omega))
    show 3 * cv v k + (v.getD k 0).toInt.toNat < 3 ^ (k + 1)
    rw [Nat.pow_succ]
    omega
theorem cv_iff {v : List Int64} {l : List (List Nat)} : ∀ k, (∀ i, i < k → 0 ≤ (v.getD i 0).toInt ∧ (v.getD i 0).toInt ≤ 2) → (lk_crs l k = cv v k ↔ ∀ i, i < k → v.getD i 0 = lN (lk_cr l i)) := by
  intro k
  induction k with
  | zero => intro _; exact ⟨fun _ i hi => absurd hi (Nat.not_lt_zero _), fun _ => rfl⟩
  | succ k ih =>
    intro h
    have h1 := h k (by omega)
    have h2 := ih (fun i hi => h i (by omega))
    have h3 := lk_cr_le l k
    have hv : v.getD k 0 = lN (lk_cr l k) ↔ (v.getD k 0).toInt.toNat = lk_cr l k := by
      constructor
      · intro e
        rw [e, lN_toInt (by omega)]
        omega
      · intro e
        exact lN_of_toInt (by omega) (by omega)
    show 3 * lk_crs l k + lk_cr l k = 3 * cv v k + (v.getD k 0).toInt.toNat ↔ _
    constructor
    · intro e i hi
      by_cases z : i = k
      · subst z; exact hv.mpr (by omega)
      · exact h2.mp (by omega) i (by omega)
    · intro e
      have e1 := h2.mpr (fun i hi => e i (by omega))
      have e2 := hv.mp (e k (by omega))
      omega
theorem md_spec (cond : lv_E → Bool) : ∀ (xs : List lv_E) (s : Nat × Option (List Nat)), (lv_go (se_md cond) s xs).1.1 = s.1 + (xs.filter cond).length ∧ (lv_go (se_md cond) s xs).1.2 = (if s.1 = 0 then (match fd_r cond xs with | none => s.2 | some r => some r) else s.2) := by
  intro xs
  induction xs with
  | nil => intro s; exact ⟨by simp [lv_go], by unfold fd_r lv_go; split <;> rfl⟩
  | cons x xs ih =>
    intro s
    have e0 : lv_go (se_md cond) s (x :: xs) = lv_go (se_md cond) (se_md cond s x).1 xs := by
      show (if (se_md cond s x).2 = true then se_md cond s x else lv_go (se_md cond) (se_md cond s x).1 xs) = _
      rw [if_neg]
      unfold se_md
      split <;> exact Bool.false_ne_true
    rw [e0]
    obtain ⟨q1, q2⟩ := ih (se_md cond s x).1
    by_cases hc : cond x = true
    · have e1 : (se_md cond s x).1 = (s.1 + 1, if s.1 = 0 then some x.1 else s.2) := by unfold se_md; rw [if_pos hc]
      rw [e1] at q1 q2 ⊢
      have ef : fd_r cond (x :: xs) = some x.1 := by
        show (if (se_fd cond none x).2 = true then se_fd cond none x else lv_go (se_fd cond) (se_fd cond none x).1 xs).1 = _
        have e2 : se_fd cond none x = (some x.1, true) := by unfold se_fd; rw [if_pos hc]
        rw [e2, if_pos rfl]
      refine ⟨?_, ?_⟩
      · rw [q1, List.filter_cons_of_pos hc, List.length_cons]
        show s.1 + 1 + _ = _
        omega
      · rw [q2, ef]
        show (if s.1 + 1 = 0 then _ else (if s.1 = 0 then some x.1 else s.2)) = _
        rw [if_neg (by omega)]
    · have e1 : (se_md cond s x).1 = s := by unfold se_md; rw [if_neg hc]
      rw [e1] at q1 q2 ⊢
      have ef : fd_r cond (x :: xs) = fd_r cond xs := by
        show (if (se_fd cond none x).2 = true then se_fd cond none x else lv_go (se_fd cond) (se_fd cond none x).1 xs).1 = _
        have e2 : se_fd cond none x = (none, false) := by unfold se_fd; rw [if_neg hc]
        rw [e2, if_neg (by decide)]
      rw [ef, List.filter_cons_of_neg hc]
      exact ⟨q1, q2⟩
theorem md_n (cond : lv_E → Bool) (xs : List lv_E) : (md_r cond xs).1 = (xs.filter cond).length := by
  unfold md_r
  rw [(md_spec cond xs (0, none)).1, Nat.zero_add]
theorem md_f (cond : lv_E → Bool) (xs : List lv_E) : (md_r cond xs).2 = fd_r cond xs := by
  unfold md_r
  rw [(md_spec cond xs (0, none)).2, if_pos rfl]
  cases fd_r cond xs <;> rfl
theorem fd_congr {c1 c2 : lv_E → Bool} {xs : List lv_E} (h : ∀ x ∈ xs, c1 x = c2 x) : fd_r c1 xs = fd_r c2 xs := by
  exact congrArg (fun z => z.1) (lv_go_congr (see := se_fd c1) (see2 := se_fd c2) xs none (fun x hx s => by unfold se_fd; rw [h x hx]))
section CP51
variable {g : nd_G} {d : Nat} {K : nd_K} {h : nd_H} {o : Nat → Nat} {nap : Nat} {ds : List Nat} {gi : Nat → Value} {dss : Nat → List Nat} {S : sy_S}
theorem cw_K.ty (hK : cw_K o nap ds gi dss S h) {t : Nat} (ht : t < 4) {q : Nat × List Int64} (hq : sy_t S t = some q) : ty_at h (96 + t) (some q) ∧ ∃ b, h[96 + t]? = some (.inr (nX6, [.ref b])) := by
  have M := hK.2.2.2.2.2.2.2.1 t ht
  rw [hq] at M
  obtain ⟨b, b1, b2, b3, b4⟩ := id M
  exact ⟨M.at, b, b3⟩
/-- a tray of creases told apart by one number -/
theorem made_iff {v : List Int64} {n : Nat} {l : List (List Nat)} (hn : n ≤ 6) (hc : ty_cr n v = true) : lk_made l v = decide (nI (lk_crs l (n - 1)) = nI (cv v v.length)) := by
  unfold ty_cr at hc
  rw [Bool.and_eq_true, decide_eq_true_iff, List.all_eq_true] at hc
  obtain ⟨h1, h2⟩ := hc
  have h3 : ∀ i, i < v.length → 0 ≤ (v.getD i 0).toInt ∧ (v.getD i 0).toInt ≤ 2 := fun i hi => of_decide_eq_true (h2 i (List.mem_range.mpr hi))
  have b1 := crs_lt l (n - 1)
  have b2 := cv_lt v.length h3
  have b3 : 3 ^ (n - 1) ≤ 3 ^ 5 := Nat.pow_le_pow_right (by decide) (by omega)
  rw [h1] at b2
  have b4 : 3 ^ 5 = 243 := by decide
  rw [Bool.eq_iff_iff, decide_eq_true_iff, nI_eq (by omega) (by rw [h1]; omega), ← h1, cv_iff v.length h3]
  unfold lk_made
  rw [List.all_eq_true]
  exact ⟨fun q i hi => of_decide_eq_true (q i (List.mem_range.mpr hi)), fun q i hi => decide_eq_true (q i (List.mem_range.mp hi))⟩
theorem cx_creasesOf (hg : nd_OK g) (hd : 3 ≤ d) (hS : sy_ok S) (hs : cw_S h) (hK : cw_K o nap ds gi dss S h) {x : Int32} (hk : cr_f x S = 0 → ty_cr (sy_n S) (ty_v x S) = true → K (.inl (some (.int (nI (cv (ty_v x S) (ty_v x S).length))))) h) (he : cr_f x S ≠ 0 → ∀ k n, K (.inr (ex3 eNSE eISE eIAE (cr_f x S), k)) (h ++ List.replicate (n + 1) nd_J)) : nd_M g mX1_creasesOf d 5 30 [.ref 0, .int x] h K := by
  have hn : sy_n S ≤ 6 := hS.1.1.1
  obtain ⟨⟨x0, hO⟩, -⟩ := id hK
  unfold cx_O at hO
  refine nd_enterL hg (by decide) rfl (Nat.le_of_ble_eq_true rfl) (fun X hC hX => ?_)
  refine nd_aload_n hC dX1_creasesOf_0 rfl rfl ?_
  refine nd_iload_n hC dX1_creasesOf_1 rfl ?_
  refine nd_callV (mm2 := mX1_trayOf) (As := [_]) (mc2 := 1) (ms2 := 6) (d2 := d - 1) hC rfl lkX1_332 ⟨rfl, lmX1_trayOf⟩ (hO) rfl (Nat.le_of_ble_eq_true rfl) (by omega) rfl (by exact Nat.le_of_ble_eq_true rfl) (by omega) (by omega) dX1_creasesOf_2 rfl ((cx_trayOf hg (by omega) hK (fun hc t ht hx => ?_) (fun hc n => ?_)))
  · rcases ty_cases hK hc ht hx with ⟨q1, q2⟩ | ⟨q, b, q1, q2, q3, q4, q5, q6⟩
    · have em : cr_f x S = 2 := by unfold cr_f; rw [q1]; rfl
      rw [em] at he
      refine nd_astore_n hC dX1_creasesOf_5 (Nat.le_of_ble_eq_true rfl) rfl ?_
      refine nd_aload_n hC dX1_creasesOf_6 rfl rfl ?_
      refine nd_callS (mm2 := mX1_mustBe) (As := [_]) (mc2 := 1) (ms2 := 6) (d2 := d - 1) hC rfl lkX1_336 lmX1_mustBe (Nat.le_of_ble_eq_true rfl) (by omega) rfl (by exact Nat.le_of_ble_eq_true rfl) (by omega) (by omega) dX1_creasesOf_7 rfl ((cx_mustBeN hg (by omega) q2 (fun n => ?_)))
      exact nd_out hC rfl (by omega) (by omega) (he (by decide) _ n)
    · have hlen : q.2.length ≤ 30 := (hS.2.2.1 t ht q q4).2
      have em : cr_f x S = if ty_cr (sy_n S) q.2 = true then 0 else 3 := by unfold cr_f; rw [q1, q2, if_pos rfl]
      rw [q2] at hk
      have bad : ty_cr (sy_n S) q.2 = false → ∀ k n, K (.inr (eIAE, k)) (h ++ List.replicate (n + 1) nd_J) := by
        intro z k n
        rw [em, if_neg (by rw [z]; decide)] at he
        exact he (by decide) k n
      refine nd_astore_n hC dX1_creasesOf_5 (Nat.le_of_ble_eq_true rfl) rfl ?_
      refine nd_aload_n hC dX1_creasesOf_6 rfl rfl ?_
      refine nd_callS (mm2 := mX1_mustBe) (As := [_]) (mc2 := 1) (ms2 := 6) (d2 := d - 1) hC rfl lkX1_336 lmX1_mustBe (Nat.le_of_ble_eq_true rfl) (by omega) rfl (by exact Nat.le_of_ble_eq_true rfl) (by omega) (by omega) dX1_creasesOf_7 rfl ((cx_mustBeR hg (by omega) q5 ?_))
      refine nd_tight0 hX ?_
      refine nd_aload_n hC dX1_creasesOf_10 rfl rfl ?_
      refine nd_callV (mm2 := mX6_size) (As := []) (mc2 := 0) (ms2 := 0) (d2 := d - 1) hC rfl lkX1_340 ⟨rfl, lmX6_size⟩ (q5) rfl (Nat.le_of_ble_eq_true rfl) (by omega) rfl (by exact Nat.le_of_ble_eq_true rfl) (by omega) (by omega) dX1_creasesOf_11 rfl ((ty_size hg q6 hlen ?_))
      refine nd_iconst hC (v := nI 0) (by rfl) dX1_creasesOf_14 ?_
      refine nd_aload_n hC dX1_creasesOf_15 rfl rfl ?_
      refine nd_callV (mm2 := mX1_cells) (As := []) (mc2 := 0) (ms2 := 0) (d2 := d - 1) hC rfl lkX1_214 ⟨rfl, lmX1_cells⟩ (hO) rfl (Nat.le_of_ble_eq_true rfl) (by omega) rfl (by exact Nat.le_of_ble_eq_true rfl) (by omega) (by omega) dX1_creasesOf_16 rfl ((cx_cells hg (by omega) (hK.P hs) ?_))
      have J24 : nd_W g mX1_creasesOf d 5 30 K X 24 [some (.ref 0), some (.int x), some (.ref (96 + t)), none, none] [.int (nI (sy_n S - 1)), .int (nI q.2.length)] h 0 0 := by
        first | with_reducible refine nd_icmp_neN hC (tgt := 31) (by omega) (by omega) dX1_creasesOf_24 (by decide) (fun hq => ?_) (fun hq => ?_) | refine nd_icmp_ne hC (tgt := 31) dX1_creasesOf_24 (by decide) (fun hq => ?_) (fun hq => ?_)
        · refine nd_iconst hC (v := nI 0) (by rfl) dX1_creasesOf_31 ?_
          refine nd_callS (mm2 := mX1_needs) (As := [_]) (mc2 := 1) (ms2 := 6) (d2 := d - 1) hC rfl lkX1_110 lmX1_needs (Nat.le_of_ble_eq_true rfl) (by omega) rfl (by exact Nat.le_of_ble_eq_true rfl) (by omega) (by omega) dX1_creasesOf_32 rfl ((ci_needs (b := false) hg (fun z => by cases z) (fun _ n => ?_)))
          exact nd_out hC rfl (by omega) (by omega) (bad (by unfold ty_cr; rw [decide_eq_false hq, Bool.false_and]) _ n)
        · refine nd_iconst hC (v := nI 1) (by rfl) dX1_creasesOf_27 ?_
          refine nd_goto hC (tgt := 32) dX1_creasesOf_28 (by decide) ?_
          refine nd_callS (mm2 := mX1_needs) (As := [_]) (mc2 := 1) (ms2 := 6) (d2 := d - 1) hC rfl lkX1_110 lmX1_needs (Nat.le_of_ble_eq_true rfl) (by omega) rfl (by exact Nat.le_of_ble_eq_true rfl) (by omega) (by omega) dX1_creasesOf_32 rfl ((ci_needs (b := true) hg (fun _ => ?_) (fun z => by cases z)))
          refine nd_tight0 hX ?_
          refine nd_iconst hC (v := nI 0) (by rfl) dX1_creasesOf_35 ?_
          refine nd_istore_n hC dX1_creasesOf_36 (Nat.le_of_ble_eq_true rfl) ?_
          refine nd_iconst hC (v := nI 0) (by rfl) dX1_creasesOf_37 ?_
          refine nd_istore hC dX1_creasesOf_38 (Nat.le_of_ble_eq_true rfl) ?_
          have L : ∀ k, k ≤ q.2.length → (∀ i, i < k → 0 ≤ (q.2.getD i 0).toInt ∧ (q.2.getD i 0).toInt ≤ 2) → nd_W g mX1_creasesOf d 5 30 K X 40 [some (.ref 0), some (.int x), some (.ref (96 + t)), some (.int (nI (cv q.2 k))), some (.int (nI k))] [] h 0 0 := by
            refine nd_for _ _ ?_ ?_
            · intro hall
              have ok : ty_cr (sy_n S) q.2 = true := by
                unfold ty_cr
                rw [Bool.and_eq_true, decide_eq_true_iff, List.all_eq_true]
                exact ⟨hq, fun i hi => decide_eq_true (hall i (List.mem_range.mp hi))⟩
              have R := hk (by rw [em, if_pos ok]) ok
              refine nd_iload hC dX1_creasesOf_40 rfl ?_
              refine nd_aload_n hC dX1_creasesOf_42 rfl rfl ?_
              refine nd_callV (mm2 := mX6_size) (As := []) (mc2 := 0) (ms2 := 0) (d2 := d - 1) hC rfl lkX1_340 ⟨rfl, lmX6_size⟩ (q5) rfl (Nat.le_of_ble_eq_true rfl) (by omega) rfl (by exact Nat.le_of_ble_eq_true rfl) (by omega) (by omega) dX1_creasesOf_43 rfl ((ty_size hg q6 hlen ?_))
              first | with_reducible refine nd_icmp_geN hC (tgt := 83) (by omega) (by omega) dX1_creasesOf_46 (by decide) (fun hq2 => ?_) (fun hq2 => ?_) | refine nd_icmp_ge hC (tgt := 83) dX1_creasesOf_46 (by decide) (fun hq2 => ?_) (fun hq2 => ?_)
              · refine nd_iload_n hC dX1_creasesOf_83 rfl ?_
                refine nd_ireturn hC rfl (by first | rfl | exact nd_b_nar _) (by omega) (by omega) dX1_creasesOf_84 (R)
              · omega
            · intro k hk1 ih hall
              refine nd_iload hC dX1_creasesOf_40 rfl ?_
              refine nd_aload_n hC dX1_creasesOf_42 rfl rfl ?_
              refine nd_callV (mm2 := mX6_size) (As := []) (mc2 := 0) (ms2 := 0) (d2 := d - 1) hC rfl lkX1_340 ⟨rfl, lmX6_size⟩ (q5) rfl (Nat.le_of_ble_eq_true rfl) (by omega) rfl (by exact Nat.le_of_ble_eq_true rfl) (by omega) (by omega) dX1_creasesOf_43 rfl ((ty_size hg q6 hlen ?_))
              first | with_reducible refine nd_icmp_geN hC (tgt := 83) (by omega) (by omega) dX1_creasesOf_46 (by decide) (fun hq2 => ?_) (fun hq2 => ?_) | refine nd_icmp_ge hC (tgt := 83) dX1_creasesOf_46 (by decide) (fun hq2 => ?_) (fun hq2 => ?_)
              · omega
              refine nd_aload_n hC dX1_creasesOf_49 rfl rfl ?_
              refine nd_iload hC dX1_creasesOf_50 rfl ?_
              refine nd_callV (mm2 := mX6_at) (As := [_]) (mc2 := 0) (ms2 := 0) (d2 := d - 1) hC rfl lkX1_341 ⟨rfl, lmX6_at⟩ (q5) rfl (Nat.le_of_ble_eq_true rfl) (by omega) rfl (by exact Nat.le_of_ble_eq_true rfl) (by omega) (by omega) dX1_creasesOf_52 rfl ((ty_get hg q6 hlen hk1 ?_))
              refine nd_lconst hC (v := lN 0) (by rfl) dX1_creasesOf_55 ?_
              refine nd_ldc2 hC q2359 dX1_creasesOf_56 ?_
              refine nd_v_eq (y := .long (lN 2)) (by rfl) ?_
              refine nd_callS (mm2 := mX1_isIn) (As := [_, _, _]) (mc2 := 0) (ms2 := 0) (d2 := d - 1) hC rfl lkX1_106 lmX1_isIn (Nat.le_of_ble_eq_true rfl) (by omega) rfl (by exact Nat.le_of_ble_eq_true rfl) (by omega) (by omega) dX1_creasesOf_59 rfl ((ci_isIn hg ?_))
              have e1 : (decide (lN 0 ≤ q.2.getD k 0) && decide (q.2.getD k 0 ≤ lN 2)) = decide (0 ≤ (q.2.getD k 0).toInt ∧ (q.2.getD k 0).toInt ≤ 2) := by
                rw [Bool.eq_iff_iff, Bool.and_eq_true, nd_lle, nd_lle, lN_toInt (by decide), lN_toInt (by decide), decide_eq_true_iff]
                omega
              rw [e1]
              refine nd_callS (mm2 := mX1_needs) (As := [_]) (mc2 := 1) (ms2 := 6) (d2 := d - 1) hC rfl lkX1_110 lmX1_needs (Nat.le_of_ble_eq_true rfl) (by omega) rfl (by exact Nat.le_of_ble_eq_true rfl) (by omega) (by omega) dX1_creasesOf_62 rfl ((ci_needs hg (fun h1 => ?_) (fun h1 n => ?_)))
              · rw [decide_eq_true_iff] at h1
                have ev : q.2.getD k 0 = lN (q.2.getD k 0).toInt.toNat := lN_of_toInt (by omega) (by omega)
                refine nd_tight0 hX ?_
                refine nd_iconst hC (v := nI 3) (by rfl) dX1_creasesOf_65 ?_
                refine nd_iload_n hC dX1_creasesOf_66 rfl ?_
                first | with_reducible refine nd_imulN hC dX1_creasesOf_67 ?_ | refine nd_imul hC dX1_creasesOf_67 ?_
                refine nd_aload_n hC dX1_creasesOf_68 rfl rfl ?_
                refine nd_iload hC dX1_creasesOf_69 rfl ?_
                refine nd_callV (mm2 := mX6_at) (As := [_]) (mc2 := 0) (ms2 := 0) (d2 := d - 1) hC rfl lkX1_341 ⟨rfl, lmX6_at⟩ (q5) rfl (Nat.le_of_ble_eq_true rfl) (by omega) rfl (by exact Nat.le_of_ble_eq_true rfl) (by omega) (by omega) dX1_creasesOf_71 rfl ((ty_get hg q6 hlen hk1 ?_))
                rw [ev]
                refine nd_l2iN hC dX1_creasesOf_74 ?_
                first | with_reducible refine nd_iaddN hC dX1_creasesOf_75 ?_ | refine nd_iadd hC dX1_creasesOf_75 ?_
                refine nd_istore_n hC dX1_creasesOf_76 (Nat.le_of_ble_eq_true rfl) ?_
                first | with_reducible refine nd_iincN hC dX1_creasesOf_77 rfl (Nat.le_of_ble_eq_true rfl) ?_ | refine nd_iinc hC dX1_creasesOf_77 rfl rfl (Nat.le_of_ble_eq_true rfl) ?_
                refine nd_goto hC (tgt := 40) dX1_creasesOf_80 (by decide) ?_
                exact ih (fun i hi => by
                  by_cases z : i = k
                  · subst z; exact h1
                  · exact hall i (by omega))
              · refine nd_out hC rfl (by omega) (by omega) (bad ?_ _ n)
                cases e : ty_cr (sy_n S) q.2 with
                | false => rfl
                | true =>
                  unfold ty_cr at e
                  rw [Bool.and_eq_true, List.all_eq_true] at e
                  exact absurd (of_decide_eq_true (e.2 k (List.mem_range.mpr hk1))) (of_decide_eq_false h1)
          exact L 0 (Nat.zero_le _) (fun i hi => absurd hi (Nat.not_lt_zero _))
      rcases Nat.eq_zero_or_pos (sy_n S) with z | z
      · rw [z] at J24
        rw [show nk_n (sy_N S) = 0 from z]
        refine nd_iconst hC (v := nI 1) (by rfl) dX1_creasesOf_19 ?_
        refine nd_isub hC dX1_creasesOf_20 ?_
        refine nd_mmax hC q1056 (by omega) (by omega) (by exact Nat.le_of_ble_eq_true rfl) dX1_creasesOf_21 ?_
        exact J24
      · rw [show nk_n (sy_N S) = sy_n S from rfl]
        refine nd_iconst hC (v := nI 1) (by rfl) dX1_creasesOf_19 ?_
        first | with_reducible refine nd_isubN hC (by omega) dX1_creasesOf_20 ?_ | refine nd_isub hC dX1_creasesOf_20 ?_
        first | ((with_reducible refine nd_tst2 ?_); refine nd_mmaxN hC (by omega) (by omega) q1056 (by omega) (by omega) (by exact Nat.le_of_ble_eq_true rfl) dX1_creasesOf_21 ?_) | refine nd_mmax hC q1056 (by omega) (by omega) (by exact Nat.le_of_ble_eq_true rfl) dX1_creasesOf_21 ?_
        rw [show max 0 (sy_n S - 1) = sy_n S - 1 from by omega]
        exact J24
  · have em : cr_f x S = 1 := by unfold cr_f; rw [ty_f1 hc]; rfl
    rw [em] at he
    exact nd_out hC rfl (by omega) (by omega) (he (by decide) _ n)
theorem cp_reads_2 (hg : nd_OK g) (hd : 940 ≤ d) (x y : Int32) : cp_ok g mX1_reads_2 d 12 80 [.int x, .int y] (ex3 eNSE eISE eIAE) (mp_i (op_reads x y)) := by
  intro S h K hS hI hl123 hk0 hk1
  obtain ⟨hs, o, nap, ds, gi, dss, hK⟩ := hI
  obtain ⟨⟨x0, hO⟩, h17, hkk, -⟩ := id hK
  unfold cx_O at hO
  have hok := sy_l_ok hS
  have hwd := lk_width hok
  have hn : sy_n S ≤ 6 := hS.1.1.1
  have h5 := sy_len5 hS
  obtain ⟨sfr, sbk, sfo, smn, hSt, hcv⟩ := id hkk.2.1
  obtain ⟨hSt1, hSt2, hSt3, hSt4⟩ := id hSt
  have hcv : cs_v sfr sbk sfo smn (sy_c S) := hcv
  have hsv : sv_ok (sy_n S) (sy_c S) := hS.1.2.1
  unfold mp_i op_reads at hk0 hk1
  refine nd_enter hg (by decide) rfl (Nat.le_of_ble_eq_true rfl) (fun X hC => ?_)
  refine nd_aload_n hC dX1_reads_2_0 rfl rfl ?_
  refine nd_iload_n hC dX1_reads_2_1 rfl ?_
  refine nd_callV (mm2 := mX1_marksOf) (As := [_]) (mc2 := 5) (ms2 := 30) (d2 := d - 1) hC rfl lkX1_430 ⟨rfl, lmX1_marksOf⟩ (hO) rfl (Nat.le_of_ble_eq_true rfl) (by omega) rfl (by exact Nat.le_of_ble_eq_true rfl) (by omega) (by omega) dX1_reads_2_2 rfl ((cx_marksOf hg (by omega) hS hK (fun hm t tq ht hq4 hx hv9 hT hbT => ?_) (fun hne k n => ?_)))
  · rw [if_pos hm, hv9] at hk0 hk1
    have hlen : tq.2.length ≤ 30 := (hS.2.2.1 t ht tq hq4).2
    refine nd_astore_n hC dX1_reads_2_5 (Nat.le_of_ble_eq_true rfl) rfl ?_
    refine nd_iload_n hC dX1_reads_2_6 rfl ?_
    refine nd_callS (mm2 := mX1_mustTell) (As := [_]) (mc2 := 1) (ms2 := 6) (d2 := d - 1) hC rfl lkX1_394 lmX1_mustTell (Nat.le_of_ble_eq_true rfl) (by omega) rfl (by exact Nat.le_of_ble_eq_true rfl) (by omega) (by omega) dX1_reads_2_7 rfl ((cx_mustTell hg (by omega) (fun hc => ?_) (fun hc n => ?_)))
    · rw [if_pos hc] at hk0
      refine nd_new (ci := nX30) hC [.null, .int 0, .long 0, .null, .null, .null, .null, .null, .null] in_X30 rfl tyX30 tyX30_ok q2290 q2291 q206 rfl rfl (by omega) (by omega) dX1_reads_2_10 ?_
      refine nd_dup hC (by rfl) dX1_reads_2_13 ?_
      refine nd_aload_n hC dX1_reads_2_14 rfl rfl ?_
      refine nd_aload_n hC dX1_reads_2_15 rfl rfl ?_
      refine nd_callI (mm2 := mX30_init) (As := [_, _]) (mc2 := 2) (ms2 := 10) (d2 := d - 1) hC rfl rfl q2294 q206 q2292 q2293 rfl lmX30_init (Nat.le_of_ble_eq_true rfl) (by omega) rfl (by exact Nat.le_of_ble_eq_true rfl) (by omega) (by omega) dX1_reads_2_16 rfl ((ni_X30 hg (by omega) (List.getElem?_concat_length ..) ?_))
      rw [show (h ++ [(.inr (nX30, [.null, .int 0, .long 0, .null, .null, .null, .null, .null, .null]) : nd_C)]).length = h.length + 1 by simp]
      generalize hh1 : ((h ++ [(.inr (nX30, [.null, .int 0, .long 0, .null, .null, .null, .null, .null, .null]) : nd_C)]).set h.length (.inr (nX30, [.ref (h.length + 1 + 1), .int (-1), .long be_min, .ref 0, .ref (h.length + 1), .ref 0, .ref 0, .ref (96 + t), .ref 0])) ++ [.inl (0, 5, .inl (fun _ => 0))]) ++ [.inl (0, 5, .inl (fun _ => 0))] = h1
      have e1 : h1[h.length]? = some (.inr (nX30, [.ref (h.length + 2), .int (-1), .long be_min, .ref 0, .ref (h.length + 1), .ref 0, .ref 0, .ref (96 + t), .ref 0])) := by
        rw [← hh1, List.getElem?_append_left (by simp)]; exact l_get_app (by simp)
      have e2 : h1[h.length + 1]? = some (.inl (0, 5, .inl (fun _ => 0))) := by
        rw [← hh1, List.getElem?_append_left (by simp), List.getElem?_append_right (by simp)]; simp
      have e3 : h1[h.length + 2]? = some (.inl (0, 5, .inl (fun _ => 0))) := by
        rw [← hh1, List.getElem?_append_right (by simp)]; simp
      have f1 : cw_f h h1 := by
        rw [← hh1]
        exact cw_f.app (cw_f.app (cw_f.set (cw_f.app cw_f.rfl) (Or.inl (Nat.le_refl _))))
      have hs1 : cw_S h1 := by
        rw [← hh1]
        exact cw_S.app (cw_S.app (cw_S.set hs.app (by omega)))
      refine nd_astore hC dX1_reads_2_19 (Nat.le_of_ble_eq_true rfl) rfl ?_
      refine nd_aload hC dX1_reads_2_21 rfl rfl ?_
      refine nd_iconst hC (v := nI 0) (by rfl) dX1_reads_2_23 ?_
      refine nd_iconst hC (v := nI 5) (by rfl) dX1_reads_2_24 ?_
      refine nd_callU (mm2 := mX20_seeks) (As := [_, _]) (mc2 := 0) (ms2 := 0) (d2 := d - 1) (owner := "NapkinDeeds$Rows") (x := ⟨"NapkinDeeds$Fewest", "seeks", "(ZI)LNapkinDeeds$Rows;"⟩) (n := 2) hC rfl (va_cwU 2 hC.hts (lw_U q2214 q2215 q2218 q812 q190 q813) rfl rfl rfl rfl ⟨by decide, by decide, by decide +kernel⟩ (nd_roomR (by omega) (by decide))) (e1) rfl (Nat.le_of_ble_eq_true rfl) (by omega) rfl (by exact Nat.le_of_ble_eq_true rfl) (by omega) (by omega) dX1_reads_2_25 rfl ((cw_seek (fl := false) (most := 5) (d0 := 920) (b := h.length) (rb := h.length + 1) (ci := nX30) (σ := Option (Int64 × List Nat)) (s0 := none) (see := bs_see (fw_val (sy_reads S tq.2))) (Bd := fun _ => True) (Ob := fun s h2 => ∃ fw mo bf, h2[h.length]? = some (.inr (nX30, [.ref (h.length + 2), .int fw, .long mo, .ref 0, .ref (h.length + 1), .ref 0, .ref 0, .ref (96 + t), .ref 0])) ∧ (∃ f, h2[h.length + 1]? = some (.inl (0, 5, .inl f))) ∧ h2[h.length + 2]? = some (.inl (0, 5, .inl bf)) ∧ be_st s fw mo bf) hg (by omega) (by omega) (Nat.le_refl 5) hS hK hl123 hs1 f1 (by omega) (by omega) ?_ ?_ ?_ ⟨_, _, _, e1, ⟨_, e2⟩, e3, rfl, rfl⟩ ?_ (fun h2 H hs2 f2 hl2 => ?_)))
      · intro s h2 H
        obtain ⟨fw, mo, bf, H1, H2, -⟩ := H
        exact ⟨⟨4, _, Or.inr (Or.inr (Or.inr (Or.inr (Or.inr (Or.inr (Or.inr (Or.inr (Or.inl ⟨rfl, rfl⟩)))))))), H1, rfl, rfl⟩, H2⟩
      · intro s h2 h3 H hl hf hr
        obtain ⟨fw, mo, bf, H1, H2, H3, H4⟩ := H
        exact ⟨fw, mo, bf, (hf _ (by omega) (by omega)).trans H1, hr, (hf _ (by omega) (by omega)).trans H3, H4⟩
      · intro d2 hd2 s r l h2 K2 hB H hs2 f2 hl hokl hrw hr5 kk
        obtain ⟨fw, mo, bf, H1, -, H3, H4⟩ := H
        obtain ⟨rf, H2, hrf⟩ := hrw
        have hK2 := hK.f f2
        have hfq : ∀ h3, ck_fr 94 1 h2 h3 → cw_f h h3 := fun h3 q => f2.trans (q.cwf (fun a a1 a2 => by unfold cw_sc; omega))
        have keep : ∀ h3, ck_fr 94 1 h2 h3 → cw_S h3 → bs_see (fw_val (sy_reads S tq.2)) s (r, l) = s → K2 (.inl none) h3 := by
          intro h3 q1 q2 es
          refine kk h3 ?_ q2 (hfq h3 q1) q1.1 (fun a ha => q1.2 a (by omega))
          rw [es]
          exact ⟨fw, mo, bf, (q1.2 _ (by omega)).trans H1, ⟨rf, (q1.2 _ (by omega)).trans H2⟩, (q1.2 _ (by omega)).trans H3, H4⟩
        have take : ∀ h3 v, ck_fr 94 1 h2 h3 → cw_S h3 → v ≠ be_min → bs_see (fw_val (sy_reads S tq.2)) s (r, l) = some (v, r) → K2 (.inl none) ((h3.set (h.length) (.inr (nX30, [.ref (h.length + 2), .int (nI r.length), .long v, .ref 0, .ref (h.length + 1), .ref 0, .ref 0, .ref (96 + t), .ref 0]))).set (h.length + 2) (.inl (0, 5, .inl (va_cpy rf bf 0 0 5)))) := by
          intro h3 v q1 q2 hv es
          have l1 : h.length < h3.length := by rw [q1.1]; exact nd_get_lt H1
          have l3 : h.length + 2 < h3.length := by rw [q1.1]; exact nd_get_lt H3
          refine kk _ ?_ ((q2.set (by omega)).set (by omega)) (((hfq h3 q1).set (Or.inl (by omega))).set (Or.inl (by omega))) (by rw [List.length_set, List.length_set]; exact q1.1) (fun a ha => by rw [List.getElem?_set_ne (by omega), List.getElem?_set_ne (by omega)]; exact q1.2 a (by omega))
          rw [es]
          refine ⟨nI r.length, v, va_cpy rf bf 0 0 5, ?_, ⟨rf, ?_⟩, List.getElem?_set_self (by rw [List.length_set]; exact l3), rfl, rfl, hv, be_rw hrf hr5, hr5⟩
          · rw [List.getElem?_set_ne (by omega)]; exact List.getElem?_set_self l1
          · rw [List.getElem?_set_ne (by omega), List.getElem?_set_ne (by omega)]; exact (q1.2 _ (by omega)).trans H2
        have hE : ∀ h3, ck_fr 94 1 h2 h3 → cw_S h3 → ∀ d3 K3, d2 ≤ d3 + 3 → (∀ h4, (ck_fr 94 1 h2 h4 ∧ cw_S h4) → K3 (.inl (some (.int (nd_b ((sy_reads S tq.2) (r, l)))))) h4) → nd_M g mX30_isSo d3 0 0 [.ref (h.length), .ref (18 + 9 * r.length), .int (nI (cr_fo (sy_c S) false + r.length))] h3 K3 := by
          intro h3 q1 q2 d3 K3 hd3 kq
          have hK3 := hK.f (hfq h3 q1)
          have hl3 := hl.fr q1 (by omega)
          have H13 := (q1.2 _ (by omega)).trans H1
          obtain ⟨hT3, hb3⟩ := hK3.ty ht hq4
          exact cq_soX30 hg (by omega) hS q2 hK3 H13 hl3 hokl hT3 hb3 hlen (kq h3 ⟨q1, q2⟩)
        refine Or.inr (Or.inr (Or.inl ⟨nX30, _, Or.inr (Or.inl rfl), H1, cf_seesX30 (Q := fun h3 => ck_fr 94 1 h2 h3 ∧ cw_S h3) (v := (sy_reads S tq.2) (r, l)) hg (by omega) H1 (fun K3 kq => hE h2 ck_fr.rfl hs2 (d2 - 1) K3 (by omega) kq) (fun h3 q => q.1.2 _ (by omega)) (fun hv h3 q => keep h3 q.1 q.2 (by unfold bs_see fw_val; rw [if_neg (by rw [hv]; decide)])) (fun hv h3 K3 q kq => ?_)⟩))
        have hvx : (fw_val (sy_reads S tq.2)) (r, l) = some (lN 1) := by unfold fw_val; rw [if_pos hv]
        have B := be_iff H4 hvx lN1_ne hr5
        refine cb_seesX30 (Q := fun h4 => ck_fr 94 1 h2 h4 ∧ cw_S h4) (v := lN 1) (f := rf) (bf := bf) hg (by omega) ((q.1.2 _ (by omega)).trans H1) ⟨by omega, by omega⟩ (fun K4 kq4 => ?_) (fun h4 q4 => ?_) (fun hno h4 q4 => kq h4 (keep h4 q4.1 q4.2 (B.1 hno))) (fun hno h4 q4 => kq _ (take h4 (lN 1) q4.1 q4.2 lN1_ne (B.2 hno)))
        · refine cf_valueX30 (Q := fun h4 => ck_fr 94 1 h2 h4 ∧ cw_S h4) (v := true) hg (by omega) ((q.1.2 _ (by omega)).trans H1) (fun K5 kq5 => ?_) (fun h4 q4 => kq4 h4 q4)
          have M := hE h3 q.1 q.2 (d2 - 1 - 1 - 1) K5 (by omega)
          rw [hv] at M
          exact M kq5
        · exact ⟨(q4.1.2 _ (by omega)).trans (q.1.2 _ (by omega)).symm, (q4.1.2 _ (by omega)).trans H2, (q4.1.2 _ (by omega)).trans H3⟩
      · exact df_B_T _ _ _
      · obtain ⟨fw, mo, bf, H1, H2, H3, H4⟩ := H
        have hK2 := hK.f f2
        rw [fd_eq] at H4
        obtain ⟨o1, o2, o3⟩ := be_op H4 hc
        refine nd_pop hC (by rfl) dX1_reads_2_28 ?_
        refine nd_aload hC dX1_reads_2_29 rfl rfl ?_
        refine nd_iload_n hC dX1_reads_2_31 rfl ?_
        rw [o3]
        refine nd_callU (mm2 := mX26_tells) (As := [_]) (mc2 := 0) (ms2 := 0) (d2 := d - 1) (owner := "NapkinDeeds$Fewest") (x := ⟨"NapkinDeeds$Fewest", "tells", "(I)I"⟩) (n := 1) hC rfl (va_cwU 1 hC.hts (lw_U q2220 q2222 q2225 q2221 q202 q2227) rfl rfl rfl rfl ⟨by decide, by decide, by decide +kernel⟩ (nd_roomR (by omega) (by decide))) (H1) rfl (Nat.le_of_ble_eq_true rfl) (by omega) rfl (by exact Nat.le_of_ble_eq_true rfl) (by omega) (by omega) dX1_reads_2_32 rfl ((be_tellsX30 hg (by omega) o2 H1 H3 ?_))
        rw [o1]
        refine nd_ireturn hC rfl (by first | rfl | exact nd_b_nar _) (by omega) (by omega) dX1_reads_2_35 ((hk0 rfl h2 ⟨hs2, o, nap, ds, gi, dss, hK2⟩ (f2.fr hl123)))
    · rw [if_neg (by rw [hc]; decide)] at hk1
      exact nd_out hC rfl (by omega) (by omega) (hk1 (Nat.succ_ne_zero _) _ _ ⟨hs.app, o, nap, ds, gi, dss, hK.f cw_f.rfl.app⟩ (cw_f.rfl.app.fr hl123))
  · rw [if_neg hne] at hk1
    exact nd_out hC rfl (by omega) (by omega) (hk1 hne _ _ ⟨hs.app, o, nap, ds, gi, dss, hK.f cw_f.rfl.app⟩ (cw_f.rfl.app.fr hl123))
theorem cp_made (hg : nd_OK g) (hd : 30 ≤ d) (x : Int32) : cp_ok g mX1_made d 12 80 [.int x] (ex3 eNSE eISE eIAE) (mp_i (op_made x)) := by
  intro S h K hS hI hl123 hk0 hk1
  obtain ⟨hs, o, nap, ds, gi, dss, hK⟩ := hI
  obtain ⟨⟨x0, hO⟩, h17, hkk, -⟩ := id hK
  unfold cx_O at hO
  have hok := sy_l_ok hS
  have hwd := lk_width hok
  have hn : sy_n S ≤ 6 := hS.1.1.1
  have h5 := sy_len5 hS
  obtain ⟨sfr, sbk, sfo, smn, hSt, hcv⟩ := id hkk.2.1
  obtain ⟨hSt1, hSt2, hSt3, hSt4⟩ := id hSt
  have hcv : cs_v sfr sbk sfo smn (sy_c S) := hcv
  have hsv : sv_ok (sy_n S) (sy_c S) := hS.1.2.1
  unfold mp_i op_made at hk0 hk1
  refine nd_enter hg (by decide) rfl (Nat.le_of_ble_eq_true rfl) (fun X hC => ?_)
  refine nd_aload_n hC dX1_made_0 rfl rfl ?_
  refine nd_iload_n hC dX1_made_1 rfl ?_
  refine nd_callV (mm2 := mX1_creasesOf) (As := [_]) (mc2 := 5) (ms2 := 30) (d2 := d - 1) hC rfl lkX1_472 ⟨rfl, lmX1_creasesOf⟩ (hO) rfl (Nat.le_of_ble_eq_true rfl) (by omega) rfl (by exact Nat.le_of_ble_eq_true rfl) (by omega) (by omega) dX1_made_2 rfl ((cx_creasesOf hg (by omega) hS hs hK (fun hm hcr => ?_) (fun hne k n => ?_)))
  · rw [if_pos hm] at hk0
    refine nd_istore_n hC dX1_made_5 (Nat.le_of_ble_eq_true rfl) ?_
    refine nd_new (ci := nX33) hC [.int 0, .null, .null, .null, .int 0, .null] in_X33 rfl tyX33 tyX33_ok q2360 q2361 q209 rfl rfl (by omega) (by omega) dX1_made_6 ?_
    refine nd_dup hC (by rfl) dX1_made_9 ?_
    refine nd_aload_n hC dX1_made_10 rfl rfl ?_
    refine nd_iload_n hC dX1_made_11 rfl ?_
    refine nd_callI (mm2 := mX33_init) (As := [_, _]) (mc2 := 1) (ms2 := 5) (d2 := d - 1) hC rfl rfl q2364 q209 q2362 q2363 rfl lmX33_init (Nat.le_of_ble_eq_true rfl) (by omega) rfl (by exact Nat.le_of_ble_eq_true rfl) (by omega) (by omega) dX1_made_12 rfl ((ni_X33 hg (by omega) (List.getElem?_concat_length ..) ?_))
    rw [show (h ++ [(.inr (nX33, [.int 0, .null, .null, .null, .int 0, .null]) : nd_C)]).length = h.length + 1 by simp]
    generalize hh1 : (h ++ [(.inr (nX33, [.int 0, .null, .null, .null, .int 0, .null]) : nd_C)]).set h.length (.inr (nX33, [.int 0, .ref 0, .ref (h.length + 1), .ref 0, .int (nI (cv (ty_v x S) (ty_v x S).length)), .ref 0])) ++ [.inl (0, 5, .inl (fun _ => 0))] = h1
    have e1 : h1[h.length]? = some (.inr (nX33, [.int (nI 0), .ref 0, .ref (h.length + 1), .ref 0, .int (nI (cv (ty_v x S) (ty_v x S).length)), .ref 0])) := by
      rw [← hh1]; exact l_get_app (by simp)
    have e2 : h1[h.length + 1]? = some (.inl (0, 5, .inl (fun _ => 0))) := by
      rw [← hh1, List.getElem?_append_right (by simp)]; simp
    have f1 : cw_f h h1 := by
      rw [← hh1]
      exact (cw_f.app (cw_f.set (cw_f.app cw_f.rfl) (Or.inl (Nat.le_refl _))))
    have hs1 : cw_S h1 := by
      rw [← hh1]
      exact cw_S.app (cw_S.set hs.app (by omega))
    refine nd_astore_n hC dX1_made_15 (Nat.le_of_ble_eq_true rfl) rfl ?_
    refine nd_aload_n hC dX1_made_16 rfl rfl ?_
    refine nd_iconst hC (v := nI 1) (by rfl) dX1_made_17 ?_
    refine nd_iconst hC (v := nI 5) (by rfl) dX1_made_18 ?_
    refine nd_callU (mm2 := mX20_seeks) (As := [_, _]) (mc2 := 0) (ms2 := 0) (d2 := d - 1) (owner := "NapkinDeeds$Rows") (x := ⟨"NapkinDeeds$Many", "seeks", "(ZI)LNapkinDeeds$Rows;"⟩) (n := 2) hC rfl (va_cwU 2 hC.hts (lw_U q2156 q2157 q2159 q812 q190 q813) rfl rfl rfl rfl ⟨by decide, by decide, by decide +kernel⟩ (nd_roomR (by omega) (by decide))) (e1) rfl (Nat.le_of_ble_eq_true rfl) (by omega) rfl (by exact Nat.le_of_ble_eq_true rfl) (by omega) (by omega) dX1_made_19 rfl ((cw_seek (fl := true) (most := 5) (d0 := 10) (b := h.length) (rb := h.length + 1) (ci := nX33) (σ := Nat) (s0 := 0) (see := fun s e => s + ((fun e => decide (nI (lk_crs e.2 (sy_n S - 1)) = nI (cv (ty_v x S) (ty_v x S).length))) e).toNat) (Bd := fun s => s < 1000000) (Ob := fun s h2 => h2[h.length]? = some (.inr (nX33, [.int (nI s), .ref 0, .ref (h.length + 1), .ref 0, .int (nI (cv (ty_v x S) (ty_v x S).length)), .ref 0])) ∧ ∃ f, h2[h.length + 1]? = some (.inl (0, 5, .inl f))) hg (by omega) (by omega) (Nat.le_refl 5) hS hK hl123 hs1 f1 (Nat.le_refl _) (by omega) ?_ ?_ ?_ ⟨e1, ⟨_, e2⟩⟩ ?_ (fun h2 H hs2 f2 hl2 => ?_)))
    · exact fun s h2 H => ⟨⟨2, _, Or.inr (Or.inl ⟨rfl, rfl⟩), H.1, rfl, rfl⟩, H.2⟩
    · exact fun s h2 h3 H hl hf hr => ⟨(hf h.length (by omega) (by omega)).trans H.1, hr⟩
    · intro d2 hd2 s r l h2 K2 hB H hs2 f2 hl hokl hrw hr5 kk
      refine Or.inl ⟨nX33, _, Or.inr rfl, H.1, cm_seesX33 (Q := fun h3 => h3 = h2) (v := (fun e => decide (nI (lk_crs e.2 (sy_n S - 1)) = nI (cv (ty_v x S) (ty_v x S).length))) (r, l)) hg (by omega) H.1 (fun K3 kq => cq_soX33 hg (by omega) ((hK.f f2).P hs2) hn hl hokl H.1 (kq h2 rfl)) (fun h3 e => by rw [e]) hB (fun h3 e => ?_)⟩
      subst e
      refine kk _ ⟨List.getElem?_set_self (nd_get_lt H.1), ?_⟩ (hs2.set (by omega)) (f2.set (Or.inl (Nat.le_refl _))) List.length_set (fun a ha => List.getElem?_set_ne (by omega))
      obtain ⟨f9, e9⟩ := H.2
      exact ⟨f9, (List.getElem?_set_ne (by omega)).trans e9⟩
    · refine df_B_n _ (fun s => s) 1000000 (fun s x9 => ?_) _ 0 ?_
      · have := Bool.toNat_le ((fun e => decide (nI (lk_crs e.2 (sy_n S - 1)) = nI (cv (ty_v x S) (ty_v x S).length))) x9)
        show s + _ ≤ s + 1
        omega
      · have := df_le (Nat.le_refl 5) (cr_l0_ok hS true) hn
        omega
    · have ev : (df 5 [] (cr_l0 (sy_N S) (sy_c S) true)).foldl (fun s e => s + ((fun e => decide (nI (lk_crs e.2 (sy_n S - 1)) = nI (cv (ty_v x S) (ty_v x S).length))) e).toNat) 0 = (md_r (fun e => lk_made e.2 (ty_v x S)) (lv_all 5 (lk_flat (sy_n S)))).1 := by
        rw [fl_count, Nat.zero_add, md_n]
        have ec : (fun e : lv_E => lk_made e.2 (ty_v x S)) = (fun e => decide (nI (lk_crs e.2 (sy_n S - 1)) = nI (cv (ty_v x S) (ty_v x S).length))) := by
          funext e
          exact made_iff hn hcr
        rw [ec]
        exact ((df_perm 5 (lk_flat (sy_n S))).filter _).length_eq
      rw [ev] at H
      refine nd_pop hC (by rfl) dX1_made_22 ?_
      refine nd_aload_n hC dX1_made_23 rfl rfl ?_
      refine nd_get (ci := nX33) hC in_X33 rfl H.1 0 (by decide) q2143 (fun _ z => z) rfl dX1_made_24 ?_
      refine nd_ireturn hC rfl (by first | rfl | exact nd_b_nar _) (by omega) (by omega) dX1_made_27 ((hk0 rfl h2 ⟨hs2, o, nap, ds, gi, dss, (hK.f f2)⟩ (f2.fr hl123)))
  · rw [if_neg hne] at hk1
    exact nd_out hC rfl (by omega) (by omega) (hk1 hne _ _ ⟨hs.app, o, nap, ds, gi, dss, hK.f cw_f.rfl.app⟩ (cw_f.rfl.app.fr hl123))
theorem cp_madeBy (hg : nd_OK g) (hd : 40 ≤ d) (x y : Int32) : cp_ok g mX1_madeBy d 12 80 [.int x, .int y] (ex3 eNSE eISE eIAE) (mp_i (op_madeBy x y)) := by
  intro S h K hS hI hl123 hk0 hk1
  obtain ⟨hs, o, nap, ds, gi, dss, hK⟩ := hI
  obtain ⟨⟨x0, hO⟩, h17, hkk, -⟩ := id hK
  unfold cx_O at hO
  have hok := sy_l_ok hS
  have hwd := lk_width hok
  have hn : sy_n S ≤ 6 := hS.1.1.1
  have h5 := sy_len5 hS
  obtain ⟨sfr, sbk, sfo, smn, hSt, hcv⟩ := id hkk.2.1
  obtain ⟨hSt1, hSt2, hSt3, hSt4⟩ := id hSt
  have hcv : cs_v sfr sbk sfo smn (sy_c S) := hcv
  have hsv : sv_ok (sy_n S) (sy_c S) := hS.1.2.1
  unfold mp_i op_madeBy at hk0 hk1
  refine nd_enter hg (by decide) rfl (Nat.le_of_ble_eq_true rfl) (fun X hC => ?_)
  refine nd_aload_n hC dX1_madeBy_0 rfl rfl ?_
  refine nd_iload_n hC dX1_madeBy_1 rfl ?_
  refine nd_callV (mm2 := mX1_creasesOf) (As := [_]) (mc2 := 5) (ms2 := 30) (d2 := d - 1) hC rfl lkX1_472 ⟨rfl, lmX1_creasesOf⟩ (hO) rfl (Nat.le_of_ble_eq_true rfl) (by omega) rfl (by exact Nat.le_of_ble_eq_true rfl) (by omega) (by omega) dX1_madeBy_2 rfl ((cx_creasesOf hg (by omega) hS hs hK (fun hm hcr => ?_) (fun hne k n => ?_)))
  · rw [if_pos hm] at hk0 hk1
    refine nd_istore_n hC dX1_madeBy_5 (Nat.le_of_ble_eq_true rfl) ?_
    refine nd_iload_n hC dX1_madeBy_6 rfl ?_
    refine nd_if_lt hC (tgt := 14) dX1_madeBy_7 (by decide) (fun hq => ?_) (fun hq => ?_)
    · rw [if_neg (by rw [Int32.not_le]; exact hq)] at hk1
      refine nd_iconst hC (v := nI 0) (by rfl) dX1_madeBy_14 ?_
      refine nd_callS (mm2 := mX1_needs) (As := [_]) (mc2 := 1) (ms2 := 6) (d2 := d - 1) hC rfl lkX1_110 lmX1_needs (Nat.le_of_ble_eq_true rfl) (by omega) rfl (by exact Nat.le_of_ble_eq_true rfl) (by omega) (by omega) dX1_madeBy_15 rfl ((ci_needs (b := false) hg (fun z => by cases z) (fun _ n => ?_)))
      exact nd_out hC rfl (by omega) (by omega) (hk1 (Nat.succ_ne_zero _) _ _ ⟨hs.app, o, nap, ds, gi, dss, hK.f cw_f.rfl.app⟩ (cw_f.rfl.app.fr hl123))
    · rw [if_pos (by rw [← Int32.not_lt]; exact hq)] at hk0
      obtain ⟨j, hj9, rfl⟩ := op_nat (by rw [← Int32.not_lt]; exact hq)
      rw [nI_cl hj9] at hk0
      refine nd_iconst hC (v := nI 1) (by rfl) dX1_madeBy_10 ?_
      refine nd_goto hC (tgt := 15) dX1_madeBy_11 (by decide) ?_
      refine nd_callS (mm2 := mX1_needs) (As := [_]) (mc2 := 1) (ms2 := 6) (d2 := d - 1) hC rfl lkX1_110 lmX1_needs (Nat.le_of_ble_eq_true rfl) (by omega) rfl (by exact Nat.le_of_ble_eq_true rfl) (by omega) (by omega) dX1_madeBy_15 rfl ((ci_needs (b := true) hg (fun _ => ?_) (fun z => by cases z)))
      refine nd_new (ci := nX34) hC [.null, .int 0, .long 0, .null, .null, .null, .null, .int 0, .null] in_X34 rfl tyX34 tyX34_ok q2384 q2385 q210 rfl rfl (by omega) (by omega) dX1_madeBy_18 ?_
      refine nd_dup hC (by rfl) dX1_madeBy_21 ?_
      refine nd_aload_n hC dX1_madeBy_22 rfl rfl ?_
      refine nd_iload_n hC dX1_madeBy_23 rfl ?_
      refine nd_callI (mm2 := mX34_init) (As := [_, _]) (mc2 := 2) (ms2 := 10) (d2 := d - 1) hC rfl rfl q2388 q210 q2386 q2387 rfl lmX34_init (Nat.le_of_ble_eq_true rfl) (by omega) rfl (by exact Nat.le_of_ble_eq_true rfl) (by omega) (by omega) dX1_madeBy_24 rfl ((ni_X34 hg (by omega) (List.getElem?_concat_length ..) ?_))
      rw [show (h ++ [(.inr (nX34, [.null, .int 0, .long 0, .null, .null, .null, .null, .int 0, .null]) : nd_C)]).length = h.length + 1 by simp]
      generalize hh1 : ((h ++ [(.inr (nX34, [.null, .int 0, .long 0, .null, .null, .null, .null, .int 0, .null]) : nd_C)]).set h.length (.inr (nX34, [.ref (h.length + 1 + 1), .int (-1), .long be_min, .ref 0, .ref (h.length + 1), .ref 0, .ref 0, .int (nI (cv (ty_v x S) (ty_v x S).length)), .ref 0])) ++ [.inl (0, 5, .inl (fun _ => 0))]) ++ [.inl (0, 5, .inl (fun _ => 0))] = h1
      have e1 : h1[h.length]? = some (.inr (nX34, [.ref (h.length + 2), .int (-1), .long be_min, .ref 0, .ref (h.length + 1), .ref 0, .ref 0, .int (nI (cv (ty_v x S) (ty_v x S).length)), .ref 0])) := by
        rw [← hh1, List.getElem?_append_left (by simp)]; exact l_get_app (by simp)
      have e2 : h1[h.length + 1]? = some (.inl (0, 5, .inl (fun _ => 0))) := by
        rw [← hh1, List.getElem?_append_left (by simp), List.getElem?_append_right (by simp)]; simp
      have e3 : h1[h.length + 2]? = some (.inl (0, 5, .inl (fun _ => 0))) := by
        rw [← hh1, List.getElem?_append_right (by simp)]; simp
      have f1 : cw_f h h1 := by
        rw [← hh1]
        exact cw_f.app (cw_f.app (cw_f.set (cw_f.app cw_f.rfl) (Or.inl (Nat.le_refl _))))
      have hs1 : cw_S h1 := by
        rw [← hh1]
        exact cw_S.app (cw_S.app (cw_S.set hs.app (by omega)))
      refine nd_astore hC dX1_madeBy_27 (Nat.le_of_ble_eq_true rfl) rfl ?_
      refine nd_aload hC dX1_madeBy_29 rfl rfl ?_
      refine nd_iconst hC (v := nI 1) (by rfl) dX1_madeBy_31 ?_
      refine nd_iconst hC (v := nI 5) (by rfl) dX1_madeBy_32 ?_
      refine nd_callU (mm2 := mX20_seeks) (As := [_, _]) (mc2 := 0) (ms2 := 0) (d2 := d - 1) (owner := "NapkinDeeds$Rows") (x := ⟨"NapkinDeeds$Fewest", "seeks", "(ZI)LNapkinDeeds$Rows;"⟩) (n := 2) hC rfl (va_cwU 2 hC.hts (lw_U q2214 q2215 q2216 q812 q190 q813) rfl rfl rfl rfl ⟨by decide, by decide, by decide +kernel⟩ (nd_roomR (by omega) (by decide))) (e1) rfl (Nat.le_of_ble_eq_true rfl) (by omega) rfl (by exact Nat.le_of_ble_eq_true rfl) (by omega) (by omega) dX1_madeBy_33 rfl ((cw_seek (fl := true) (most := 5) (d0 := 20) (b := h.length) (rb := h.length + 1) (ci := nX34) (σ := Option (Int64 × List Nat)) (s0 := none) (see := bs_see (fw_val (fun e => decide (nI (lk_crs e.2 (sy_n S - 1)) = nI (cv (ty_v x S) (ty_v x S).length))))) (Bd := fun _ => True) (Ob := fun s h2 => ∃ fw mo bf, h2[h.length]? = some (.inr (nX34, [.ref (h.length + 2), .int fw, .long mo, .ref 0, .ref (h.length + 1), .ref 0, .ref 0, .int (nI (cv (ty_v x S) (ty_v x S).length)), .ref 0])) ∧ (∃ f, h2[h.length + 1]? = some (.inl (0, 5, .inl f))) ∧ h2[h.length + 2]? = some (.inl (0, 5, .inl bf)) ∧ be_st s fw mo bf) hg (by omega) (by omega) (Nat.le_refl 5) hS hK hl123 hs1 f1 (by omega) (by omega) ?_ ?_ ?_ ⟨_, _, _, e1, ⟨_, e2⟩, e3, rfl, rfl⟩ ?_ (fun h2 H hs2 f2 hl2 => ?_)))
      · intro s h2 H
        obtain ⟨fw, mo, bf, H1, H2, -⟩ := H
        exact ⟨⟨4, _, Or.inr (Or.inr (Or.inr (Or.inr (Or.inr (Or.inr (Or.inr (Or.inr (Or.inr (Or.inr (Or.inl ⟨rfl, rfl⟩)))))))))), H1, rfl, rfl⟩, H2⟩
      · intro s h2 h3 H hl hf hr
        obtain ⟨fw, mo, bf, H1, H2, H3, H4⟩ := H
        exact ⟨fw, mo, bf, (hf _ (by omega) (by omega)).trans H1, hr, (hf _ (by omega) (by omega)).trans H3, H4⟩
      · intro d2 hd2 s r l h2 K2 hB H hs2 f2 hl hokl hrw hr5 kk
        obtain ⟨fw, mo, bf, H1, -, H3, H4⟩ := H
        obtain ⟨rf, H2, hrf⟩ := hrw
        have hK2 := hK.f f2
        have hfq : ∀ h3, ck_fr 94 1 h2 h3 → cw_f h h3 := fun h3 q => f2.trans (q.cwf (fun a a1 a2 => by unfold cw_sc; omega))
        have keep : ∀ h3, ck_fr 94 1 h2 h3 → cw_S h3 → bs_see (fw_val (fun e => decide (nI (lk_crs e.2 (sy_n S - 1)) = nI (cv (ty_v x S) (ty_v x S).length)))) s (r, l) = s → K2 (.inl none) h3 := by
          intro h3 q1 q2 es
          refine kk h3 ?_ q2 (hfq h3 q1) q1.1 (fun a ha => q1.2 a (by omega))
          rw [es]
          exact ⟨fw, mo, bf, (q1.2 _ (by omega)).trans H1, ⟨rf, (q1.2 _ (by omega)).trans H2⟩, (q1.2 _ (by omega)).trans H3, H4⟩
        have take : ∀ h3 v, ck_fr 94 1 h2 h3 → cw_S h3 → v ≠ be_min → bs_see (fw_val (fun e => decide (nI (lk_crs e.2 (sy_n S - 1)) = nI (cv (ty_v x S) (ty_v x S).length)))) s (r, l) = some (v, r) → K2 (.inl none) ((h3.set (h.length) (.inr (nX34, [.ref (h.length + 2), .int (nI r.length), .long v, .ref 0, .ref (h.length + 1), .ref 0, .ref 0, .int (nI (cv (ty_v x S) (ty_v x S).length)), .ref 0]))).set (h.length + 2) (.inl (0, 5, .inl (va_cpy rf bf 0 0 5)))) := by
          intro h3 v q1 q2 hv es
          have l1 : h.length < h3.length := by rw [q1.1]; exact nd_get_lt H1
          have l3 : h.length + 2 < h3.length := by rw [q1.1]; exact nd_get_lt H3
          refine kk _ ?_ ((q2.set (by omega)).set (by omega)) (((hfq h3 q1).set (Or.inl (by omega))).set (Or.inl (by omega))) (by rw [List.length_set, List.length_set]; exact q1.1) (fun a ha => by rw [List.getElem?_set_ne (by omega), List.getElem?_set_ne (by omega)]; exact q1.2 a (by omega))
          rw [es]
          refine ⟨nI r.length, v, va_cpy rf bf 0 0 5, ?_, ⟨rf, ?_⟩, List.getElem?_set_self (by rw [List.length_set]; exact l3), rfl, rfl, hv, be_rw hrf hr5, hr5⟩
          · rw [List.getElem?_set_ne (by omega)]; exact List.getElem?_set_self l1
          · rw [List.getElem?_set_ne (by omega), List.getElem?_set_ne (by omega)]; exact (q1.2 _ (by omega)).trans H2
        have hE : ∀ h3, ck_fr 94 1 h2 h3 → cw_S h3 → ∀ d3 K3, d2 ≤ d3 + 3 → (∀ h4, (ck_fr 94 1 h2 h4 ∧ cw_S h4) → K3 (.inl (some (.int (nd_b ((fun e => decide (nI (lk_crs e.2 (sy_n S - 1)) = nI (cv (ty_v x S) (ty_v x S).length))) (r, l)))))) h4) → nd_M g mX34_isSo d3 0 0 [.ref (h.length), .ref (18 + 9 * r.length), .int (nI (cr_fo (sy_c S) true + r.length))] h3 K3 := by
          intro h3 q1 q2 d3 K3 hd3 kq
          have hK3 := hK.f (hfq h3 q1)
          have hl3 := hl.fr q1 (by omega)
          have H13 := (q1.2 _ (by omega)).trans H1
          exact cq_soX34 (more := 0) hg (by omega) (hK3.P q2) hn hl3 hokl H13 (kq h3 ⟨q1, q2⟩)
        refine Or.inr (Or.inr (Or.inl ⟨nX34, _, Or.inr (Or.inr (Or.inr rfl)), H1, cf_seesX34 (Q := fun h3 => ck_fr 94 1 h2 h3 ∧ cw_S h3) (v := (fun e => decide (nI (lk_crs e.2 (sy_n S - 1)) = nI (cv (ty_v x S) (ty_v x S).length))) (r, l)) hg (by omega) H1 (fun K3 kq => hE h2 ck_fr.rfl hs2 (d2 - 1) K3 (by omega) kq) (fun h3 q => q.1.2 _ (by omega)) (fun hv h3 q => keep h3 q.1 q.2 (by unfold bs_see fw_val; rw [if_neg (by rw [hv]; decide)])) (fun hv h3 K3 q kq => ?_)⟩))
        have hvx : (fw_val (fun e => decide (nI (lk_crs e.2 (sy_n S - 1)) = nI (cv (ty_v x S) (ty_v x S).length)))) (r, l) = some (lN 1) := by unfold fw_val; rw [if_pos hv]
        have B := be_iff H4 hvx lN1_ne hr5
        refine cb_seesX34 (Q := fun h4 => ck_fr 94 1 h2 h4 ∧ cw_S h4) (v := lN 1) (f := rf) (bf := bf) hg (by omega) ((q.1.2 _ (by omega)).trans H1) ⟨by omega, by omega⟩ (fun K4 kq4 => ?_) (fun h4 q4 => ?_) (fun hno h4 q4 => kq h4 (keep h4 q4.1 q4.2 (B.1 hno))) (fun hno h4 q4 => kq _ (take h4 (lN 1) q4.1 q4.2 lN1_ne (B.2 hno)))
        · refine cf_valueX34 (Q := fun h4 => ck_fr 94 1 h2 h4 ∧ cw_S h4) (v := true) hg (by omega) ((q.1.2 _ (by omega)).trans H1) (fun K5 kq5 => ?_) (fun h4 q4 => kq4 h4 q4)
          have M := hE h3 q.1 q.2 (d2 - 1 - 1 - 1) K5 (by omega)
          rw [hv] at M
          exact M kq5
        · exact ⟨(q4.1.2 _ (by omega)).trans (q.1.2 _ (by omega)).symm, (q4.1.2 _ (by omega)).trans H2, (q4.1.2 _ (by omega)).trans H3⟩
      · exact df_B_T _ _ _
      · obtain ⟨fw, mo, bf, H1, H2, H3, H4⟩ := H
        have hK2 := hK.f f2
        have ec : fd_r (fun e => decide (nI (lk_crs e.2 (sy_n S - 1)) = nI (cv (ty_v x S) (ty_v x S).length))) (lv_all 5 (lk_flat (sy_n S))) = (md_r (fun e => lk_made e.2 (ty_v x S)) (lv_all 5 (lk_flat (sy_n S)))).2 := by
          rw [md_f]
          exact fd_congr (fun e he => (made_iff hn hcr).symm)
        rw [show cr_l0 (sy_N S) (sy_c S) true = lk_flat (sy_n S) from rfl, fd_eq, ec] at H4
        refine nd_pop hC (by rfl) dX1_madeBy_36 ?_
        refine nd_aload hC dX1_madeBy_37 rfl rfl ?_
        refine nd_iload_n hC dX1_madeBy_39 rfl ?_
        cases hR : (md_r (fun e => lk_made e.2 (ty_v x S)) (lv_all 5 (lk_flat (sy_n S)))).2 with
        | none =>
          rw [hR] at H4 hk0
          obtain ⟨z1, z2⟩ := H4
          refine nd_callU (mm2 := mX25_fold) (As := [_]) (mc2 := 0) (ms2 := 0) (d2 := d - 1) (owner := "NapkinDeeds$Best") (x := ⟨"NapkinDeeds$Fewest", "fold", "(I)I"⟩) (n := 1) hC rfl (va_cwU 1 hC.hts (lw_U q2404 q2244 q2246 q1023 q201 q1032) rfl rfl rfl rfl ⟨by decide, by decide, by decide +kernel⟩ (nd_roomR (by omega) (by decide))) (H1) rfl (Nat.le_of_ble_eq_true rfl) (by omega) rfl (by exact Nat.le_of_ble_eq_true rfl) (by omega) (by omega) dX1_madeBy_40 rfl ((be_foldX34 hg (by omega) (k := j) hj9 H1 H3 (fun z => absurd z2 z) ?_))
          have ef : be_fold mo fw bf j = -1 := by unfold be_fold; rw [if_pos z2]
          rw [ef]
          refine nd_ireturn hC rfl (by first | rfl | exact nd_b_nar _) (by omega) (by omega) dX1_madeBy_43 ((hk0 rfl h2 ⟨hs2, o, nap, ds, gi, dss, hK2⟩ (f2.fr hl123)))
        | some r =>
          rw [hR] at H4 hk0
          obtain ⟨z1, z2, z3, z4, z5⟩ := H4
          have z5 : r.length ≤ 5 := z5
          have z1 : fw = nI r.length := z1
          have hne9 : mo ≠ be_min := by rw [z2]; exact z3
          refine nd_callU (mm2 := mX25_fold) (As := [_]) (mc2 := 0) (ms2 := 0) (d2 := d - 1) (owner := "NapkinDeeds$Best") (x := ⟨"NapkinDeeds$Fewest", "fold", "(I)I"⟩) (n := 1) hC rfl (va_cwU 1 hC.hts (lw_U q2404 q2244 q2246 q1023 q201 q1032) rfl rfl rfl rfl ⟨by decide, by decide, by decide +kernel⟩ (nd_roomR (by omega) (by decide))) (H1) rfl (Nat.le_of_ble_eq_true rfl) (by omega) rfl (by exact Nat.le_of_ble_eq_true rfl) (by omega) (by omega) dX1_madeBy_40 rfl ((be_foldX34 hg (by omega) (k := j) hj9 H1 H3 (fun _ z => by rw [z1] at z; have := (nI_ltI hj9 (by omega)).mp z; omega) ?_))
          have ef : be_fold mo fw bf j = if j < r.length then nI (r.getD j 0) else -1 := by
            unfold be_fold
            rw [if_neg hne9, z1]
            by_cases z : j < r.length
            · rw [if_pos ((nI_ltI hj9 (by omega)).mpr z), if_pos z]; exact z4 j z
            · rw [if_neg (fun y => z ((nI_ltI hj9 (by omega)).mp y)), if_neg z]
          rw [ef]
          refine nd_ireturn hC rfl (by first | rfl | exact nd_b_nar _) (by omega) (by omega) dX1_madeBy_43 ((hk0 rfl h2 ⟨hs2, o, nap, ds, gi, dss, hK2⟩ (f2.fr hl123)))
  · rw [if_neg hne] at hk1
    exact nd_out hC rfl (by omega) (by omega) (hk1 hne _ _ ⟨hs.app, o, nap, ds, gi, dss, hK.f cw_f.rfl.app⟩ (cw_f.rfl.app.fr hl123))
end CP51

