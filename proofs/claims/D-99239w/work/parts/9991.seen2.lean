set_option maxRecDepth 100000
/-! ===== seen, sure, look ===== -/
section CP91
variable {g : nd_G} {d : Nat} {K : nd_K} {h : nd_H} {o : Nat → Nat} {nap : Nat} {ds : List Nat} {gi : Nat → Value} {dss : Nat → List Nat} {S : sy_S}
theorem ty_mk_le {v : List Int64} (h : ty_mk v = true) : v.length ≤ 6 := by
  unfold ty_mk at h
  rw [Bool.and_eq_true, decide_eq_true_iff] at h
  exact h.1.2
theorem cx_seenOf (hg : nd_OK g) (hd : 4 ≤ d) (hS : sy_ok S) (hK : cw_K o nap ds gi dss S h) {x y : Int32} (hk : sn_f x y S = 0 → ∀ t q, t < 4 → sy_t S t = some q → x = nI t → ty_v x S = q.2 → op_in y 0 4 = true → K (.inl (some (.ref (96 + t)))) h) (he : sn_f x y S ≠ 0 → ∀ k n, K (.inr (ex3 eNSE eISE eIAE (sn_f x y S), k)) (h ++ List.replicate (n + 1) nd_J)) : nd_M g mX1_seenOf d 6 36 [.ref 0, .int x, .int y] h K := by
  obtain ⟨⟨x0, hO⟩, -⟩ := id hK
  unfold cx_O at hO
  refine nd_enter hg (by decide) rfl (Nat.le_of_ble_eq_true rfl) (fun X hC => ?_)
  refine nd_aload_n hC dX1_seenOf_0 rfl rfl ?_
  refine nd_iload_n hC dX1_seenOf_1 rfl ?_
  refine nd_callV (mm2 := mX1_marksOf) (As := [_]) (mc2 := 5) (ms2 := 30) (d2 := d - 1) hC rfl lkX1_430 ⟨rfl, lmX1_marksOf⟩ (hO) rfl (Nat.le_of_ble_eq_true rfl) (by omega) rfl (by exact Nat.le_of_ble_eq_true rfl) (by omega) (by omega) dX1_seenOf_2 rfl ((cx_marksOf hg (by omega) hS hK (fun hm t q ht hq hx hv hT hbT => ?_) (fun hne k n => ?_)))
  · refine nd_astore_n hC dX1_seenOf_5 (Nat.le_of_ble_eq_true rfl) rfl ?_
    refine nd_iload_n hC dX1_seenOf_6 rfl ?_
    first | with_reducible refine nd_i2lN hC (by omega) dX1_seenOf_7 ?_ | refine nd_i2l hC dX1_seenOf_7 ?_
    refine nd_lconst hC (v := lN 0) (by rfl) dX1_seenOf_8 ?_
    refine nd_ldc2 hC q2499 dX1_seenOf_9 ?_
    refine nd_v_eq (y := .long (lN 4)) (by rfl) ?_
    refine nd_callS (mm2 := mX1_isIn) (As := [_, _, _]) (mc2 := 0) (ms2 := 0) (d2 := d - 1) hC rfl lkX1_106 lmX1_isIn (Nat.le_of_ble_eq_true rfl) (by omega) rfl (by exact Nat.le_of_ble_eq_true rfl) (by omega) (by omega) dX1_seenOf_12 rfl ((ci_isIn hg ?_))
    have e : (decide (lN 0 ≤ y.toInt64) && decide (y.toInt64 ≤ lN 4)) = op_in y 0 4 := by
      unfold op_in
      rw [Bool.eq_iff_iff, Bool.and_eq_true, nd_lle, nd_lle, nd_tl, lN_toInt (by decide), lN_toInt (by decide), decide_eq_true_iff]
      omega
    rw [e]
    refine nd_callS (mm2 := mX1_needs) (As := [_]) (mc2 := 1) (ms2 := 6) (d2 := d - 1) hC rfl lkX1_110 lmX1_needs (Nat.le_of_ble_eq_true rfl) (by omega) rfl (by exact Nat.le_of_ble_eq_true rfl) (by omega) (by omega) dX1_seenOf_15 rfl ((ci_needs hg (fun hc => ?_) (fun hc n => ?_)))
    · have e0 : sn_f x y S = 0 := by unfold sn_f; rw [if_pos hm, if_pos hc]
      refine nd_aload_n hC dX1_seenOf_18 rfl rfl ?_
      refine nd_areturn hC rfl (by first | exact Or.inl ⟨_, rfl⟩ | exact Or.inr ⟨_, rfl⟩) (by rfl) (by omega) (by omega) dX1_seenOf_19 ((hk e0 t q ht hq hx hv hc))
    · have e3 : sn_f x y S = 3 := by unfold sn_f; rw [if_pos hm, if_neg (by rw [hc]; decide)]
      rw [e3] at he
      exact nd_out hC rfl (by omega) (by omega) (he (by decide) _ n)
  · have e3 : sn_f x y S = mk_f x S := by unfold sn_f; rw [if_neg hne]
    rw [e3] at he
    exact nd_out hC rfl (by omega) (by omega) (he hne k n)
theorem cx_seenBy (hg : nd_OK g) (hd : 20 ≤ d) (hS : sy_ok S) (hs : cw_S h) (hK : cw_K o nap ds gi dss S h) (hl123 : 123 ≤ h.length) {x y : Int32} (hk : sn_f x y S = 0 → ∀ (m t : Nat) (q : Nat × List Int64) (s : sn_T) (h2 : nd_H), y = nI m → m ≤ 4 → t < 4 → sy_t S t = some q → ty_v x S = q.2 → sn_O h.length (h.length + 1) (h.length + 2) t s h2 → sn_RR (sy_n S) s (sn_r S q.2 m) → cw_S h2 → cw_f h h2 → K (.inl (some (.ref h.length))) h2) (he : sn_f x y S ≠ 0 → ∀ k js, K (.inr (ex3 eNSE eISE eIAE (sn_f x y S), k)) (h ++ js)) : nd_M g mX1_seenBy d 15 660 [.ref 0, .int x, .int y] h K := by
  have hn : sy_n S ≤ 6 := hS.1.1.1
  refine nd_enter hg (by decide) rfl (Nat.le_of_ble_eq_true rfl) (fun X hC => ?_)
  refine nd_new (ci := nX39) hC [.null, .null, .null, .null, .int 0, .int 0, .null] in_X39 rfl tyX39 tyX39_ok q2493 q2494 q215 rfl rfl (by omega) (by omega) dX1_seenBy_0 ?_
  generalize hob : (.inr (nX39, [.null, .null, .null, .null, .int 0, .int 0, .null]) : nd_C) = ob
  have hK0 := hK.f (cw_f.rfl.app (js := [ob]))
  have hs0 := hs.app (js := [ob])
  obtain ⟨⟨x0, hO⟩, -⟩ := id hK0
  unfold cx_O at hO
  refine nd_dup hC (by rfl) dX1_seenBy_3 ?_
  refine nd_aload_n hC dX1_seenBy_4 rfl rfl ?_
  refine nd_aload_n hC dX1_seenBy_5 rfl rfl ?_
  refine nd_iload_n hC dX1_seenBy_6 rfl ?_
  refine nd_iload_n hC dX1_seenBy_7 rfl ?_
  refine nd_callV (mm2 := mX1_seenOf) (As := [_, _]) (mc2 := 6) (ms2 := 36) (d2 := d - 1) hC rfl lkX1_506 ⟨rfl, lmX1_seenOf⟩ (hO) rfl (Nat.le_of_ble_eq_true rfl) (by omega) rfl (by exact Nat.le_of_ble_eq_true rfl) (by omega) (by omega) dX1_seenBy_8 rfl ((cx_seenOf hg (by omega) hS hK0 (fun hm t q ht hq hx hv hy => ?_) (fun hne k n => ?_)))
  rotate_left
  · rw [List.append_assoc]
    exact nd_out hC rfl (by omega) (by omega) (he hne k _)
  obtain ⟨m, hm4, rfl⟩ := op_in_nat hy
  have hm4 : m ≤ 4 := by omega
  have hlen : q.2.length ≤ 30 := (hS.2.2.1 t ht q hq).2
  refine nd_callI (mm2 := mX39_init) (As := [_, _]) (mc2 := 8) (ms2 := 611) (d2 := d - 1) hC rfl rfl q2502 q215 q2500 q2501 rfl lmX39_init (Nat.le_of_ble_eq_true rfl) (by omega) rfl (by exact Nat.le_of_ble_eq_true rfl) (by omega) (by omega) dX1_seenBy_11 rfl ((ni_X39 (b := h.length) hg (by omega) (by rw [← hob]; exact l_at_last) rfl ?_))
  intro h1 e1 k1 O1
  rw [List.length_append] at e1 k1 O1
  have e1 : h1.length = h.length + 9 := e1
  have O1 : sn_O h.length (h.length + 1) (h.length + 2) t (0, 63, fun _ => nI 0) h1 := O1
  have f1 : cw_f h h1 := ⟨by omega, fun a c e _ => by
    have := nd_get_lt e
    rw [k1 a (by show a < h.length + 1; omega) (by omega), List.getElem?_append_left this]; exact e⟩
  have hs1 : cw_S h1 := hs0.kp (fun a ha => k1 a (by show a < h.length + 1; unfold cw_sc at ha; omega) (by unfold cw_sc at ha; omega))
  refine nd_astore_n hC dX1_seenBy_14 (Nat.le_of_ble_eq_true rfl) rfl ?_
  refine nd_aload_n hC dX1_seenBy_15 rfl rfl ?_
  refine nd_iconst hC (v := nI 1) (by rfl) dX1_seenBy_16 ?_
  refine nd_iload_n hC dX1_seenBy_17 rfl ?_
  show nd_W _ _ _ _ _ _ _ _ _ [.int (nI m), .int (nd_b true), .ref h.length] _ _ _
  refine nd_callU (mm2 := mX20_seeks) (As := [_, _]) (mc2 := 0) (ms2 := 0) (d2 := d - 1) (owner := "NapkinDeeds$Rows") (x := ⟨"NapkinDeeds$Seen", "seeks", "(ZI)LNapkinDeeds$Rows;"⟩) (n := 2) hC rfl (va_cwU 2 hC.hts (lw_U q2527 q2528 q2529 q812 q190 q813) rfl rfl rfl rfl ⟨by decide, by decide, by decide +kernel⟩ (nd_roomR (by omega) (by decide))) (O1.1) rfl (Nat.le_of_ble_eq_true rfl) (by omega) rfl (by exact Nat.le_of_ble_eq_true rfl) (by omega) (by omega) dX1_seenBy_18 rfl ((cw_seek (fl := true) (most := m) (d0 := 8) (b := h.length) (rb := h.length + 1) (ci := nX39) (σ := sn_T) (s0 := ((0, 63, fun _ => nI 0) : sn_T)) (see := sn_C (sv_fr (sy_c S)) (sv_bk (sy_c S)) (sy_n S) q.2) (Bd := fun s => s.1 < 1000000) (Ob := sn_O h.length (h.length + 1) (h.length + 2) t) hg (by omega) (by omega) (by omega) hS hK hl123 hs1 f1 (Nat.le_refl _) (by omega) ?_ ?_ ?_ O1 ?_ (fun h2 H hs2 f2 hl2 => ?_)))
  · exact fun s h2 H => ⟨⟨0, _, Or.inr (Or.inr (Or.inr (Or.inr (Or.inr (Or.inr (Or.inr (Or.inr (Or.inr (Or.inr (Or.inr (Or.inr (Or.inr (Or.inr (⟨rfl, rfl⟩)))))))))))))), H.1, rfl, rfl⟩, H.2.1⟩
  · intro s h2 h3 H hl hf hr
    obtain ⟨H1, H2, H3, H4, H5, H6⟩ := H
    refine ⟨(hf _ (by omega) (by omega)).trans H1, hr, (hf _ (by omega) (by omega)).trans H3, H4, fun j hj => ?_, H6⟩
    obtain ⟨f, r1, r2⟩ := H5 j hj
    exact ⟨f, (hf _ (by omega) (by omega)).trans r1, r2⟩
  · intro d2 hd2 s r l h2 K2 hB H hs2 f2 hl hokl hrw hr5 kk
    refine Or.inr (Or.inr (Or.inr (Or.inr ⟨nX39, _, rfl, H.1, ?_⟩)))
    refine cn_sees hg (by omega) hS hK hl123 hs2 f2 H (Nat.le_refl _) rfl rfl hB ht hq (by omega) hl hokl (fun h3 a1 a2 a3 a4 a5 => kk h3 a1 a2 a3 a4 (fun a ha => a5 a (by omega)))
  · refine df_B_n (σ := sn_T) _ (fun s => s.1) 1000000 (fun s x9 => ?_) _ ((0, 63, fun _ => nI 0) : sn_T) ?_
    · show (sn_C _ _ _ _ s x9).1 ≤ s.1 + 1
      unfold sn_C
      split
      · exact Nat.le_refl _
      · exact Nat.le_succ _
    · have := df_le (m := m) (by omega) (cr_l0_ok hS true) hn
      show 0 + _ ≤ 1000000
      omega
  · refine nd_pop hC (by rfl) dX1_seenBy_21 ?_
    refine nd_aload_n hC dX1_seenBy_22 rfl rfl ?_
    refine nd_areturn hC rfl (by first | exact Or.inl ⟨_, rfl⟩ | exact Or.inr ⟨_, rfl⟩) (by rfl) (by omega) (by omega) dX1_seenBy_23 ((hk hm m t q _ h2 rfl hm4 ht hq hv H (sn_df hn _) hs2 f2))
theorem cp_seen (hg : nd_OK g) (hd : 30 ≤ d) (x y : Int32) : cp_ok g mX1_seen d 16 670 [.int x, .int y] (ex3 eNSE eISE eIAE) (mp_i (op_seen x y)) := by
  intro S h K hS hI hl123 hk0 hk1
  obtain ⟨hs, o, nap, ds, gi, dss, hK⟩ := hI
  obtain ⟨⟨x0, hO⟩, h17, hkk, -⟩ := id hK
  unfold cx_O at hO
  have hok := sy_l_ok hS
  have hwd := lk_width hok
  have hn : sy_n S ≤ 6 := hS.1.1.1
  have h5 := sy_len5 hS
  obtain ⟨sfr, sbk, sfo, smn, hSt, hcv⟩ := id hkk.2.1
  obtain ⟨hSt1, hSt2, hSt3, hSt4⟩ := id hSt
  have hcv : cs_v sfr sbk sfo smn (sy_c S) := hcv
  have hsv : sv_ok (sy_n S) (sy_c S) := hS.1.2.1
  unfold mp_i op_seen at hk0 hk1
  refine nd_enter hg (by decide) rfl (Nat.le_of_ble_eq_true rfl) (fun X hC => ?_)
  refine nd_aload_n hC dX1_seen_0 rfl rfl ?_
  refine nd_iload_n hC dX1_seen_1 rfl ?_
  refine nd_iload_n hC dX1_seen_2 rfl ?_
  refine nd_callV (mm2 := mX1_seenBy) (As := [_, _]) (mc2 := 15) (ms2 := 660) (d2 := d - 1) hC rfl lkX1_512 ⟨rfl, lmX1_seenBy⟩ (hO) rfl (Nat.le_of_ble_eq_true rfl) (by omega) rfl (by exact Nat.le_of_ble_eq_true rfl) (by omega) (by omega) dX1_seen_3 rfl ((cx_seenBy hg (by omega) hS hs hK hl123 (fun hm m t q s h2 hy hm4 ht hq hv H HR hs2 f2 => ?_) (fun hne k js => ?_)))
  · subst hy
    rw [if_pos hm, hv, nI_cl (by omega)] at hk0
    have H1 := H.1
    rw [← HR.1] at hk0
    refine nd_getN (ci := nX39) hC in_X39 rfl H1 4 (by decide) q2510 (fun _ z => z) rfl dX1_seen_6 ?_
    refine nd_ireturn hC rfl (by first | rfl | exact nd_b_nar _) (by omega) (by omega) dX1_seen_9 ((hk0 rfl h2 ⟨hs2, o, nap, ds, gi, dss, (hK.f f2)⟩ (f2.fr hl123)))
  · rw [if_neg hne] at hk1
    exact nd_out hC rfl (by omega) (by omega) (hk1 hne _ _ ⟨hs.app, o, nap, ds, gi, dss, hK.f cw_f.rfl.app⟩ (cw_f.rfl.app.fr hl123))
theorem cp_sure (hg : nd_OK g) (hd : 30 ≤ d) (x y : Int32) : cp_ok g mX1_sure d 16 670 [.int x, .int y] (ex3 eNSE eISE eIAE) (mp_i (op_sure x y)) := by
  intro S h K hS hI hl123 hk0 hk1
  obtain ⟨hs, o, nap, ds, gi, dss, hK⟩ := hI
  obtain ⟨⟨x0, hO⟩, h17, hkk, -⟩ := id hK
  unfold cx_O at hO
  have hok := sy_l_ok hS
  have hwd := lk_width hok
  have hn : sy_n S ≤ 6 := hS.1.1.1
  have h5 := sy_len5 hS
  obtain ⟨sfr, sbk, sfo, smn, hSt, hcv⟩ := id hkk.2.1
  obtain ⟨hSt1, hSt2, hSt3, hSt4⟩ := id hSt
  have hcv : cs_v sfr sbk sfo smn (sy_c S) := hcv
  have hsv : sv_ok (sy_n S) (sy_c S) := hS.1.2.1
  unfold mp_i op_sure at hk0 hk1
  refine nd_enter hg (by decide) rfl (Nat.le_of_ble_eq_true rfl) (fun X hC => ?_)
  refine nd_aload_n hC dX1_sure_0 rfl rfl ?_
  refine nd_iload_n hC dX1_sure_1 rfl ?_
  refine nd_iload_n hC dX1_sure_2 rfl ?_
  refine nd_callV (mm2 := mX1_seenBy) (As := [_, _]) (mc2 := 15) (ms2 := 660) (d2 := d - 1) hC rfl lkX1_512 ⟨rfl, lmX1_seenBy⟩ (hO) rfl (Nat.le_of_ble_eq_true rfl) (by omega) rfl (by exact Nat.le_of_ble_eq_true rfl) (by omega) (by omega) dX1_sure_3 rfl ((cx_seenBy hg (by omega) hS hs hK hl123 (fun hm m t q s h2 hy hm4 ht hq hv H HR hs2 f2 => ?_) (fun hne k js => ?_)))
  · subst hy
    rw [if_pos hm, hv, nI_cl (by omega)] at hk0
    have H1 := H.1
    have hcn := sn_cnt S q.2 m (by omega) hn
    obtain ⟨r1, r2, r3⟩ := HR
    rw [← r1] at hk0 hcn
    refine nd_astore_n hC dX1_sure_6 (Nat.le_of_ble_eq_true rfl) rfl ?_
    refine nd_aload_n hC dX1_sure_7 rfl rfl ?_
    refine nd_getN (ci := nX39) hC in_X39 rfl H1 4 (by decide) q2510 (fun _ z => z) rfl dX1_sure_8 ?_
    rcases r3 with ⟨z1, -, -⟩ | ⟨z1, -, z3⟩
    · rw [if_pos z1] at hk0
      first | with_reducible refine nd_if_neB hC (tgt := 18) dX1_sure_11 (by decide) (fun hq2 => ?_) (fun hq2 => ?_) | with_reducible refine nd_if_neN hC (tgt := 18) (by omega) dX1_sure_11 (by decide) (fun hq2 => ?_) (fun hq2 => ?_) | refine nd_if_ne hC (tgt := 18) dX1_sure_11 (by decide) (fun hq2 => ?_) (fun hq2 => ?_)
      · omega
      · refine nd_iconst hC (v := nI 0) (by rfl) dX1_sure_14 ?_
        refine nd_goto hC (tgt := 22) dX1_sure_15 (by decide) ?_
        refine nd_ireturn hC rfl (by first | rfl | exact nd_b_nar _) (by omega) (by omega) dX1_sure_22 ((hk0 rfl h2 ⟨hs2, o, nap, ds, gi, dss, (hK.f f2)⟩ (f2.fr hl123)))
    · rw [if_neg z1, z3] at hk0
      first | with_reducible refine nd_if_neB hC (tgt := 18) dX1_sure_11 (by decide) (fun hq2 => ?_) (fun hq2 => ?_) | with_reducible refine nd_if_neN hC (tgt := 18) (by omega) dX1_sure_11 (by decide) (fun hq2 => ?_) (fun hq2 => ?_) | refine nd_if_ne hC (tgt := 18) dX1_sure_11 (by decide) (fun hq2 => ?_) (fun hq2 => ?_)
      · refine nd_aload_n hC dX1_sure_18 rfl rfl ?_
        refine nd_getN (ci := nX39) hC in_X39 rfl H1 5 (by decide) q2512 (fun _ z => z) rfl dX1_sure_19 ?_
        refine nd_ireturn hC rfl (by first | rfl | exact nd_b_nar _) (by omega) (by omega) dX1_sure_22 ((hk0 rfl h2 ⟨hs2, o, nap, ds, gi, dss, (hK.f f2)⟩ (f2.fr hl123)))
      · omega
  · rw [if_neg hne] at hk1
    exact nd_out hC rfl (by omega) (by omega) (hk1 hne _ _ ⟨hs.app, o, nap, ds, gi, dss, hK.f cw_f.rfl.app⟩ (cw_f.rfl.app.fr hl123))
/-- what is greatest of a hundred -/
def lo_nx (f : Nat → Nat) (k : Nat) : Nat → Nat
  | 0 => 0
  | m + 1 => max (lo_nx f k m) (f (100 * k + m))
theorem lo_nx_le {f : Nat → Nat} {k b : Nat} : ∀ m, (∀ i, i < m → f (100 * k + i) ≤ b) → lo_nx f k m ≤ b := by
  intro m
  induction m with
  | zero => intro _; exact Nat.zero_le _
  | succ m ih =>
    intro h
    have h1 := ih (fun i hi => h i (by omega))
    have h2 := h m (by omega)
    show max _ _ ≤ b
    omega
theorem lo_mx_nx {F : Nat → Int32} {f : Nat → Nat} {k : Nat} : ∀ m, (∀ i, i < m → F (100 * k + i) = nI (f (100 * k + i)) ∧ f (100 * k + i) < 2 ^ 30) → lo_mx F k m = nI (lo_nx f k m) ∧ lo_nx f k m < 2 ^ 30 := by
  intro m
  induction m with
  | zero => intro _; exact ⟨rfl, by show 0 < 2 ^ 30; decide⟩
  | succ m ih =>
    intro h
    obtain ⟨h1, h1'⟩ := ih (fun i hi => h i (by omega))
    obtain ⟨h2, h2'⟩ := h m (by omega)
    show (if lo_mx F k m < F (100 * k + m) then F (100 * k + m) else lo_mx F k m) = nI (max (lo_nx f k m) (f (100 * k + m))) ∧ max (lo_nx f k m) (f (100 * k + m)) < 2 ^ 30
    rw [h1, h2]
    refine ⟨?_, by omega⟩
    by_cases z : lo_nx f k m < f (100 * k + m)
    · rw [if_pos ((nI_ltI (by omega) (by omega)).mpr z), Nat.max_eq_right (by omega)]
    · rw [if_neg (fun q => z ((nI_ltI (by omega) (by omega)).mp q)), Nat.max_eq_left (by omega)]
/-- the class begins at 28000 -/
def lo_cx (f : Nat → Nat) : Nat → Int32 × Nat
  | 0 => (-1, 28000)
  | k + 1 => if lo_nx f k 100 < (lo_cx f k).2 then (nI k, lo_nx f k 100) else lo_cx f k
theorem lo_cx_eq {F : Nat → Int32} {f : Nat → Nat} : ∀ k, k ≤ 6 → (∀ i, i < 600 → F i = nI (f i) ∧ f i < 28000) → (lo_go F k).1 = (lo_cx f k).1 ∧ (lo_cx f k).2 ≤ 28000 ∧ (k = 0 ∨ (lo_go F k).2 = nI (lo_cx f k).2) := by
  intro k
  induction k with
  | zero => intro _ _; exact ⟨rfl, Nat.le_refl _, Or.inl rfl⟩
  | succ k ih =>
    intro hk h
    obtain ⟨h1, h2, h3⟩ := ih (by omega) h
    obtain ⟨m1, m2⟩ := lo_mx_nx (F := F) (f := f) (k := k) 100 (fun i hi => ⟨(h _ (by omega)).1, by have := (h (100 * k + i) (by omega)).2; omega⟩)
    have m3 : lo_nx f k 100 < 28000 := by
      have := lo_nx_le (f := f) (k := k) (b := 27999) 100 (fun i hi => by have := (h (100 * k + i) (by omega)).2; omega)
      omega
    show (if lo_mx F k 100 < (lo_go F k).2 then (nI k, lo_mx F k 100) else lo_go F k).1 = (if lo_nx f k 100 < (lo_cx f k).2 then (nI k, lo_nx f k 100) else lo_cx f k).1 ∧ (if lo_nx f k 100 < (lo_cx f k).2 then (nI k, lo_nx f k 100) else lo_cx f k).2 ≤ 28000 ∧ (k + 1 = 0 ∨ (if lo_mx F k 100 < (lo_go F k).2 then (nI k, lo_mx F k 100) else lo_go F k).2 = nI (if lo_nx f k 100 < (lo_cx f k).2 then (nI k, lo_nx f k 100) else lo_cx f k).2)
    rw [m1]
    rcases h3 with z | z
    · subst z
      have e1 : nI (lo_nx f 0 100) < (lo_go F 0).2 := by
        show nI (lo_nx f 0 100) < nI 536870912
        exact (nI_ltI (by omega) (by omega)).mpr (by omega)
      have e2 : lo_nx f 0 100 < (lo_cx f 0).2 := m3
      rw [if_pos e1, if_pos e2]
      exact ⟨rfl, by show lo_nx f 0 100 ≤ 28000; omega, Or.inr rfl⟩
    · rw [z]
      by_cases q : lo_nx f k 100 < (lo_cx f k).2
      · rw [if_pos ((nI_ltI (by omega) (by omega)).mpr q), if_pos q]
        exact ⟨rfl, by show lo_nx f k 100 ≤ 28000; omega, Or.inr rfl⟩
      · rw [if_neg (fun y => q ((nI_ltI (by omega) (by omega)).mp y)), if_neg q]
        exact ⟨h1, h2, Or.inr z⟩
theorem cp_look (hg : nd_OK g) (hd : 30 ≤ d) (x y : Int32) : cp_ok g mX1_look d 16 670 [.int x, .int y] (ex3 eNSE eISE eIAE) (mp_i (op_look x y)) := by
  intro S h K hS hI hl123 hk0 hk1
  obtain ⟨hs, o, nap, ds, gi, dss, hK⟩ := hI
  obtain ⟨⟨x0, hO⟩, h17, hkk, -⟩ := id hK
  unfold cx_O at hO
  have hok := sy_l_ok hS
  have hwd := lk_width hok
  have hn : sy_n S ≤ 6 := hS.1.1.1
  have h5 := sy_len5 hS
  obtain ⟨sfr, sbk, sfo, smn, hSt, hcv⟩ := id hkk.2.1
  obtain ⟨hSt1, hSt2, hSt3, hSt4⟩ := id hSt
  have hcv : cs_v sfr sbk sfo smn (sy_c S) := hcv
  have hsv : sv_ok (sy_n S) (sy_c S) := hS.1.2.1
  unfold mp_i op_look at hk0 hk1
  refine nd_enter hg (by decide) rfl (Nat.le_of_ble_eq_true rfl) (fun X hC => ?_)
  refine nd_aload_n hC dX1_look_0 rfl rfl ?_
  refine nd_iload_n hC dX1_look_1 rfl ?_
  refine nd_iload_n hC dX1_look_2 rfl ?_
  refine nd_callV (mm2 := mX1_seenBy) (As := [_, _]) (mc2 := 15) (ms2 := 660) (d2 := d - 1) hC rfl lkX1_512 ⟨rfl, lmX1_seenBy⟩ (hO) rfl (Nat.le_of_ble_eq_true rfl) (by omega) rfl (by exact Nat.le_of_ble_eq_true rfl) (by omega) (by omega) dX1_look_3 rfl ((cx_seenBy hg (by omega) hS hs hK hl123 (fun hm m t q s h2 hy hm4 ht hq hv H HR hs2 f2 => ?_) (fun hne k js => ?_)))
  · subst hy
    rw [if_pos hm, hv, nI_cl (by omega)] at hk0
    have H1 := H.1
    have hcn := sn_cnt S q.2 m (by omega) hn
    obtain ⟨r1, r2, r3⟩ := HR
    rw [← r1, ← r2] at hk0
    rw [← r1] at hcn
    have hq30 : q.2.length ≤ 30 := (hS.2.2.1 t ht q hq).2
    have hK2 := hK.f f2
    obtain ⟨hT, bT, hbT⟩ := hK2.ty ht hq
    obtain ⟨-, -, H3, H4, H5, H6⟩ := id H
    have hmk0 := (sn_f_0 hm).1
    have hq6 : q.2.length ≤ 6 := by
      have := (mk_f_0 hmk0).2
      rw [hv] at this
      exact ty_mk_le this
    obtain ⟨fc, hfc⟩ : ∃ fc : Nat → Nat, ∀ i, i < 600 → s.2.2 i = nI (fc i) ∧ fc i < 28000 := by
      refine ⟨fun i => if hi : i < 600 then (H6 i hi).choose else 0, fun i hi => ?_⟩
      have := (H6 i hi).choose_spec
      simp only [dif_pos hi]
      exact ⟨this.2, by omega⟩
    refine nd_astore_n hC dX1_look_6 (Nat.le_of_ble_eq_true rfl) rfl ?_
    refine nd_iconst hC (v := -1) (by rfl) dX1_look_7 ?_
    refine nd_istore hC dX1_look_8 (Nat.le_of_ble_eq_true rfl) ?_
    refine nd_sipush hC (v := nI 28000) (by rfl) dX1_look_10 ?_
    refine nd_istore hC dX1_look_13 (Nat.le_of_ble_eq_true rfl) ?_
    refine nd_iconst hC (v := nI 0) (by rfl) dX1_look_15 ?_
    refine nd_istore hC dX1_look_16 (Nat.le_of_ble_eq_true rfl) ?_
    by_cases hz : s.1 = 0
    · rw [if_pos hz] at hk0
      have R := hk0 rfl h2 ⟨hs2, o, nap, ds, gi, dss, hK2⟩ (f2.fr hl123)
      refine nd_iload hC dX1_look_18 rfl ?_
      refine nd_aload_n hC dX1_look_20 rfl rfl ?_
      refine nd_getN (ci := nX39) hC in_X39 rfl H1 2 (by decide) q2506 (fun _ z => z) rfl dX1_look_21 ?_
      refine nd_callV (mm2 := mX6_size) (As := []) (mc2 := 0) (ms2 := 0) (d2 := d - 1) hC rfl lkX1_340 ⟨rfl, lmX6_size⟩ (hbT) rfl (Nat.le_of_ble_eq_true rfl) (by omega) rfl (by exact Nat.le_of_ble_eq_true rfl) (by omega) (by omega) dX1_look_24 rfl ((ty_size hg hT hq30 ?_))
      first | with_reducible refine nd_icmp_geN hC (tgt := 110) (by omega) (by omega) dX1_look_27 (by decide) (fun hq2 => ?_) (fun hq2 => ?_) | refine nd_icmp_ge hC (tgt := 110) dX1_look_27 (by decide) (fun hq2 => ?_) (fun hq2 => ?_)
      · refine nd_iload hC dX1_look_110 rfl ?_
        refine nd_ireturn hC rfl (by first | rfl | exact nd_b_nar _) (by omega) (by omega) dX1_look_112 (R)
      · refine nd_aload_n hC dX1_look_30 rfl rfl ?_
        refine nd_getN (ci := nX39) hC in_X39 rfl H1 4 (by decide) q2510 (fun _ z => z) rfl dX1_look_31 ?_
        refine nd_if_le hC (tgt := 110) dX1_look_34 (by decide) (fun _ => ?_) (fun hq3 => ?_)
        · refine nd_iload hC dX1_look_110 rfl ?_
          refine nd_ireturn hC rfl (by first | rfl | exact nd_b_nar _) (by omega) (by omega) dX1_look_112 (R)
        · exact absurd (by rw [hz]; decide) hq3
    · rw [if_neg hz] at hk0
      have R : ∀ k, k = q.2.length → K (.inl (some (.int (lo_cx fc k).1))) h2 := by
        intro k hk
        subst hk
        rw [← (lo_cx_eq (F := s.2.2) (f := fc) q.2.length hq6 hfc).1]
        exact hk0 rfl h2 ⟨hs2, o, nap, ds, gi, dss, hK2⟩ (f2.fr hl123)
      have LP : ∀ k, k ≤ q.2.length → ∀ l7 l8 l9 l10 l11, nd_W g mX1_look d 16 670 K X 18 [some (.ref 0), some (.int x), some (.int (nI m)), some (.ref h.length), some (.int (lo_cx fc k).1), some (.int (nI (lo_cx fc k).2)), some (.int (nI k)), l7, l8, l9, l10, l11] [] h2 (0 + 15) (0 + 660) := by
        refine nd_for _ _ ?_ ?_
        · intro l7 l8 l9 l10 l11
          refine nd_iload hC dX1_look_18 rfl ?_
          refine nd_aload_n hC dX1_look_20 rfl rfl ?_
          refine nd_getN (ci := nX39) hC in_X39 rfl H1 2 (by decide) q2506 (fun _ z => z) rfl dX1_look_21 ?_
          refine nd_callV (mm2 := mX6_size) (As := []) (mc2 := 0) (ms2 := 0) (d2 := d - 1) hC rfl lkX1_340 ⟨rfl, lmX6_size⟩ (hbT) rfl (Nat.le_of_ble_eq_true rfl) (by omega) rfl (by exact Nat.le_of_ble_eq_true rfl) (by omega) (by omega) dX1_look_24 rfl ((ty_size hg hT hq30 ?_))
          first | with_reducible refine nd_icmp_geN hC (tgt := 110) (by omega) (by omega) dX1_look_27 (by decide) (fun hq2 => ?_) (fun hq2 => ?_) | refine nd_icmp_ge hC (tgt := 110) dX1_look_27 (by decide) (fun hq2 => ?_) (fun hq2 => ?_)
          · refine nd_iload hC dX1_look_110 rfl ?_
            refine nd_ireturn hC rfl (by first | rfl | exact nd_b_nar _) (by omega) (by omega) dX1_look_112 ((R _ rfl))
          · omega
        · intro k hk ih l7 l8 l9 l10 l11
          obtain ⟨fk, rk, vk⟩ := H5 k (by omega)
          have b2 := (lo_cx_eq (F := s.2.2) (f := fc) k (by omega) hfc).2.1
          have b3 := fun m (hm : m ≤ 100) => lo_nx_le (f := fc) (k := k) (b := 27999) m (fun i hi => by have := (hfc (100 * k + i) (by omega)).2; omega)
          refine nd_iload hC dX1_look_18 rfl ?_
          refine nd_aload_n hC dX1_look_20 rfl rfl ?_
          refine nd_getN (ci := nX39) hC in_X39 rfl H1 2 (by decide) q2506 (fun _ z => z) rfl dX1_look_21 ?_
          refine nd_callV (mm2 := mX6_size) (As := []) (mc2 := 0) (ms2 := 0) (d2 := d - 1) hC rfl lkX1_340 ⟨rfl, lmX6_size⟩ (hbT) rfl (Nat.le_of_ble_eq_true rfl) (by omega) rfl (by exact Nat.le_of_ble_eq_true rfl) (by omega) (by omega) dX1_look_24 rfl ((ty_size hg hT hq30 ?_))
          first | with_reducible refine nd_icmp_geN hC (tgt := 110) (by omega) (by omega) dX1_look_27 (by decide) (fun hq2 => ?_) (fun hq2 => ?_) | refine nd_icmp_ge hC (tgt := 110) dX1_look_27 (by decide) (fun hq2 => ?_) (fun hq2 => ?_)
          · omega
          refine nd_aload_n hC dX1_look_30 rfl rfl ?_
          refine nd_getN (ci := nX39) hC in_X39 rfl H1 4 (by decide) q2510 (fun _ z => z) rfl dX1_look_31 ?_
          refine nd_if_le hC (tgt := 110) dX1_look_34 (by decide) (fun hq3 => ?_) (fun _ => ?_)
          · exfalso
            rw [Int32.le_iff_toInt_le, nI_toInt (by omega), Int32.toInt_zero] at hq3
            omega
          refine nd_iconst hC (v := nI 0) (by rfl) dX1_look_37 ?_
          refine nd_istore hC dX1_look_38 (Nat.le_of_ble_eq_true rfl) ?_
          refine nd_aload_n hC dX1_look_40 rfl rfl ?_
          refine nd_getN (ci := nX39) hC in_X39 rfl H1 3 (by decide) q2508 (fun _ z => z) rfl dX1_look_41 ?_
          refine nd_iload hC dX1_look_44 rfl ?_
          refine nd_aaloadN hC rfl rfl H3 (by omega) (by omega) dX1_look_46 ?_
          refine nd_astore hC dX1_look_47 (Nat.le_of_ble_eq_true rfl) rfl ?_
          refine nd_aload hC dX1_look_49 rfl rfl ?_
          refine nd_alen hC rfl rk dX1_look_51 ?_
          refine nd_istore hC dX1_look_52 (Nat.le_of_ble_eq_true rfl) ?_
          refine nd_iconst hC (v := nI 0) (by rfl) dX1_look_54 ?_
          refine nd_istore hC dX1_look_55 (Nat.le_of_ble_eq_true rfl) ?_
          refine nd_lv (lv2 := [some (.ref 0), some (.int x), some (.int (nI m)), some (.ref h.length), some (.int (lo_cx fc k).1), some (.int (nI (lo_cx fc k).2)), some (.int (nI k)), some (.int (nI 0)), some (.ref (h.length + 2 + 1 + k)), some (.int (nI 100)), some (.int (nI 0)), l11]) rfl ?_
          have LI : ∀ i, i ≤ 100 → ∀ l11, nd_W g mX1_look d 16 670 K X 57 [some (.ref 0), some (.int x), some (.int (nI m)), some (.ref h.length), some (.int (lo_cx fc k).1), some (.int (nI (lo_cx fc k).2)), some (.int (nI k)), some (.int (nI (lo_nx fc k i))), some (.ref (h.length + 2 + 1 + k)), some (.int (nI 100)), some (.int (nI i)), l11] [] h2 (0 + 15) (0 + 660) := by
            refine nd_for _ _ ?_ ?_
            · intro l11
              have b4 := b3 100 (Nat.le_refl _)
              refine nd_iload hC dX1_look_57 rfl ?_
              refine nd_iload hC dX1_look_59 rfl ?_
              first | with_reducible refine nd_icmp_geN hC (tgt := 86) (by omega) (by omega) dX1_look_61 (by decide) (fun hq4 => ?_) (fun hq4 => ?_) | refine nd_icmp_ge hC (tgt := 86) dX1_look_61 (by decide) (fun hq4 => ?_) (fun hq4 => ?_)
              rotate_left
              · omega
              refine nd_iload hC dX1_look_86 rfl ?_
              refine nd_iload hC dX1_look_88 rfl ?_
              first | with_reducible refine nd_icmp_ltN hC (tgt := 96) (by omega) (by omega) dX1_look_90 (by decide) (fun hq5 => ?_) (fun hq5 => ?_) | refine nd_icmp_lt hC (tgt := 96) dX1_look_90 (by decide) (fun hq5 => ?_) (fun hq5 => ?_)
              · have ec : lo_cx fc (k + 1) = (nI k, lo_nx fc k 100) := if_pos (by omega)
                rw [ec] at ih
                refine nd_iload hC dX1_look_96 rfl ?_
                refine nd_istore hC dX1_look_98 (Nat.le_of_ble_eq_true rfl) ?_
                refine nd_iload hC dX1_look_100 rfl ?_
                refine nd_istore hC dX1_look_102 (Nat.le_of_ble_eq_true rfl) ?_
                first | with_reducible refine nd_iincN hC dX1_look_104 rfl (Nat.le_of_ble_eq_true rfl) ?_ | refine nd_iinc hC dX1_look_104 rfl rfl (Nat.le_of_ble_eq_true rfl) ?_
                refine nd_goto hC (tgt := 18) dX1_look_107 (by decide) ?_
                exact ih _ _ _ _ _
              · have ec : lo_cx fc (k + 1) = lo_cx fc k := if_neg (by omega)
                rw [ec] at ih
                refine nd_goto hC (tgt := 104) dX1_look_93 (by decide) ?_
                first | with_reducible refine nd_iincN hC dX1_look_104 rfl (Nat.le_of_ble_eq_true rfl) ?_ | refine nd_iinc hC dX1_look_104 rfl rfl (Nat.le_of_ble_eq_true rfl) ?_
                refine nd_goto hC (tgt := 18) dX1_look_107 (by decide) ?_
                exact ih _ _ _ _ _
            · intro i hi ihi l11
              have b4 := b3 i (by omega)
              have v1 := hfc (100 * k + i) (by omega)
              refine nd_iload hC dX1_look_57 rfl ?_
              refine nd_iload hC dX1_look_59 rfl ?_
              first | with_reducible refine nd_icmp_geN hC (tgt := 86) (by omega) (by omega) dX1_look_61 (by decide) (fun hq4 => ?_) (fun hq4 => ?_) | refine nd_icmp_ge hC (tgt := 86) dX1_look_61 (by decide) (fun hq4 => ?_) (fun hq4 => ?_)
              · omega
              refine nd_aload hC dX1_look_64 rfl rfl ?_
              refine nd_iload hC dX1_look_66 rfl ?_
              refine nd_ialoadN hC rk hi (by omega) dX1_look_68 ?_
              rw [vk i hi, v1.1]
              have v2 := v1.2
              refine nd_istore hC dX1_look_69 (Nat.le_of_ble_eq_true rfl) ?_
              refine nd_iload hC dX1_look_71 rfl ?_
              refine nd_iload hC dX1_look_73 rfl ?_
              first | ((with_reducible refine nd_tst2 ?_); refine nd_mmaxN hC (by omega) (by omega) q1056 (by omega) (by omega) (by exact Nat.le_of_ble_eq_true rfl) dX1_look_75 ?_) | refine nd_mmax hC q1056 (by omega) (by omega) (by exact Nat.le_of_ble_eq_true rfl) dX1_look_75 ?_
              refine nd_istore hC dX1_look_78 (Nat.le_of_ble_eq_true rfl) ?_
              first | with_reducible refine nd_iincN hC dX1_look_80 rfl (Nat.le_of_ble_eq_true rfl) ?_ | refine nd_iinc hC dX1_look_80 rfl rfl (Nat.le_of_ble_eq_true rfl) ?_
              refine nd_goto hC (tgt := 57) dX1_look_83 (by decide) ?_
              exact ihi _
          exact LI 0 (Nat.zero_le _) _
      exact LP 0 (Nat.zero_le _) _ _ _ _ _
  · rw [if_neg hne] at hk1
    exact nd_out hC rfl (by omega) (by omega) (hk1 hne _ _ ⟨hs.app, o, nap, ds, gi, dss, hK.f cw_f.rfl.app⟩ (cw_f.rfl.app.fr hl123))
end CP91

