set_option maxRecDepth 100000
/-! ===== stackOf, stands, stacks, stack ===== -/
section CP88
variable {g : nd_G} {d : Nat} {K : nd_K} {h : nd_H} {o : Nat → Nat} {nap : Nat} {ds : List Nat} {gi : Nat → Value} {dss : Nat → List Nat} {S : sy_S}
theorem sk_m_succ {n : Nat} {v : List Int64} {k w : Nat} (hw : w < n) (e : v.getD k 0 = lN w) (h31 : w < 2 ^ 31) : sk_m n v (k + 1) = sk_m n v k ||| 2 ^ w := by
  show sk_m n v k ||| _ = _
  rw [e, lN_toInt h31, if_pos (by omega), Int.toNat_natCast]
theorem cx_stackOf (hg : nd_OK g) (hd : 3 ≤ d) (hS : sy_ok S) (hs : cw_S h) (hK : cw_K o nap ds gi dss S h) {x : Int32} (hk : sk_f x S = 0 → ty_stk (sy_n S) (ty_v x S) = true → ∀ sf : Nat → Int32, (∀ i, i < sy_n S → sf i = nI ((ty_v x S).getD i 0).toInt.toNat) → K (.inl (some (.ref h.length))) (h ++ [.inl (0, sy_n S, .inl sf)])) (he : sk_f x S ≠ 0 → ∀ k js, K (.inr (ex3 eNSE eISE eIAE (sk_f x S), k)) (h ++ js)) : nd_M g mX1_stackOf d 12 72 [.ref 0, .int x] h K := by
  have hn : sy_n S ≤ 6 := hS.1.1.1
  obtain ⟨⟨x0, hO⟩, -, hkk, -⟩ := id hK
  unfold cx_O at hO
  obtain ⟨fr, bk, fo, mn, hSt, hcv⟩ := id hkk.2.1
  obtain ⟨fa, b1, b2, b3, b4, b5, b6, m, ed, n1, n2, n3, n4⟩ := hkk.1.c
  refine nd_enter hg (by decide) rfl (Nat.le_of_ble_eq_true rfl) (fun X hC => ?_)
  refine nd_aload_n hC dX1_stackOf_0 rfl rfl ?_
  refine nd_iload_n hC dX1_stackOf_1 rfl ?_
  refine nd_callV (mm2 := mX1_trayOf) (As := [_]) (mc2 := 1) (ms2 := 6) (d2 := d - 1) hC rfl lkX1_332 ⟨rfl, lmX1_trayOf⟩ (hO) rfl (Nat.le_of_ble_eq_true rfl) (by omega) rfl (by exact Nat.le_of_ble_eq_true rfl) (by omega) (by omega) dX1_stackOf_2 rfl ((cx_trayOf hg (by omega) hK (fun hc t ht hx => ?_) (fun hc n => ?_)))
  rotate_left
  · have em : sk_f x S = 1 := by unfold sk_f; rw [ty_f1 hc]; rfl
    rw [em] at he
    exact nd_out hC rfl (by omega) (by omega) (he (by decide) _ _)
  rcases ty_cases hK hc ht hx with ⟨q1, q2⟩ | ⟨q, b, q1, q2, q3, q4, q5, q6⟩
  · have em : sk_f x S = 2 := by unfold sk_f; rw [q1]; rfl
    rw [em] at he
    refine nd_astore_n hC dX1_stackOf_5 (Nat.le_of_ble_eq_true rfl) rfl ?_
    refine nd_aload_n hC dX1_stackOf_6 rfl rfl ?_
    refine nd_callS (mm2 := mX1_mustBe) (As := [_]) (mc2 := 1) (ms2 := 6) (d2 := d - 1) hC rfl lkX1_336 lmX1_mustBe (Nat.le_of_ble_eq_true rfl) (by omega) rfl (by exact Nat.le_of_ble_eq_true rfl) (by omega) (by omega) dX1_stackOf_7 rfl ((cx_mustBeN hg (by omega) q2 (fun n => ?_)))
    exact nd_out hC rfl (by omega) (by omega) (he (by decide) _ _)
  have hlen : q.2.length ≤ 30 := (hS.2.2.1 t ht q q4).2
  have em : sk_f x S = if ty_stk (sy_n S) q.2 = true then 0 else 3 := by unfold sk_f; rw [q1, q2, if_pos rfl]
  rw [q2] at hk
  have bad : ¬ ty_stk (sy_n S) q.2 = true → ∀ k js, K (.inr (eIAE, k)) (h ++ js) := by
    intro z k js
    rw [em, if_neg z] at he
    exact he (by decide) k js
  refine nd_astore_n hC dX1_stackOf_5 (Nat.le_of_ble_eq_true rfl) rfl ?_
  refine nd_aload_n hC dX1_stackOf_6 rfl rfl ?_
  refine nd_callS (mm2 := mX1_mustBe) (As := [_]) (mc2 := 1) (ms2 := 6) (d2 := d - 1) hC rfl lkX1_336 lmX1_mustBe (Nat.le_of_ble_eq_true rfl) (by omega) rfl (by exact Nat.le_of_ble_eq_true rfl) (by omega) (by omega) dX1_stackOf_7 rfl ((cx_mustBeR hg (by omega) q5 ?_))
  refine nd_aload_n hC dX1_stackOf_10 rfl rfl ?_
  refine nd_callV (mm2 := mX6_size) (As := []) (mc2 := 0) (ms2 := 0) (d2 := d - 1) hC rfl lkX1_340 ⟨rfl, lmX6_size⟩ (q5) rfl (Nat.le_of_ble_eq_true rfl) (by omega) rfl (by exact Nat.le_of_ble_eq_true rfl) (by omega) (by omega) dX1_stackOf_11 rfl ((ty_size hg q6 hlen ?_))
  refine nd_aload_n hC dX1_stackOf_14 rfl rfl ?_
  refine nd_callV (mm2 := mX1_cells) (As := []) (mc2 := 0) (ms2 := 0) (d2 := d - 1) hC rfl lkX1_214 ⟨rfl, lmX1_cells⟩ (hO) rfl (Nat.le_of_ble_eq_true rfl) (by omega) rfl (by exact Nat.le_of_ble_eq_true rfl) (by omega) (by omega) dX1_stackOf_15 rfl ((cx_cells hg (by omega) (hK.P hs) ?_))
  show nd_W _ _ _ _ _ _ _ _ _ [.int (nI (sy_n S)), .int (nI q.2.length)] _ _ _
  first | with_reducible refine nd_icmp_neN hC (tgt := 25) (by omega) (by omega) dX1_stackOf_18 (by decide) (fun hq => ?_) (fun hq => ?_) | refine nd_icmp_ne hC (tgt := 25) dX1_stackOf_18 (by decide) (fun hq => ?_) (fun hq => ?_)
  · refine nd_iconst hC (v := nI 0) (by rfl) dX1_stackOf_25 ?_
    refine nd_callS (mm2 := mX1_needs) (As := [_]) (mc2 := 1) (ms2 := 6) (d2 := d - 1) hC rfl lkX1_110 lmX1_needs (Nat.le_of_ble_eq_true rfl) (by omega) rfl (by exact Nat.le_of_ble_eq_true rfl) (by omega) (by omega) dX1_stackOf_26 rfl ((ci_needs (b := false) hg (fun z => by cases z) (fun _ n => ?_)))
    refine nd_out hC rfl (by omega) (by omega) (bad (fun z => ?_) _ _)
    exact absurd (ty_stk_iff.mp z).1 (by omega)
  have hvl : q.2.length = sy_n S := by omega
  refine nd_iconst hC (v := nI 1) (by rfl) dX1_stackOf_21 ?_
  refine nd_goto hC (tgt := 26) dX1_stackOf_22 (by decide) ?_
  refine nd_callS (mm2 := mX1_needs) (As := [_]) (mc2 := 1) (ms2 := 6) (d2 := d - 1) hC rfl lkX1_110 lmX1_needs (Nat.le_of_ble_eq_true rfl) (by omega) rfl (by exact Nat.le_of_ble_eq_true rfl) (by omega) (by omega) dX1_stackOf_26 rfl ((ci_needs (b := true) hg (fun _ => ?_) (fun z => by cases z)))
  refine nd_aload_n hC dX1_stackOf_29 rfl rfl ?_
  refine nd_callV (mm2 := mX1_cells) (As := []) (mc2 := 0) (ms2 := 0) (d2 := d - 1) hC rfl lkX1_214 ⟨rfl, lmX1_cells⟩ (hO) rfl (Nat.le_of_ble_eq_true rfl) (by omega) rfl (by exact Nat.le_of_ble_eq_true rfl) (by omega) (by omega) dX1_stackOf_30 rfl ((cx_cells hg (by omega) (hK.P hs) ?_))
  show nd_W _ _ _ _ _ _ _ _ _ [.int (nI (sy_n S))] _ _ _
  refine nd_newarray hC (atype := .int) (ty := 0) .int (.inl (fun _ => 0)) q322 rfl rfl (fun _ _ => rfl) (N := sy_n S) rfl (nI_toInt (by omega)) (by show sy_n S * 4 ≤ 536870912; omega) (by omega) (by omega) dX1_stackOf_33 ?_
  refine nd_widen (cs2 := 4) (ss2 := 24) (by omega) (by omega) ?_
  refine nd_astore_n hC dX1_stackOf_35 (Nat.le_of_ble_eq_true rfl) rfl ?_
  refine nd_iconst hC (v := nI 0) (by rfl) dX1_stackOf_36 ?_
  refine nd_istore hC dX1_stackOf_37 (Nat.le_of_ble_eq_true rfl) ?_
  refine nd_iconst hC (v := nI 0) (by rfl) dX1_stackOf_39 ?_
  refine nd_istore hC dX1_stackOf_40 (Nat.le_of_ble_eq_true rfl) ?_
  have kh : ∀ (c : nd_C) a y, h[a]? = some y → (h ++ [c])[a]? = some y := fun c a y e => (List.getElem?_append_left (nd_get_lt e)).trans e
  have LP : ∀ k, k ≤ sy_n S → ∀ sf : Nat → Int32, (∀ i, i < k → sf i = nI (q.2.getD i 0).toInt.toNat) → (∀ i, i < k → (0 ≤ (q.2.getD i 0).toInt ∧ (q.2.getD i 0).toInt ≤ (sy_n S : Int) - 1) ∧ (sk_m (sy_n S) q.2 i).testBit (q.2.getD i 0).toInt.toNat = false) → nd_W g mX1_stackOf d 12 72 K X 42 [some (.ref 0), some (.int x), some (.ref (96 + t)), some (.ref h.length), some (.int (nI (sk_m (sy_n S) q.2 k))), some (.int (nI k))] [] (h ++ [.inl (0, sy_n S, .inl sf)]) (4 + k) (24 + 6 * k) := by
    refine nd_for _ _ ?_ ?_
    · intro sf hsf hall
      have hA : (h ++ [(.inl (0, sy_n S, .inl sf) : nd_C)])[h.length]? = some (.inl (0, sy_n S, .inl sf)) := l_at_last
      have ok := sk_done hn hvl hall
      refine nd_iload hC dX1_stackOf_42 rfl ?_
      refine nd_aload_n hC dX1_stackOf_44 rfl rfl ?_
      refine nd_alen hC rfl hA dX1_stackOf_45 ?_
      first | with_reducible refine nd_icmp_geN hC (tgt := 119) (by omega) (by omega) dX1_stackOf_46 (by decide) (fun hq2 => ?_) (fun hq2 => ?_) | refine nd_icmp_ge hC (tgt := 119) dX1_stackOf_46 (by decide) (fun hq2 => ?_) (fun hq2 => ?_)
      · refine nd_aload_n hC dX1_stackOf_119 rfl rfl ?_
        refine nd_areturn hC rfl (by first | exact Or.inl ⟨_, rfl⟩ | exact Or.inr ⟨_, rfl⟩) (by rfl) (by omega) (by omega) dX1_stackOf_120 ((hk (by rw [em, if_pos ok]) ok sf hsf))
      · omega
    · intro k hkn ih sf hsf hall
      generalize hcc : (.inl (0, sy_n S, .inl sf) : nd_C) = cc
      have hA : (h ++ [cc])[h.length]? = some (.inl (0, sy_n S, .inl sf)) := by rw [← hcc]; exact l_at_last
      have hO1 := kh cc _ _ hO
      have hS1 := kh cc _ _ hSt.1
      have hN1 := kh cc _ _ n3
      have hN2 := kh cc _ _ n4
      have q51 := kh cc _ _ q5
      have hK1 := hK.f (cw_f.rfl.app (js := [cc]))
      have q61 : ty_at (h ++ [cc]) (96 + t) (some q) := by
        obtain ⟨b9, r1, n9, a9, r2, r3⟩ := q6
        exact ⟨b9, kh cc _ _ r1, n9, a9, kh cc _ _ r2, r3⟩
      have hmlt := sk_m_lt (v := q.2) hn k
      refine nd_iload hC dX1_stackOf_42 rfl ?_
      refine nd_aload_n hC dX1_stackOf_44 rfl rfl ?_
      refine nd_alen hC rfl hA dX1_stackOf_45 ?_
      first | with_reducible refine nd_icmp_geN hC (tgt := 119) (by omega) (by omega) dX1_stackOf_46 (by decide) (fun hq2 => ?_) (fun hq2 => ?_) | refine nd_icmp_ge hC (tgt := 119) dX1_stackOf_46 (by decide) (fun hq2 => ?_) (fun hq2 => ?_)
      · omega
      refine nd_aload_n hC dX1_stackOf_49 rfl rfl ?_
      refine nd_get (ci := nX1) hC in_X1 rfl hO1 0 (by decide) q384 (fun _ z => z) rfl dX1_stackOf_50 ?_
      refine nd_getN (ci := nX2) hC in_X2 rfl hS1 0 (by decide) q301 (fun _ z => z) rfl dX1_stackOf_53 ?_
      refine nd_aload_n hC dX1_stackOf_56 rfl rfl ?_
      refine nd_iload hC dX1_stackOf_57 rfl ?_
      refine nd_callV (mm2 := mX6_at) (As := [_]) (mc2 := 0) (ms2 := 0) (d2 := d - 1) hC rfl lkX1_341 ⟨rfl, lmX6_at⟩ (q51) rfl (Nat.le_of_ble_eq_true rfl) (by omega) rfl (by exact Nat.le_of_ble_eq_true rfl) (by omega) (by omega) dX1_stackOf_59 rfl ((ty_get hg q61 hlen (by omega) ?_))
      refine nd_callV (mm2 := mX3_isCell) (As := [_]) (mc2 := 0) (ms2 := 0) (d2 := d - 1) hC rfl lkX1_171 ⟨rfl, lmX3_isCell⟩ (hN1) rfl (Nat.le_of_ble_eq_true rfl) (by omega) rfl (by exact Nat.le_of_ble_eq_true rfl) (by omega) (by omega) dX1_stackOf_62 rfl ((cn_isCell (n := sy_n S) hg (by omega) hK1.2.2.1.1.c hn ?_))
      have JB : ¬ ((0 ≤ (q.2.getD k 0).toInt ∧ (q.2.getD k 0).toInt ≤ (sy_n S : Int) - 1) ∧ (sk_m (sy_n S) q.2 k).testBit (q.2.getD k 0).toInt.toNat = false) → nd_W g mX1_stackOf d 12 72 K X 87 [some (.ref 0), some (.int x), some (.ref (96 + t)), some (.ref h.length), some (.int (nI (sk_m (sy_n S) q.2 k))), some (.int (nI k))] [] (h ++ [cc]) (4 + k) (24 + 6 * k) := by
        intro hb
        refine nd_iconst hC (v := nI 0) (by rfl) dX1_stackOf_87 ?_
        refine nd_callS (mm2 := mX1_needs) (As := [_]) (mc2 := 1) (ms2 := 6) (d2 := d - 1) hC rfl lkX1_110 lmX1_needs (Nat.le_of_ble_eq_true rfl) (by omega) rfl (by exact Nat.le_of_ble_eq_true rfl) (by omega) (by omega) dX1_stackOf_88 rfl ((ci_needs (b := false) hg (fun z => by cases z) (fun _ n => ?_)))
        refine nd_out hC rfl (by omega) (by omega) ?_
        rw [List.append_assoc]
        exact bad (fun z => hb (sk_step hn hvl z hkn)) _ _
      first | with_reducible refine nd_if_eqB hC (tgt := 87) dX1_stackOf_65 (by decide) (fun hq3 => ?_) (fun hq3 => ?_) | with_reducible refine nd_if_eqN hC (tgt := 87) (by omega) dX1_stackOf_65 (by decide) (fun hq3 => ?_) (fun hq3 => ?_) | refine nd_if_eq hC (tgt := 87) dX1_stackOf_65 (by decide) (fun hq3 => ?_) (fun hq3 => ?_)
      · exact JB (fun z => absurd z.1 (of_decide_eq_false hq3))
      have hr := of_decide_eq_true hq3
      obtain ⟨w, hw⟩ : ∃ w : Nat, (q.2.getD k 0).toInt = (w : Int) := ⟨(q.2.getD k 0).toInt.toNat, by omega⟩
      have ew : q.2.getD k 0 = lN w := lN_of_toInt hw (by omega)
      have hw6 : w < sy_n S := by omega
      have et : (q.2.getD k 0).toInt.toNat = w := by omega
      refine nd_iload hC dX1_stackOf_68 rfl ?_
      refine nd_aload_n hC dX1_stackOf_70 rfl rfl ?_
      refine nd_iload hC dX1_stackOf_71 rfl ?_
      refine nd_callV (mm2 := mX6_at) (As := [_]) (mc2 := 0) (ms2 := 0) (d2 := d - 1) hC rfl lkX1_341 ⟨rfl, lmX6_at⟩ (q51) rfl (Nat.le_of_ble_eq_true rfl) (by omega) rfl (by exact Nat.le_of_ble_eq_true rfl) (by omega) (by omega) dX1_stackOf_73 rfl ((ty_get hg q61 hlen (by omega) ?_))
      rw [ew]
      refine nd_l2iN hC dX1_stackOf_76 ?_
      refine nd_callS (mm2 := mX1_has) (As := [_, _]) (mc2 := 0) (ms2 := 0) (d2 := d - 1) hC rfl lkX1_438 lmX1_has (Nat.le_of_ble_eq_true rfl) (by omega) rfl (by exact Nat.le_of_ble_eq_true rfl) (by omega) (by omega) dX1_stackOf_77 rfl ((ci_has hg hmlt (by omega) ?_))
      cases eb : (sk_m (sy_n S) q.2 k).testBit w with
      | true =>
        refine nd_if_neB hC (tgt := 87) dX1_stackOf_80 (by decide) (fun hq => ?_) (fun hq => absurd hq (by decide))
        exact JB (fun z => by rw [et, eb] at z; exact absurd z.2 (by decide))
      | false =>
        refine nd_if_neB hC (tgt := 87) dX1_stackOf_80 (by decide) (fun hq => absurd hq (by decide)) (fun hq => ?_)
        refine nd_iconst hC (v := nI 1) (by rfl) dX1_stackOf_83 ?_
        refine nd_goto hC (tgt := 88) dX1_stackOf_84 (by decide) ?_
        refine nd_callS (mm2 := mX1_needs) (As := [_]) (mc2 := 1) (ms2 := 6) (d2 := d - 1) hC rfl lkX1_110 lmX1_needs (Nat.le_of_ble_eq_true rfl) (by omega) rfl (by exact Nat.le_of_ble_eq_true rfl) (by omega) (by omega) dX1_stackOf_88 rfl ((ci_needs (b := true) hg (fun _ => ?_) (fun z => by cases z)))
        refine nd_aload_n hC dX1_stackOf_91 rfl rfl ?_
        refine nd_iload hC dX1_stackOf_92 rfl ?_
        refine nd_aload_n hC dX1_stackOf_94 rfl rfl ?_
        refine nd_iload hC dX1_stackOf_95 rfl ?_
        refine nd_callV (mm2 := mX6_at) (As := [_]) (mc2 := 0) (ms2 := 0) (d2 := d - 1) hC rfl lkX1_341 ⟨rfl, lmX6_at⟩ (q51) rfl (Nat.le_of_ble_eq_true rfl) (by omega) rfl (by exact Nat.le_of_ble_eq_true rfl) (by omega) (by omega) dX1_stackOf_97 rfl ((ty_get hg q61 hlen (by omega) ?_))
        rw [ew]
        refine nd_l2iN hC dX1_stackOf_100 ?_
        refine nd_iastoreN hC hA hkn (by omega) dX1_stackOf_101 ?_
        rw [l_set_last]
        have hA2 : (h ++ [(.inl (0, sy_n S, .inl (upd sf k (nI w))) : nd_C)])[h.length]? = some (.inl (0, sy_n S, .inl (upd sf k (nI w)))) := l_at_last
        refine nd_iload hC dX1_stackOf_102 rfl ?_
        refine nd_iconst hC (v := nI 1) (by rfl) dX1_stackOf_104 ?_
        refine nd_aload_n hC dX1_stackOf_105 rfl rfl ?_
        refine nd_iload hC dX1_stackOf_106 rfl ?_
        refine nd_ialoadN hC hA2 (by omega) (by omega) dX1_stackOf_108 ?_
        refine nd_v_eq (congrArg Value.int (upd_s ..)) ?_
        refine nd_ishl hC dX1_stackOf_109 ?_
        rw [bt_shl (show w < 6 by omega)]
        refine nd_ior hC dX1_stackOf_110 ?_
        rw [nx_or, ← sk_m_succ hw6 ew (by omega)]
        refine nd_istore hC dX1_stackOf_111 (Nat.le_of_ble_eq_true rfl) ?_
        first | with_reducible refine nd_iincN hC dX1_stackOf_113 rfl (Nat.le_of_ble_eq_true rfl) ?_ | refine nd_iinc hC dX1_stackOf_113 rfl rfl (Nat.le_of_ble_eq_true rfl) ?_
        refine nd_goto hC (tgt := 42) dX1_stackOf_116 (by decide) ?_
        refine nd_widen (by omega) (by omega) (ih _ (fun i hi => ?_) (fun i hi => ?_))
        · by_cases z : i = k
          · subst z; rw [upd_s, et]
          · rw [upd_n z]; exact hsf i (by omega)
        · by_cases z : i = k
          · subst z; exact ⟨hr, by rw [et]; exact eb⟩
          · exact hall i (by omega)
  exact LP 0 (Nat.zero_le _) _ (fun i hi => absurd hi (Nat.not_lt_zero _)) (fun i hi => absurd hi (Nat.not_lt_zero _))
theorem cp_stands_2 (hg : nd_OK g) (hd : 8 ≤ d) (x : Int32) : cp_ok g mX1_stands_2 d 14 90 [.int x] (ex3 eNSE eISE eIAE) (mp_i (op_stands x)) := by
  intro S h K hS hI hl123 hk0 hk1
  obtain ⟨hs, o, nap, ds, gi, dss, hK⟩ := hI
  obtain ⟨⟨x0, hO⟩, h17, hkk, -⟩ := id hK
  unfold cx_O at hO
  have hok := sy_l_ok hS
  have hwd := lk_width hok
  have hn : sy_n S ≤ 6 := hS.1.1.1
  have h5 := sy_len5 hS
  obtain ⟨sfr, sbk, sfo, smn, hSt, hcv⟩ := id hkk.2.1
  obtain ⟨hSt1, hSt2, hSt3, hSt4⟩ := id hSt
  have hcv : cs_v sfr sbk sfo smn (sy_c S) := hcv
  have hsv : sv_ok (sy_n S) (sy_c S) := hS.1.2.1
  unfold mp_i op_stands at hk0 hk1
  refine nd_enter hg (by decide) rfl (Nat.le_of_ble_eq_true rfl) (fun X hC => ?_)
  refine nd_aload_n hC dX1_stands_2_0 rfl rfl ?_
  refine nd_iload_n hC dX1_stands_2_1 rfl ?_
  refine nd_callV (mm2 := mX1_stackOf) (As := [_]) (mc2 := 12) (ms2 := 72) (d2 := d - 1) hC rfl lkX1_450 ⟨rfl, lmX1_stackOf⟩ (hO) rfl (Nat.le_of_ble_eq_true rfl) (by omega) rfl (by exact Nat.le_of_ble_eq_true rfl) (by omega) (by omega) dX1_stands_2_2 rfl ((cx_stackOf hg (by omega) hS hs hK (fun hm hst sf hsf => ?_) (fun hne k js => ?_)))
  · rw [if_pos hm] at hk0
    have hvl := (ty_stk_iff.mp hst).1
    have hin := sk_in hn hvl hst
    have hsl : ∀ i, i < sy_n S → ((ty_v x S).getD i 0).toInt.toNat < sy_n S := fun i hi => by
      obtain ⟨w, hw, e⟩ := hin i hi
      rw [e, lN_toInt (by omega)]; omega
    refine nd_callS (mm2 := mX1_stands) (As := [_]) (mc2 := 1) (ms2 := 6) (d2 := d - 1) hC rfl lkX1_454 lmX1_stands (Nat.le_of_ble_eq_true rfl) (by omega) rfl (by exact Nat.le_of_ble_eq_true rfl) (by omega) (by omega) dX1_stands_2_5 rfl ((ci_stands (s := fun i => ((ty_v x S).getD i 0).toInt.toNat) hg (by omega) hn l_at_last hsf hsl (fun c => ?_)))
    have es : ∀ k, sc_pl (fun i => ((ty_v x S).getD i 0).toInt.toNat) k = st_lay (ty_v x S) k := by
      intro k
      induction k with
      | zero => rfl
      | succ k ih => show pupd _ _ _ = pupd _ _ _; rw [ih]
    have hinj : ∀ a b, a < sy_n S → b < sy_n S → sc_pl (fun i => ((ty_v x S).getD i 0).toInt.toNat) (sy_n S) a = sc_pl (fun i => ((ty_v x S).getD i 0).toInt.toNat) (sy_n S) b → a = b := by
      intro a b ha hb e
      have cov : ∀ c, c < sy_n S → ∃ j, j < sy_n S ∧ ((ty_v x S).getD j 0).toInt.toNat = c := fun c hc => by
        obtain ⟨j, hj, e⟩ := (ty_stk_iff.mp hst).2 c hc
        exact ⟨j, hj, by rw [e, lN_toInt (by omega)]; omega⟩
      have h1 := (sc_pl_inv (fun i => ((ty_v x S).getD i 0).toInt.toNat) a _ (cov a ha)).2
      have h2 := (sc_pl_inv (fun i => ((ty_v x S).getD i 0).toInt.toNat) b _ (cov b hb)).2
      rw [e] at h1
      exact h1.symm.trans h2
    rw [cs_okI_eq hinj, es]
    refine nd_ireturn hC rfl (by first | rfl | exact nd_b_nar _) (by omega) (by omega) dX1_stands_2_8 ((hk0 rfl _ ⟨hs.app.app, o, nap, ds, gi, dss, hK.f cw_f.rfl.app.app⟩ (cw_f.rfl.app.app.fr hl123)))
  · rw [if_neg hne] at hk1
    exact nd_out hC rfl (by omega) (by omega) (hk1 hne _ _ ⟨hs.app, o, nap, ds, gi, dss, hK.f cw_f.rfl.app⟩ (cw_f.rfl.app.fr hl123))
theorem cp_stacks (hg : nd_OK g) (hd : 40 ≤ d) : cp_ok g mX1_stacks d 730 4400 [] (ex1 eIAE) (mp_i (op_stacks)) := by
  intro S h K hS hI hl123 hk0 hk1
  obtain ⟨hs, o, nap, ds, gi, dss, hK⟩ := hI
  obtain ⟨⟨x0, hO⟩, h17, hkk, -⟩ := id hK
  unfold cx_O at hO
  have hok := sy_l_ok hS
  have hwd := lk_width hok
  have hn : sy_n S ≤ 6 := hS.1.1.1
  have h5 := sy_len5 hS
  obtain ⟨sfr, sbk, sfo, smn, hSt, hcv⟩ := id hkk.2.1
  obtain ⟨hSt1, hSt2, hSt3, hSt4⟩ := id hSt
  have hcv : cs_v sfr sbk sfo smn (sy_c S) := hcv
  have hsv : sv_ok (sy_n S) (sy_c S) := hS.1.2.1
  unfold mp_i op_stacks at hk0 hk1
  have e6 := sc_n6 (sy_n S) hn
  refine nd_enter hg (by decide) rfl (Nat.le_of_ble_eq_true rfl) (fun X hC => ?_)
  refine nd_aload_n hC dX1_stacks_0 rfl rfl ?_
  refine nd_aload_n hC dX1_stacks_1 rfl rfl ?_
  refine nd_callV (mm2 := mX1_cells) (As := []) (mc2 := 0) (ms2 := 0) (d2 := d - 1) hC rfl lkX1_214 ⟨rfl, lmX1_cells⟩ (hO) rfl (Nat.le_of_ble_eq_true rfl) (by omega) rfl (by exact Nat.le_of_ble_eq_true rfl) (by omega) (by omega) dX1_stacks_2 rfl ((cx_cells hg (by omega) (hK.P hs) ?_))
  show nd_W _ _ _ _ _ _ _ _ _ [.int (nI (sy_n S)), .ref 0] _ _ _
  refine nd_newarray hC (atype := .int) (ty := 0) .int (.inl (fun _ => 0)) q322 rfl rfl (fun _ _ => rfl) (N := sy_n S) rfl (nI_toInt (by omega)) (by show sy_n S * 4 ≤ 536870912; omega) (by omega) (by omega) dX1_stacks_5 ?_
  refine nd_widen (cs2 := 1) (ss2 := 6) (by omega) (by omega) ?_
  have hO1 := (List.getElem?_append_left (l₂ := [(.inl (0, sy_n S, .inl (fun _ => 0)) : nd_C)]) (nd_get_lt hO)).trans hO
  refine nd_iconst hC (v := nI 0) (by rfl) dX1_stacks_7 ?_
  refine nd_iconst hC (v := nI 0) (by rfl) dX1_stacks_8 ?_
  refine nd_callV (mm2 := mX1_stacksFrom) (As := [_, _, _]) (mc2 := sc_n (sy_n S) (sy_n S) 0) (ms2 := 6 * sc_n (sy_n S) (sy_n S) 0) (d2 := d - 1) hC rfl lkX1_458 ⟨rfl, lmX1_stacksFrom⟩ (hO1) rfl (Nat.le_of_ble_eq_true rfl) (by omega) rfl (by exact Nat.le_of_ble_eq_true rfl) (by omega) (by omega) dX1_stacks_9 rfl ((cx_stacksFrom hg hn (sy_n S) 0 (by omega) (d - 1) _ _ (fun _ => 0) 0 (fun _ => 0) (by omega) (by decide) (fun y hy => ⟨_, (Option.some.inj (hO1.symm.trans hy)).symm⟩) (by rw [List.length_append]; omega) l_at_last (by omega) (fun i hi => absurd hi (Nat.not_lt_zero _)) (fun i hi => absurd hi (Nat.not_lt_zero _)) (fun h2 f2 l2 o2 a2 q2 => ?_)))
  rw [List.length_append] at l2 o2
  have l2 : h.length + 1 ≤ h2.length := l2
  have o2 : ∀ a, a < h.length + 1 → a ≠ h.length → h2[a]? = (h ++ [(.inl (0, sy_n S, .inl (fun _ => 0)) : nd_C)])[a]? := o2
  have f2' : cw_f h h2 := ⟨by omega, fun a c e _ => by
    have := nd_get_lt e
    rw [o2 a (by omega) (by omega), List.getElem?_append_left this]; exact e⟩
  show nd_W _ _ _ _ _ _ _ _ _ [.int (nI (sc_go (sy_n S) (sy_n S) (fun _ => 0) 0))] _ _ _
  rw [sc_same (sy_n S) hn]
  refine nd_ireturn hC rfl (by first | rfl | exact nd_b_nar _) (by omega) (by omega) dX1_stacks_12 ((hk0 rfl h2 ⟨hs.kp (fun a ha => ?_), o, nap, ds, gi, dss, hK.f f2'⟩ (f2'.fr hl123)))
  have ha2 : a < h.length := by unfold cw_sc at ha; omega
  rw [o2 a (by omega) (by omega), List.getElem?_append_left ha2]
theorem stk_eq {n : Nat} {l : List (List Nat)} {v : List Int64} {sf : Nat → Int32} (hok : lk_ok n l) (hn : n ≤ 6) (hsf : ∀ i, i < n → sf i = nI (v.getD i 0).toInt.toNat) (hin : ∀ k, k < n → ∃ w : Nat, w < n ∧ v.getD k 0 = lN w) : (decide (l.length ≤ 1) && (List.range n).all (fun k => decide (nI ((l.getD 0 []).getD k 0 / 2) = sf k))) = lk_stack n l v := by
  unfold lk_stack
  by_cases h1 : l.length ≤ 1
  · rw [decide_eq_true h1, Bool.true_and, Bool.true_and]
    obtain ⟨hp, hlen⟩ := lk_one_col hok h1
    rw [Bool.eq_iff_iff, List.all_eq_true, List.all_eq_true]
    refine forall_congr' (fun k => imp_congr_right (fun hk => ?_))
    have hk := List.mem_range.mp hk
    obtain ⟨w, hw, e⟩ := hin k hk
    have hx := (lk_at_lt hok hn (x := (l.getD 0 []).getD k 0) ⟨hp (by omega), by omega, rfl⟩).1
    rw [hsf k hk, e, lN_toInt (by omega), Int.toNat_natCast, decide_eq_true_iff, decide_eq_true_iff, nI_eq (by omega) (by omega)]
    constructor
    · intro q; rw [q]
    · intro q
      have := congrArg Int64.toInt q
      rw [lN_toInt (by omega), lN_toInt (by omega)] at this
      omega
  · rw [decide_eq_false h1, Bool.false_and, Bool.false_and]
theorem cx_stackS (hg : nd_OK g) (hd : 38 ≤ d) {X : nd_X} {mc ms cs ss A : Nat} {x : Int32} {sf : Nat → Int32} (hC : nd_Cx g mX1_stack X) (hS : sy_ok S) (hs : cw_S h) (hK : cw_K o nap ds gi dss S h) (hl123 : 123 ≤ h.length) (hA123 : 123 ≤ A) (hA : h[A]? = some (.inl (0, sy_n S, .inl sf))) (hsf : ∀ i, i < sy_n S → sf i = nI ((ty_v x S).getD i 0).toInt.toNat) (hin : ∀ k, k < sy_n S → ∃ w : Nat, w < sy_n S ∧ (ty_v x S).getD k 0 = lN w) (hcs : cs + 6 ≤ mc) (hss : ss + 40 ≤ ms) (hk : ∀ h2, cw_S h2 → cw_f h h2 → K (.inl (some (.int (match fd_r (fun e => lk_stack (sy_n S) e.2 (ty_v x S)) (lv_all 5 (lk_flat (sy_n S))) with | none => -1 | some r => nI r.length)))) h2) : nd_W g mX1_stack d mc ms K X 6 [some (.ref 0), some (.int x), some (.ref A), none] [] h cs ss := by
  have hn : sy_n S ≤ 6 := hS.1.1.1
  have hAl := nd_get_lt hA
  refine nd_new (ci := nX31) hC [.null, .int 0, .long 0, .null, .null, .null, .null, .null, .null] in_X31 rfl tyX31 tyX31_ok q2328 q2329 q207 rfl rfl (by omega) (by omega) dX1_stack_6 ?_
  refine nd_dup hC (by rfl) dX1_stack_9 ?_
  refine nd_aload_n hC dX1_stack_10 rfl rfl ?_
  refine nd_aload_n hC dX1_stack_11 rfl rfl ?_
  refine nd_callI (mm2 := mX31_init) (As := [_, _]) (mc2 := 2) (ms2 := 10) (d2 := d - 1) hC rfl rfl q2332 q207 q2330 q2331 rfl lmX31_init (Nat.le_of_ble_eq_true rfl) (by omega) rfl (by exact Nat.le_of_ble_eq_true rfl) (by omega) (by omega) dX1_stack_12 rfl ((ni_X31 hg (by omega) (List.getElem?_concat_length ..) ?_))
  rw [show (h ++ [(.inr (nX31, [.null, .int 0, .long 0, .null, .null, .null, .null, .null, .null]) : nd_C)]).length = h.length + 1 by simp]
  generalize hh1 : ((h ++ [(.inr (nX31, [.null, .int 0, .long 0, .null, .null, .null, .null, .null, .null]) : nd_C)]).set h.length (.inr (nX31, [.ref (h.length + 1 + 1), .int (-1), .long be_min, .ref 0, .ref (h.length + 1), .ref 0, .ref 0, .ref A, .ref 0])) ++ [.inl (0, 5, .inl (fun _ => 0))]) ++ [.inl (0, 5, .inl (fun _ => 0))] = h1
  have e1 : h1[h.length]? = some (.inr (nX31, [.ref (h.length + 2), .int (-1), .long be_min, .ref 0, .ref (h.length + 1), .ref 0, .ref 0, .ref A, .ref 0])) := by
    rw [← hh1, List.getElem?_append_left (by simp)]; exact l_get_app (by simp)
  have e2 : h1[h.length + 1]? = some (.inl (0, 5, .inl (fun _ => 0))) := by
    rw [← hh1, List.getElem?_append_left (by simp), List.getElem?_append_right (by simp)]; simp
  have e3 : h1[h.length + 2]? = some (.inl (0, 5, .inl (fun _ => 0))) := by
    rw [← hh1, List.getElem?_append_right (by simp)]; simp
  have f1 : cw_f h h1 := by
    rw [← hh1]
    exact cw_f.app (cw_f.app (cw_f.set (cw_f.app cw_f.rfl) (Or.inl (Nat.le_refl _))))
  have hs1 : cw_S h1 := by
    rw [← hh1]
    exact cw_S.app (cw_S.app (cw_S.set hs.app (by omega)))
  refine nd_astore_n hC dX1_stack_15 (Nat.le_of_ble_eq_true rfl) rfl ?_
  refine nd_aload_n hC dX1_stack_16 rfl rfl ?_
  refine nd_iconst hC (v := nI 1) (by rfl) dX1_stack_17 ?_
  refine nd_iconst hC (v := nI 5) (by rfl) dX1_stack_18 ?_
  refine nd_callU (mm2 := mX20_seeks) (As := [_, _]) (mc2 := 0) (ms2 := 0) (d2 := d - 1) (owner := "NapkinDeeds$Rows") (x := ⟨"NapkinDeeds$Fewest", "seeks", "(ZI)LNapkinDeeds$Rows;"⟩) (n := 2) hC rfl (va_cwU 2 hC.hts (lw_U q2214 q2215 q2219 q812 q190 q813) rfl rfl rfl rfl ⟨by decide, by decide, by decide +kernel⟩ (nd_roomR (by omega) (by decide))) (e1) rfl (Nat.le_of_ble_eq_true rfl) (by omega) rfl (by exact Nat.le_of_ble_eq_true rfl) (by omega) (by omega) dX1_stack_19 rfl ((cw_seek (fl := true) (most := 5) (d0 := 20) (b := h.length) (rb := h.length + 1) (ci := nX31) (σ := Option (Int64 × List Nat)) (s0 := none) (see := bs_see (fw_val (fun e => lk_stack (sy_n S) e.2 (ty_v x S)))) (Bd := fun _ => True) (Ob := fun s h2 => ∃ fw mo bf, h2[h.length]? = some (.inr (nX31, [.ref (h.length + 2), .int fw, .long mo, .ref 0, .ref (h.length + 1), .ref 0, .ref 0, .ref A, .ref 0])) ∧ (∃ f, h2[h.length + 1]? = some (.inl (0, 5, .inl f))) ∧ h2[h.length + 2]? = some (.inl (0, 5, .inl bf)) ∧ be_st s fw mo bf) hg (by omega) (by omega) (Nat.le_refl 5) hS hK hl123 hs1 f1 (by omega) (by omega) ?_ ?_ ?_ ⟨_, _, _, e1, ⟨_, e2⟩, e3, rfl, rfl⟩ ?_ (fun h2 H hs2 f2 hl2 => ?_)))
  · intro s h2 H
    obtain ⟨fw, mo, bf, H1, H2, -⟩ := H
    exact ⟨⟨4, _, Or.inr (Or.inr (Or.inr (Or.inr (Or.inr (Or.inr (Or.inr (Or.inr (Or.inr (Or.inl ⟨rfl, rfl⟩))))))))), H1, rfl, rfl⟩, H2⟩
  · intro s h2 h3 H hl hf hr
    obtain ⟨fw, mo, bf, H1, H2, H3, H4⟩ := H
    exact ⟨fw, mo, bf, (hf _ (by omega) (by omega)).trans H1, hr, (hf _ (by omega) (by omega)).trans H3, H4⟩
  · intro d2 hd2 s r l h2 K2 hB H hs2 f2 hl hokl hrw hr5 kk
    obtain ⟨fw, mo, bf, H1, -, H3, H4⟩ := H
    obtain ⟨rf, H2, hrf⟩ := hrw
    have hK2 := hK.f f2
    have hfq : ∀ h3, ck_fr 94 1 h2 h3 → cw_f h h3 := fun h3 q => f2.trans (q.cwf (fun a a1 a2 => by unfold cw_sc; omega))
    have keep : ∀ h3, ck_fr 94 1 h2 h3 → cw_S h3 → bs_see (fw_val (fun e => lk_stack (sy_n S) e.2 (ty_v x S))) s (r, l) = s → K2 (.inl none) h3 := by
      intro h3 q1 q2 es
      refine kk h3 ?_ q2 (hfq h3 q1) q1.1 (fun a ha => q1.2 a (by omega))
      rw [es]
      exact ⟨fw, mo, bf, (q1.2 _ (by omega)).trans H1, ⟨rf, (q1.2 _ (by omega)).trans H2⟩, (q1.2 _ (by omega)).trans H3, H4⟩
    have take : ∀ h3 v, ck_fr 94 1 h2 h3 → cw_S h3 → v ≠ be_min → bs_see (fw_val (fun e => lk_stack (sy_n S) e.2 (ty_v x S))) s (r, l) = some (v, r) → K2 (.inl none) ((h3.set (h.length) (.inr (nX31, [.ref (h.length + 2), .int (nI r.length), .long v, .ref 0, .ref (h.length + 1), .ref 0, .ref 0, .ref A, .ref 0]))).set (h.length + 2) (.inl (0, 5, .inl (va_cpy rf bf 0 0 5)))) := by
      intro h3 v q1 q2 hv es
      have l1 : h.length < h3.length := by rw [q1.1]; exact nd_get_lt H1
      have l3 : h.length + 2 < h3.length := by rw [q1.1]; exact nd_get_lt H3
      refine kk _ ?_ ((q2.set (by omega)).set (by omega)) (((hfq h3 q1).set (Or.inl (by omega))).set (Or.inl (by omega))) (by rw [List.length_set, List.length_set]; exact q1.1) (fun a ha => by rw [List.getElem?_set_ne (by omega), List.getElem?_set_ne (by omega)]; exact q1.2 a (by omega))
      rw [es]
      refine ⟨nI r.length, v, va_cpy rf bf 0 0 5, ?_, ⟨rf, ?_⟩, List.getElem?_set_self (by rw [List.length_set]; exact l3), rfl, rfl, hv, be_rw hrf hr5, hr5⟩
      · rw [List.getElem?_set_ne (by omega)]; exact List.getElem?_set_self l1
      · rw [List.getElem?_set_ne (by omega), List.getElem?_set_ne (by omega)]; exact (q1.2 _ (by omega)).trans H2
    have hE : ∀ h3, ck_fr 94 1 h2 h3 → cw_S h3 → ∀ d3 K3, d2 ≤ d3 + 3 → (∀ h4, (ck_fr 94 1 h2 h4 ∧ cw_S h4) → K3 (.inl (some (.int (nd_b ((fun e => lk_stack (sy_n S) e.2 (ty_v x S)) (r, l)))))) h4) → nd_M g mX31_isSo d3 0 0 [.ref (h.length), .ref (18 + 9 * r.length), .int (nI (cr_fo (sy_c S) true + r.length))] h3 K3 := by
      intro h3 q1 q2 d3 K3 hd3 kq
      have hK3 := hK.f (hfq h3 q1)
      have hl3 := hl.fr q1 (by omega)
      have H13 := (q1.2 _ (by omega)).trans H1
      have hA3 := (hfq h3 q1).2 _ _ hA (cw_hi (by omega))
      refine cq_soX31 hg H13 hA3 hl3 hokl hn ?_
      rw [stk_eq hokl hn hsf hin]
      exact kq h3 ⟨q1, q2⟩
    refine Or.inr (Or.inr (Or.inl ⟨nX31, _, Or.inr (Or.inr (Or.inl rfl)), H1, cf_seesX31 (Q := fun h3 => ck_fr 94 1 h2 h3 ∧ cw_S h3) (v := (fun e => lk_stack (sy_n S) e.2 (ty_v x S)) (r, l)) hg (by omega) H1 (fun K3 kq => hE h2 ck_fr.rfl hs2 (d2 - 1) K3 (by omega) kq) (fun h3 q => q.1.2 _ (by omega)) (fun hv h3 q => keep h3 q.1 q.2 (by unfold bs_see fw_val; rw [if_neg (by rw [hv]; decide)])) (fun hv h3 K3 q kq => ?_)⟩))
    have hvx : (fw_val (fun e => lk_stack (sy_n S) e.2 (ty_v x S))) (r, l) = some (lN 1) := by unfold fw_val; rw [if_pos hv]
    have B := be_iff H4 hvx lN1_ne hr5
    refine cb_seesX31 (Q := fun h4 => ck_fr 94 1 h2 h4 ∧ cw_S h4) (v := lN 1) (f := rf) (bf := bf) hg (by omega) ((q.1.2 _ (by omega)).trans H1) ⟨by omega, by omega⟩ (fun K4 kq4 => ?_) (fun h4 q4 => ?_) (fun hno h4 q4 => kq h4 (keep h4 q4.1 q4.2 (B.1 hno))) (fun hno h4 q4 => kq _ (take h4 (lN 1) q4.1 q4.2 lN1_ne (B.2 hno)))
    · refine cf_valueX31 (Q := fun h4 => ck_fr 94 1 h2 h4 ∧ cw_S h4) (v := true) hg (by omega) ((q.1.2 _ (by omega)).trans H1) (fun K5 kq5 => ?_) (fun h4 q4 => kq4 h4 q4)
      have M := hE h3 q.1 q.2 (d2 - 1 - 1 - 1) K5 (by omega)
      rw [hv] at M
      exact M kq5
    · exact ⟨(q4.1.2 _ (by omega)).trans (q.1.2 _ (by omega)).symm, (q4.1.2 _ (by omega)).trans H2, (q4.1.2 _ (by omega)).trans H3⟩
  · exact df_B_T _ _ _
  · obtain ⟨fw, mo, bf, H1, H2, H3, H4⟩ := H
    have hK2 := hK.f f2
    rw [show cr_l0 (sy_N S) (sy_c S) true = lk_flat (sy_n S) from rfl, fd_eq] at H4
    refine nd_pop hC (by rfl) dX1_stack_22 ?_
    refine nd_aload_n hC dX1_stack_23 rfl rfl ?_
    refine nd_iconst hC (v := nI 0) (by rfl) dX1_stack_24 ?_
    refine nd_callU (mm2 := mX26_tells) (As := [_]) (mc2 := 0) (ms2 := 0) (d2 := d - 1) (owner := "NapkinDeeds$Fewest") (x := ⟨"NapkinDeeds$Fewest", "tells", "(I)I"⟩) (n := 1) hC rfl (va_cwU 1 hC.hts (lw_U q2220 q2222 q2226 q2221 q202 q2227) rfl rfl rfl rfl ⟨by decide, by decide, by decide +kernel⟩ (nd_roomR (by omega) (by decide))) (H1) rfl (Nat.le_of_ble_eq_true rfl) (by omega) rfl (by exact Nat.le_of_ble_eq_true rfl) (by omega) (by omega) dX1_stack_25 rfl ((be_tellsX31 hg (by omega) (what := 0) (Or.inl rfl) H1 H3 ?_))
    have o1 := (be_op H4 (x := nI 0) (by decide)).1
    rw [nI_cl (by decide)] at o1
    rw [o1]
    have ek : op_tR (fd_r (fun e => lk_stack (sy_n S) e.2 (ty_v x S)) (lv_all 5 (lk_flat (sy_n S)))) (nI 0) = (match fd_r (fun e => lk_stack (sy_n S) e.2 (ty_v x S)) (lv_all 5 (lk_flat (sy_n S))) with | none => -1 | some r => nI r.length) := by
      unfold op_tR
      cases fd_r (fun e => lk_stack (sy_n S) e.2 (ty_v x S)) (lv_all 5 (lk_flat (sy_n S))) with
      | none => rfl
      | some r => exact if_pos rfl
    rw [ek]
    refine nd_ireturn hC rfl (by first | rfl | exact nd_b_nar _) (by omega) (by omega) dX1_stack_28 ((hk h2 hs2 f2))
theorem cp_stack (hg : nd_OK g) (hd : 40 ≤ d) (x : Int32) : cp_ok g mX1_stack d 20 120 [.int x] (ex3 eNSE eISE eIAE) (mp_i (op_stack x)) := by
  intro S h K hS hI hl123 hk0 hk1
  obtain ⟨hs, o, nap, ds, gi, dss, hK⟩ := hI
  obtain ⟨⟨x0, hO⟩, h17, hkk, -⟩ := id hK
  unfold cx_O at hO
  have hok := sy_l_ok hS
  have hwd := lk_width hok
  have hn : sy_n S ≤ 6 := hS.1.1.1
  have h5 := sy_len5 hS
  obtain ⟨sfr, sbk, sfo, smn, hSt, hcv⟩ := id hkk.2.1
  obtain ⟨hSt1, hSt2, hSt3, hSt4⟩ := id hSt
  have hcv : cs_v sfr sbk sfo smn (sy_c S) := hcv
  have hsv : sv_ok (sy_n S) (sy_c S) := hS.1.2.1
  unfold mp_i op_stack at hk0 hk1
  refine nd_enter hg (by decide) rfl (Nat.le_of_ble_eq_true rfl) (fun X hC => ?_)
  refine nd_aload_n hC dX1_stack_0 rfl rfl ?_
  refine nd_iload_n hC dX1_stack_1 rfl ?_
  refine nd_callV (mm2 := mX1_stackOf) (As := [_]) (mc2 := 12) (ms2 := 72) (d2 := d - 1) hC rfl lkX1_450 ⟨rfl, lmX1_stackOf⟩ (hO) rfl (Nat.le_of_ble_eq_true rfl) (by omega) rfl (by exact Nat.le_of_ble_eq_true rfl) (by omega) (by omega) dX1_stack_2 rfl ((cx_stackOf hg (by omega) hS hs hK (fun hm hst sf hsf => ?_) (fun hne k js => ?_)))
  · rw [if_pos hm] at hk0
    have hin := sk_in hn (ty_stk_iff.mp hst).1 hst
    refine nd_astore_n hC dX1_stack_5 (Nat.le_of_ble_eq_true rfl) rfl ?_
    exact cx_stackS hg (by omega) hC hS hs.app (hK.f cw_f.rfl.app) (by rw [List.length_append]; omega) hl123 l_at_last hsf hin (by omega) (by omega) (fun h2 hs2 f2 => hk0 rfl h2 ⟨hs2, o, nap, ds, gi, dss, hK.f (cw_f.rfl.app.trans f2)⟩ ((cw_f.rfl.app.trans f2).fr hl123))
  · rw [if_neg hne] at hk1
    exact nd_out hC rfl (by omega) (by omega) (hk1 hne _ _ ⟨hs.app, o, nap, ds, gi, dss, hK.f cw_f.rfl.app⟩ (cw_f.rfl.app.fr hl123))
end CP88

