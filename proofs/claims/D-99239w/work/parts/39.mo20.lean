set_option maxRecDepth 100000
/-! ===== flat; guests; trays' faults ===== -/
abbrev sy_gain (S : sy_S) (gs : Nat) : lv_E → Int32 := fun x => nk_likes (sy_N S) (sv_fr (sy_c S)) (sv_bk (sy_c S)) x.2 ((sy_c S).1.length + x.1.length) gs
def kn_go (S : sy_S) (m : Nat) : Nat → Int32 × Int32
  | 0 => (-1, -1)
  | k + 1 => if (bt_r (sy_gain S k) (lv_all m (sy_l S))).1 - sy_likes S k ≤ (kn_go S m k).2 then kn_go S m k else (nI k, (bt_r (sy_gain S k) (lv_all m (sy_l S))).1 - sy_likes S k)
def op_keenest (x : Int32) (S : sy_S) : sy_R := if op_in x 0 5 = true then (0, (kn_go S x.toNatClampNeg (nk_w (sy_N S)).length).1, S) else (1, nI 0, S)
def rf_go (S : sy_S) : Nat → Int32
  | 0 => nI 0
  | k + 1 => rf_go S k ||| (if sy_likesF S k ≤ sy_likes S k then nI 0 else nI 1 <<< (nI k &&& 31))
def op_refuse (S : sy_S) : sy_R := (0, rf_go S (nk_w (sy_N S)).length, S)
section MO20
variable {g : nd_G} {d : Nat} {K : nd_K} {h h0 : nd_H} {A : Nat → Nat → Int32} {F : Nat → Int32} {B : Nat → Nat → Int64} {f : Nat → Int32}
theorem sp_flat (hg : nd_OK g) (hd : 1 ≤ d) {tt : Nat} {S : sy_S} (hI : mo_I tt S A F B) (hS : sy_ok S) (hw : mo_W h0 A F B h) (hk : ∀ A2 h2, mo_lk (A2 19) 0 (lk_flat (sy_n S)) → mo_k A A2 → mo_I tt S A2 F B → mo_W h0 A2 F B h2 → K (.inl none) h2) : nd_M g mX7_laysFlat d 0 0 [.ref 101] h K := sp_laysFlat hg hd hw hI.n hS.1.1.1 (fun f2 h2 hl hw => hk _ h2 (by rw [va_up_s]; exact hl) (mo_k.up rfl) (hI.a (mo_k.up rfl)) hw)
theorem sp_manyFromFlat (hg : nd_OK g) (hd : 13 ≤ d) {what tt : Nat} {S : sy_S} {cond : lv_E → Bool} {code : sy_S → lv_E → Int64} (hwh : what ≤ 13) (ht : tt ≤ 1000000) (hI : mo_I tt S A F B) (hS : sy_ok S) (hw : mo_W h0 A F B h)
    (hSee : ∀ A2 F2 d2, mo_k A A2 → 4 ≤ d2 → mo_see g h0 d2 (sy_n S) 0 (List Int64) (se_un cond (code S)) (fun s => s.length < tb_T) (iv_un what A2 F2 B))
    (hk : ∀ A2 F2 B2 h2, mo_I (tt + 4) (op_flat cond code S).2.2 A2 F2 B2 → F2 4 = nI (op_flat cond code S).1 → mo_W h0 A2 F2 B2 h2 → K (.inl (some (.int (op_flat cond code S).2.1))) h2) : nd_M g mX7_manyFromFlat d 0 0 [.ref 101, .int (nI what)] h K := by
  have hn : sy_n S ≤ 6 := hS.1.1.1
  have hok := lk_flat_ok (sy_n S)
  have hwd := lk_width hok
  unfold op_flat at hk
  refine nd_enter hg (by decide) rfl (Nat.le_of_ble_eq_true rfl) (fun X hC => ?_)
  refine nd_aload_n hC dX7_manyFromFlat_0 rfl rfl ?_
  refine nd_iconst hC (v := nI 0) (by rfl) dX7_manyFromFlat_1 ?_
  refine mo_put_thrown hC hw rfl dX7_manyFromFlat_2 (fun h hw => ?_)
  refine nd_aload_n hC dX7_manyFromFlat_5 rfl rfl ?_
  refine mo_callV (As := []) (d2 := d - 1) hC hw rfl lkX7_277 lyX7_277 (Nat.le_of_ble_eq_true rfl) (by omega) rfl (by exact Nat.le_of_ble_eq_true rfl) (Nat.zero_le _) (Nat.zero_le _) dX7_manyFromFlat_6 rfl ((sp_flat hg (by omega) hI.th hS hw ?_))
  intro A2 h2 hl kA hI2 hw
  refine nd_aload_n hC dX7_manyFromFlat_9 rfl rfl ?_
  refine nd_iload_n hC dX7_manyFromFlat_10 rfl ?_
  refine nd_iconst hC (v := nI 0) (by rfl) dX7_manyFromFlat_11 ?_
  refine nd_iconst hC (v := nI 5) (by rfl) dX7_manyFromFlat_12 ?_
  refine mo_callV (As := [_, _, _]) (d2 := d - 1) hC hw rfl lkX7_502 lyX7_502 (Nat.le_of_ble_eq_true rfl) (by omega) rfl (by exact Nat.le_of_ble_eq_true rfl) (Nat.zero_le _) (Nat.zero_le _) dX7_manyFromFlat_13 rfl ((sp_askS hg (d0 := 4) [] hI2 hn (by omega) (by omega) (by omega) (fun d2 hd2 => hSee A2 _ d2 kA hd2) (fun s A F B f q => ⟨q.1.up19 f, q.2⟩) (fun s A F B f q => ⟨q.1.up25 f, q.2⟩) hwh (by omega) hw hl hok ⟨⟨fun _ _ _ _ => rfl, fun _ _ => rfl, fun _ _ => rfl⟩, rfl, rfl, hI2.tb0 (by omega)⟩ (un_B (by omega) (by omega)) ?_))
  intro A3 F3 B3 h3 hiv hI3 e4 e27 e33 hw
  refine nd_aload_n hC dX7_manyFromFlat_16 rfl rfl ?_
  refine mo_get_rowMany hC hw rfl dX7_manyFromFlat_17 ?_
  rw [hiv.2.2.1]
  refine nd_ireturn hC rfl (by first | rfl | exact nd_b_nar _) (by omega) (by omega) dX7_manyFromFlat_20 ((hk _ _ _ _ (hI3.t (by omega)) (e4.trans (va_up_s _ _ _)) hw))
theorem mp_simple (hg : nd_OK g) (hd : 14 ≤ d) : mp_ok g h0 mX7_simple d [] (mp_i op_simple) := by
  intro tt S A F B h K ht hI hS hw hk
  refine nd_enter hg (by decide) rfl (Nat.le_of_ble_eq_true rfl) (fun X hC => ?_)
  refine nd_aload_n hC dX7_simple_0 rfl rfl ?_
  refine nd_bipush hC (v := nI 10) (by rfl) dX7_simple_1 ?_
  refine mo_callV (As := [_]) (d2 := d - 1) hC hw rfl lkX7_544 lyX7_544 (Nat.le_of_ble_eq_true rfl) (by omega) rfl (by exact Nat.le_of_ble_eq_true rfl) (Nat.zero_le _) (Nat.zero_le _) dX7_simple_3 rfl ((sp_manyFromFlat hg (by omega) (by omega) (cond := fun x => decide (x.2.length < 2)) (code := fun S x => lN (lk_ord x.2 (sy_n S))) ht hI hS hw (fun A2 F2 d2 kA hd2 => se_simple_ok hg (by omega) hS.1.1.1 (by omega) (by rw [kA 0 rfl]; exact hI.n)) ?_))
  intro A2 F2 B2 h2 q1 q2 hw
  refine nd_ireturn hC rfl (by first | rfl | exact nd_b_nar _) (by omega) (by omega) dX7_simple_6 ((hk A2 F2 B2 h2 q1 q2 hw))
theorem mp_patterns (hg : nd_OK g) (hd : 14 ≤ d) : mp_ok g h0 mX7_patterns d [] (mp_i op_patterns) := by
  intro tt S A F B h K ht hI hS hw hk
  refine nd_enter hg (by decide) rfl (Nat.le_of_ble_eq_true rfl) (fun X hC => ?_)
  refine nd_aload_n hC dX7_patterns_0 rfl rfl ?_
  refine nd_bipush hC (v := nI 12) (by rfl) dX7_patterns_1 ?_
  refine mo_callV (As := [_]) (d2 := d - 1) hC hw rfl lkX7_544 lyX7_544 (Nat.le_of_ble_eq_true rfl) (by omega) rfl (by exact Nat.le_of_ble_eq_true rfl) (Nat.zero_le _) (Nat.zero_le _) dX7_patterns_3 rfl ((sp_manyFromFlat hg (by omega) (by omega) (cond := fun _ => true) (code := fun S x => lN (lk_crs x.2 (sy_n S - 1))) ht hI hS hw (fun A2 F2 d2 kA hd2 => se_patterns_ok hg (by omega) hS.1.1.1 (by omega) (by rw [kA 0 rfl]; exact hI.n)) ?_))
  intro A2 F2 B2 h2 q1 q2 hw
  refine nd_ireturn hC rfl (by first | rfl | exact nd_b_nar _) (by omega) (by omega) dX7_patterns_6 ((hk A2 F2 B2 h2 q1 q2 hw))
theorem mp_refuse (hg : nd_OK g) (hd : 7 ≤ d) : mp_ok g h0 mX7_refuse d [] (mp_i op_refuse) := by
  intro tt S A F B h K ht hI hS hw hk
  have hn : sy_n S ≤ 6 := hS.1.1.1
  have hok := lk_flat_ok (sy_n S)
  have hw4 : (nk_w (sy_N S)).length ≤ 4 := hS.1.1.2.2.1
  unfold mp_i op_refuse at hk
  refine nd_enter hg (by decide) rfl (Nat.le_of_ble_eq_true rfl) (fun X hC => ?_)
  refine nd_aload_n hC dX7_refuse_0 rfl rfl ?_
  refine nd_iconst hC (v := nI 0) (by rfl) dX7_refuse_1 ?_
  refine mo_put_thrown hC hw rfl dX7_refuse_2 (fun h hw => ?_)
  refine nd_aload_n hC dX7_refuse_5 rfl rfl ?_
  refine mo_callV (As := []) (d2 := d - 1) hC hw rfl lkX7_552 lyX7_552 (Nat.le_of_ble_eq_true rfl) (by omega) rfl (by exact Nat.le_of_ble_eq_true rfl) (Nat.zero_le _) (Nat.zero_le _) dX7_refuse_6 rfl ((sp_laysLiked hg (by omega) hI.th hS hw ?_))
  intro A2 h2 e0 hI2 hv hw
  refine nd_aload_n hC dX7_refuse_9 rfl rfl ?_
  refine mo_callV (As := []) (d2 := d - 1) hC hw rfl lkX7_277 lyX7_277 (Nat.le_of_ble_eq_true rfl) (by omega) rfl (by exact Nat.le_of_ble_eq_true rfl) (Nat.zero_le _) (Nat.zero_le _) dX7_refuse_10 rfl ((sp_flat hg (by omega) hI2 hS hw ?_))
  intro A3 h3 hl kA hI3 hw
  have hv3 : ∀ i, i < (nk_w (sy_N S)).length → A3 27 i = sy_likes S i := fun i hi => by rw [kA 27 rfl]; exact hv i hi
  clear hv
  refine nd_iconst hC (v := nI 0) (by rfl) dX7_refuse_13 ?_
  refine nd_istore_n hC dX7_refuse_14 (Nat.le_of_ble_eq_true rfl) ?_
  refine nd_iconst hC (v := nI 0) (by rfl) dX7_refuse_15 ?_
  refine nd_istore_n hC dX7_refuse_16 (Nat.le_of_ble_eq_true rfl) ?_
  have L : ∀ k, k ≤ (nk_w (sy_N S)).length → ∀ A3 h3, mo_lk (A3 19) 0 (lk_flat (sy_n S)) → mo_I tt S A3 (va_up F 4 (nI 0)) B → (∀ i, i < (nk_w (sy_N S)).length → A3 27 i = sy_likes S i) → mo_W h0 A3 (va_up F 4 (nI 0)) B h3 → nd_W g mX7_refuse d 0 0 K X 17 [some (.ref 101), some (.int (rf_go S k)), some (.int (nI k))] [] h3 0 0 := by
    refine nd_for _ _ ?_ ?_
    · intro A3 h hl hI3 hv hw
      refine nd_iload_n hC dX7_refuse_17 rfl ?_
      refine nd_aload_n hC dX7_refuse_18 rfl rfl ?_
      refine mo_get_known hC hw rfl dX7_refuse_19 ?_
      refine nd_iconst hC (v := nI 2) (by rfl) dX7_refuse_22 ?_
      refine nd_ialoadN hC hw.known (by omega) (by decide) dX7_refuse_23 ?_
      rw [hI3.gn]
      first | with_reducible refine nd_icmp_geN hC (tgt := 58) (by omega) (by omega) dX7_refuse_24 (by decide) (fun hc => ?_) (fun hc => ?_) | refine nd_icmp_ge hC (tgt := 58) dX7_refuse_24 (by decide) (fun hc => ?_) (fun hc => ?_)
      · refine nd_iload_n hC dX7_refuse_58 rfl ?_
        refine nd_ireturn hC rfl (by first | rfl | exact nd_b_nar _) (by omega) (by omega) dX7_refuse_59 ((hk A3 _ _ h (hI3.t (by omega)) (va_up_s _ _ _) hw))
      · omega
    · intro k hk1 ih A3 h hl hI3 hv hw
      refine nd_iload_n hC dX7_refuse_17 rfl ?_
      refine nd_aload_n hC dX7_refuse_18 rfl rfl ?_
      refine mo_get_known hC hw rfl dX7_refuse_19 ?_
      refine nd_iconst hC (v := nI 2) (by rfl) dX7_refuse_22 ?_
      refine nd_ialoadN hC hw.known (by omega) (by decide) dX7_refuse_23 ?_
      rw [hI3.gn]
      first | with_reducible refine nd_icmp_geN hC (tgt := 58) (by omega) (by omega) dX7_refuse_24 (by decide) (fun hc => ?_) (fun hc => ?_) | refine nd_icmp_ge hC (tgt := 58) dX7_refuse_24 (by decide) (fun hc => ?_) (fun hc => ?_)
      · omega
      · refine nd_iload_n hC dX7_refuse_27 rfl ?_
        refine nd_aload_n hC dX7_refuse_28 rfl rfl ?_
        refine mo_get_likedNow hC hw rfl dX7_refuse_29 ?_
        refine nd_iload_n hC dX7_refuse_32 rfl ?_
        refine nd_ialoadN hC hw.likedNow (by omega) (by decide) dX7_refuse_33 ?_
        rw [hv k hk1]
        refine nd_aload_n hC dX7_refuse_34 rfl rfl ?_
        refine nd_iconst hC (v := nI 0) (by rfl) dX7_refuse_35 ?_
        refine nd_iload_n hC dX7_refuse_36 rfl ?_
        refine mo_callV (As := [_, _]) (d2 := d - 1) hC hw rfl lkX7_355 lyX7_355 (Nat.le_of_ble_eq_true rfl) (by omega) rfl (by exact Nat.le_of_ble_eq_true rfl) (Nat.zero_le _) (Nat.zero_le _) dX7_refuse_37 rfl ((sp_likesAt hg (by omega) hw (by omega) (show k < (nk_w (sy_N S)).length by omega) hI3.1.1 hS.1.1 hl hok ?_))
        intro A4 h hs hw
        rw [nk_likes_congr hok hn (hI3.fr hS) (hI3.bk hS)]
        have hl4 : mo_lk (A4 19) 0 (lk_flat (sy_n S)) := by rw [hs 19 (by decide) (by decide)]; exact hl
        have hv4 : ∀ i, i < (nk_w (sy_N S)).length → A4 27 i = sy_likes S i := fun i hi => by rw [hs 27 (by decide) (by decide)]; exact hv i hi
        have hI4 := hI3.a (mo_k.s2 hs)
        first | with_reducible refine nd_icmp_geN hC (tgt := 49) (by omega) (by omega) dX7_refuse_40 (by decide) (fun hq => ?_) (fun hq => ?_) | refine nd_icmp_ge hC (tgt := 49) dX7_refuse_40 (by decide) (fun hq => ?_) (fun hq => ?_)
        · refine nd_iconst hC (v := nI 0) (by rfl) dX7_refuse_49 ?_
          refine nd_ior hC dX7_refuse_50 ?_
          refine nd_istore_n hC dX7_refuse_51 (Nat.le_of_ble_eq_true rfl) ?_
          first | with_reducible refine nd_iincN hC dX7_refuse_52 rfl (Nat.le_of_ble_eq_true rfl) ?_ | refine nd_iinc hC dX7_refuse_52 rfl rfl (Nat.le_of_ble_eq_true rfl) ?_
          refine nd_goto hC (tgt := 17) dX7_refuse_55 (by decide) ?_
          have e : rf_go S k ||| nI 0 = rf_go S (k + 1) := by show _ = rf_go S k ||| _; rw [if_pos hq]
          rw [e]
          exact ih A4 h hl4 hI4 hv4 hw
        · refine nd_iconst hC (v := nI 1) (by rfl) dX7_refuse_43 ?_
          refine nd_iload_n hC dX7_refuse_44 rfl ?_
          refine nd_ishl hC dX7_refuse_45 ?_
          refine nd_goto hC (tgt := 50) dX7_refuse_46 (by decide) ?_
          refine nd_ior hC dX7_refuse_50 ?_
          refine nd_istore_n hC dX7_refuse_51 (Nat.le_of_ble_eq_true rfl) ?_
          first | with_reducible refine nd_iincN hC dX7_refuse_52 rfl (Nat.le_of_ble_eq_true rfl) ?_ | refine nd_iinc hC dX7_refuse_52 rfl rfl (Nat.le_of_ble_eq_true rfl) ?_
          refine nd_goto hC (tgt := 17) dX7_refuse_55 (by decide) ?_
          have e : rf_go S k ||| nI 1 <<< (nI k &&& 31) = rf_go S (k + 1) := by show _ = rf_go S k ||| _; rw [if_neg hq]
          rw [e]
          exact ih A4 h hl4 hI4 hv4 hw
  exact L 0 (Nat.zero_le _) A3 h3 hl hI3 hv3 hw
theorem mp_keenest (hg : nd_OK g) (hd : 17 ≤ d) (x : Int32) : mp_ok g h0 mX7_keenest d [.int x] (mp_i (op_keenest x)) := by
  intro tt S A F B h K ht hI hS hw hk
  have h5 := sy_len5 hS
  have hok := sy_l_ok hS
  have hn : sy_n S ≤ 6 := hS.1.1.1
  have hw4 : (nk_w (sy_N S)).length ≤ 4 := hS.1.1.2.2.1
  unfold mp_i op_keenest at hk
  refine nd_enter hg (by decide) rfl (Nat.le_of_ble_eq_true rfl) (fun X hC => ?_)
  refine nd_aload_n hC dX7_keenest_0 rfl rfl ?_
  refine nd_iconst hC (v := nI 0) (by rfl) dX7_keenest_1 ?_
  refine mo_put_thrown hC hw rfl dX7_keenest_2 (fun h hw => ?_)
  refine nd_iload_n hC dX7_keenest_5 rfl ?_
  refine mo_callS (As := [_]) (d2 := d - 1) hC rfl lkX7_499 lyX7_499 (Nat.le_of_ble_eq_true rfl) (by omega) rfl (by exact Nat.le_of_ble_eq_true rfl) (Nat.zero_le _) (Nat.zero_le _) dX7_keenest_6 rfl ((sp_isMore hg (by omega) ?_))
  first | with_reducible refine nd_if_neB hC (tgt := 18) dX7_keenest_9 (by decide) (fun hc => ?_) (fun hc => ?_) | with_reducible refine nd_if_neN hC (tgt := 18) (by omega) dX7_keenest_9 (by decide) (fun hc => ?_) (fun hc => ?_) | refine nd_if_ne hC (tgt := 18) dX7_keenest_9 (by decide) (fun hc => ?_) (fun hc => ?_)
  · rw [if_pos hc] at hk
    obtain ⟨m, hm1, rfl⟩ := op_in_nat hc
    rw [nI_cl (by omega)] at hk
    refine nd_aload_n hC dX7_keenest_18 rfl rfl ?_
    refine mo_callV (As := []) (d2 := d - 1) hC hw rfl lkX7_552 lyX7_552 (Nat.le_of_ble_eq_true rfl) (by omega) rfl (by exact Nat.le_of_ble_eq_true rfl) (Nat.zero_le _) (Nat.zero_le _) dX7_keenest_19 rfl ((sp_laysLiked hg (by omega) hI.th hS hw ?_))
    intro A2 h2 e0 hI2 hv hw
    refine nd_iconst hC (v := -1) (by rfl) dX7_keenest_22 ?_
    refine nd_istore_n hC dX7_keenest_23 (Nat.le_of_ble_eq_true rfl) ?_
    refine nd_iconst hC (v := -1) (by rfl) dX7_keenest_24 ?_
    refine nd_istore_n hC dX7_keenest_25 (Nat.le_of_ble_eq_true rfl) ?_
    refine nd_iconst hC (v := nI 0) (by rfl) dX7_keenest_26 ?_
    refine nd_istore hC dX7_keenest_27 (Nat.le_of_ble_eq_true rfl) ?_
    have L : ∀ k, k ≤ (nk_w (sy_N S)).length → ∀ A3 F3 B3 h3, mo_I (tt + k) S A3 F3 B3 → F3 4 = nI 0 → (∀ i, i < (nk_w (sy_N S)).length → A3 27 i = sy_likes S i) → mo_W h0 A3 F3 B3 h3 → nd_W g mX7_keenest d 0 0 K X 29 [some (.ref 101), some (.int (nI m)), some (.int (kn_go S m k).1), some (.int (kn_go S m k).2), some (.int (nI k))] [] h3 0 0 := by
      refine nd_for _ _ ?_ ?_
      · intro A3 F3 B3 h hI3 e4 hv hw
        refine nd_iload hC dX7_keenest_29 rfl ?_
        refine nd_aload_n hC dX7_keenest_31 rfl rfl ?_
        refine mo_get_known hC hw rfl dX7_keenest_32 ?_
        refine nd_iconst hC (v := nI 2) (by rfl) dX7_keenest_35 ?_
        refine nd_ialoadN hC hw.known (by omega) (by decide) dX7_keenest_36 ?_
        rw [hI3.gn]
        first | with_reducible refine nd_icmp_geN hC (tgt := 98) (by omega) (by omega) dX7_keenest_37 (by decide) (fun hc => ?_) (fun hc => ?_) | refine nd_icmp_ge hC (tgt := 98) dX7_keenest_37 (by decide) (fun hc => ?_) (fun hc => ?_)
        · refine nd_iload_n hC dX7_keenest_98 rfl ?_
          refine nd_ireturn hC rfl (by first | rfl | exact nd_b_nar _) (by omega) (by omega) dX7_keenest_99 ((hk A3 _ _ h (hI3.t (by omega)) e4 hw))
        · omega
      · intro k hk1 ih A3 F3 B3 h hI3 e4 hv hw
        refine nd_iload hC dX7_keenest_29 rfl ?_
        refine nd_aload_n hC dX7_keenest_31 rfl rfl ?_
        refine mo_get_known hC hw rfl dX7_keenest_32 ?_
        refine nd_iconst hC (v := nI 2) (by rfl) dX7_keenest_35 ?_
        refine nd_ialoadN hC hw.known (by omega) (by decide) dX7_keenest_36 ?_
        rw [hI3.gn]
        first | with_reducible refine nd_icmp_geN hC (tgt := 98) (by omega) (by omega) dX7_keenest_37 (by decide) (fun hc => ?_) (fun hc => ?_) | refine nd_icmp_ge hC (tgt := 98) dX7_keenest_37 (by decide) (fun hc => ?_) (fun hc => ?_)
        · omega
        · refine nd_aload_n hC dX7_keenest_40 rfl rfl ?_
          refine nd_iload hC dX7_keenest_41 rfl ?_
          refine mo_put_askedTray hC hw rfl dX7_keenest_43 (fun h hw => ?_)
          refine nd_aload_n hC dX7_keenest_46 rfl rfl ?_
          refine nd_bipush hC (v := nI 8) (by rfl) dX7_keenest_47 ?_
          refine nd_aload_n hC dX7_keenest_49 rfl rfl ?_
          refine mo_callV (As := []) (d2 := d - 1) hC hw rfl lkX7_343 lyX7_343 (Nat.le_of_ble_eq_true rfl) (by omega) rfl (by exact Nat.le_of_ble_eq_true rfl) (Nat.zero_le _) (Nat.zero_le _) dX7_keenest_50 rfl ((sp_now hg (by omega) (hI3.uf (k := 33) rfl) hS hw ?_))
          intro A4 h4 hl kA hI4 hw
          refine nd_iload_n hC dX7_keenest_53 rfl ?_
          refine mo_callV (As := [_, _, _]) (d2 := d - 1) hC hw rfl lkX7_502 lyX7_502 (Nat.le_of_ble_eq_true rfl) (by omega) rfl (by exact Nat.le_of_ble_eq_true rfl) (Nat.zero_le _) (Nat.zero_le _) dX7_keenest_54 rfl ((sp_askS hg (d0 := 8) (-536870912, []) hI4 hn h5 (by omega) (by omega) (fun d2 hd2 => se_gains_ok hg hd2 hS.1.1 h5 hI4.1.1 (show k < (nk_w (sy_N S)).length by omega) rfl) (fun s A F B f q => ⟨q.1.up19 f, q.2⟩) (fun s A F B f q => ⟨q.1.up25 f, q.2⟩) (by omega) (by omega) hw hl hok ⟨⟨fun _ _ _ _ => rfl, fun _ _ => rfl, fun _ _ => rfl⟩, rfl, Nat.zero_le _, rfl, rfl, fun i hi => absurd hi (Nat.not_lt_zero _)⟩ (lv_B_T _ _ (fun _ => trivial) _ _) ?_))
          intro A5 F5 B5 h5 hiv hI5 e45 e27 e33 hw
          rw [se_bt_congr hok (fun x hx => nk_likes_congr hx hn (hI4.fr hS) (hI4.bk hS))] at hiv
          have hv5 : ∀ i, i < (nk_w (sy_N S)).length → A5 27 i = sy_likes S i := fun i hi => by rw [e27, kA 27 rfl]; exact hv i hi
          have e46 : F5 4 = nI 0 := by rw [e45, va_up_n _ _ (by decide)]; exact e4
          refine nd_aload_n hC dX7_keenest_57 rfl rfl ?_
          refine mo_get_rowBest hC hw rfl dX7_keenest_58 ?_
          refine nd_aload_n hC dX7_keenest_61 rfl rfl ?_
          refine mo_get_likedNow hC hw rfl dX7_keenest_62 ?_
          refine nd_iload hC dX7_keenest_65 rfl ?_
          refine nd_ialoadN hC hw.likedNow (by omega) (by decide) dX7_keenest_67 ?_
          rw [hiv.2.2.2.1, hv5 k hk1]
          first | with_reducible refine nd_isubN hC (by omega) dX7_keenest_68 ?_ | refine nd_isub hC dX7_keenest_68 ?_
          refine nd_iload_n hC dX7_keenest_69 rfl ?_
          first | with_reducible refine nd_icmp_gtN hC (tgt := 76) (by omega) (by omega) dX7_keenest_70 (by decide) (fun hq => ?_) (fun hq => ?_) | refine nd_icmp_gt hC (tgt := 76) dX7_keenest_70 (by decide) (fun hq => ?_) (fun hq => ?_)
          · have e : kn_go S m (k + 1) = (nI k, (bt_r (sy_gain S k) (lv_all m (sy_l S))).1 - sy_likes S k) := by show (if _ then _ else _) = _; rw [if_neg (Int32.not_le.mpr hq)]
            refine nd_iload hC dX7_keenest_76 rfl ?_
            refine nd_istore_n hC dX7_keenest_78 (Nat.le_of_ble_eq_true rfl) ?_
            refine nd_aload_n hC dX7_keenest_79 rfl rfl ?_
            refine mo_get_rowBest hC hw rfl dX7_keenest_80 ?_
            refine nd_aload_n hC dX7_keenest_83 rfl rfl ?_
            refine mo_get_likedNow hC hw rfl dX7_keenest_84 ?_
            refine nd_iload hC dX7_keenest_87 rfl ?_
            refine nd_ialoadN hC hw.likedNow (by omega) (by decide) dX7_keenest_89 ?_
            rw [hiv.2.2.2.1, hv5 k hk1]
            first | with_reducible refine nd_isubN hC (by omega) dX7_keenest_90 ?_ | refine nd_isub hC dX7_keenest_90 ?_
            refine nd_istore_n hC dX7_keenest_91 (Nat.le_of_ble_eq_true rfl) ?_
            first | with_reducible refine nd_iincN hC dX7_keenest_92 rfl (Nat.le_of_ble_eq_true rfl) ?_ | refine nd_iinc hC dX7_keenest_92 rfl rfl (Nat.le_of_ble_eq_true rfl) ?_
            refine nd_goto hC (tgt := 29) dX7_keenest_95 (by decide) ?_
            have q := ih A5 F5 B5 h5 (hI5.t (by omega)) e46 hv5 hw
            rw [e] at q
            exact q
          · have e : kn_go S m (k + 1) = kn_go S m k := by show (if _ then _ else _) = _; rw [if_pos (Int32.not_lt.mp hq)]
            refine nd_goto hC (tgt := 92) dX7_keenest_73 (by decide) ?_
            first | with_reducible refine nd_iincN hC dX7_keenest_92 rfl (Nat.le_of_ble_eq_true rfl) ?_ | refine nd_iinc hC dX7_keenest_92 rfl rfl (Nat.le_of_ble_eq_true rfl) ?_
            refine nd_goto hC (tgt := 29) dX7_keenest_95 (by decide) ?_
            have q := ih A5 F5 B5 h5 (hI5.t (by omega)) e46 hv5 hw
            rw [e] at q
            exact q
    exact L 0 (Nat.zero_le _) A2 _ _ h2 hI2 (va_up_s _ _ _) hv hw
  · rw [if_neg (by rw [hc]; decide)] at hk
    refine nd_aload_n hC dX7_keenest_12 rfl rfl ?_
    refine nd_iconst hC (v := nI 1) (by rfl) dX7_keenest_13 ?_
    refine mo_callV (As := [_]) (d2 := d - 1) hC hw rfl lkX7_244 lyX7_244 (Nat.le_of_ble_eq_true rfl) (by omega) rfl (by exact Nat.le_of_ble_eq_true rfl) (Nat.zero_le _) (Nat.zero_le _) dX7_keenest_14 rfl ((sp_fails hg hw (fun h3 hw => ?_)))
    refine nd_ireturn hC rfl (by first | rfl | exact nd_b_nar _) (by omega) (by omega) dX7_keenest_17 ((hk A _ _ h3 (hI.th.th.t (by omega)) (va_up_s _ _ _) hw))
end MO20

