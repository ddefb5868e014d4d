set_option maxRecDepth 100000
/-! ===== keenest ===== -/
theorem bt_val {val : lv_E → Int32} {m : Nat} {l : List (List Nat)} (hv : ∀ x ∈ lv_all m l, -536870912 < (val x).toInt) : ∃ x ∈ lv_all m l, (bt_r val (lv_all m l)).1 = val x := by
  have H := bs_all (fun x => some (val x).toInt64) (df m [] l)
  rw [bt_eq hv] at H
  obtain ⟨pre, x, post, a1, a2, -⟩ := H
  refine ⟨x, (df_perm m l).mem_iff.mp (by rw [a1]; simp), ?_⟩
  exact (i32_64 (Option.some.inj a2)).symm
theorem i64_sub {a b : Int32} (ha : lz_in a) (hb : lz_in b) : a.toInt64 - b.toInt64 = (a - b).toInt64 := by
  unfold lz_in at ha hb
  apply Int64.toInt_inj.mp
  rw [Int64.toInt_sub, nd_tl, nd_tl, nd_tl, Int32.toInt_sub, Int.bmod_eq_of_le (by omega) (by omega), Int.bmod_eq_of_le (by omega) (by omega)]
section CP42
variable {g : nd_G} {d : Nat} {K : nd_K} {h : nd_H} {o : Nat → Nat} {nap : Nat} {ds : List Nat} {gi : Nat → Value} {dss : Nat → List Nat} {S : sy_S}
theorem cp_keenest (hg : nd_OK g) (hd : 980 ≤ d) (x : Int32) : cp_ok g mX1_keenest d 40 120 [.int x] (ex1 eIAE) (mp_i (op_keenest x)) := by
  intro S h K hS hI hl123 hk0 hk1
  obtain ⟨hs, o, nap, ds, gi, dss, hK⟩ := hI
  obtain ⟨⟨x0, hO⟩, h17, hkk, -⟩ := id hK
  unfold cx_O at hO
  have hok := sy_l_ok hS
  have hwd := lk_width hok
  have hn : sy_n S ≤ 6 := hS.1.1.1
  have h5 := sy_len5 hS
  obtain ⟨sfr, sbk, sfo, smn, hSt, hcv⟩ := id hkk.2.1
  obtain ⟨hSt1, hSt2, hSt3, hSt4⟩ := id hSt
  have hcv : cs_v sfr sbk sfo smn (sy_c S) := hcv
  have hsv : sv_ok (sy_n S) (sy_c S) := hS.1.2.1
  unfold mp_i op_keenest at hk0 hk1
  have hw4 : (nk_w (sy_N S)).length ≤ 4 := hS.1.1.2.2.1
  refine nd_enter hg (by decide) rfl (Nat.le_of_ble_eq_true rfl) (fun X hC => ?_)
  refine nd_iload_n hC dX1_keenest_0 rfl ?_
  refine nd_callS (mm2 := mX1_mustRows) (As := [_]) (mc2 := 1) (ms2 := 6) (d2 := d - 1) hC rfl lkX1_368 lmX1_mustRows (Nat.le_of_ble_eq_true rfl) (by omega) rfl (by exact Nat.le_of_ble_eq_true rfl) (by omega) (by omega) dX1_keenest_1 rfl ((cx_mustRows hg (by omega) (fun hc => ?_) (fun hc n => ?_)))
  · rw [if_pos hc] at hk0
    obtain ⟨m, hm9, rfl⟩ := op_in_nat hc
    have hm5 : m ≤ 5 := by omega
    rw [nI_cl (by omega)] at hk0
    have hlik : ∀ k, k < (nk_w (sy_N S)).length → lz_in (sy_likes S k) := fun k hk => likes_in hS hK hok (by omega) hk
    have hgain : ∀ k, k < (nk_w (sy_N S)).length → ∀ x ∈ lv_all m (sy_l S), lz_in (sy_gain S k x) := fun k hk x hx => by
      obtain ⟨q1, q2⟩ := lv_all_ok hok x hx
      exact likes_in hS hK q1 (by omega) hk
    refine nd_aload_n hC dX1_keenest_4 rfl rfl ?_
    refine nd_callV (mm2 := mX1_likesNow) (As := []) (mc2 := 1) (ms2 := 4) (d2 := d - 1) hC rfl lkX1_492 ⟨rfl, lmX1_likesNow⟩ (hO) rfl (Nat.le_of_ble_eq_true rfl) (by omega) rfl (by exact Nat.le_of_ble_eq_true rfl) (by omega) (by omega) dX1_keenest_5 rfl ((cx_likesNow hg (by omega) hS hs hK hl123 (fun hv nf fv hsv9 hlenv hnv hnf => ?_)))
    generalize hNA : h.length = NA at hnv
    have hNA2 : 123 ≤ NA := by omega
    refine nd_astore_n hC dX1_keenest_8 (Nat.le_of_ble_eq_true rfl) rfl ?_
    refine nd_iconst hC (v := -1) (by rfl) dX1_keenest_9 ?_
    refine nd_istore_n hC dX1_keenest_10 (Nat.le_of_ble_eq_true rfl) ?_
    refine nd_ldc2 hC q900 dX1_keenest_11 ?_
    refine nd_lstore hC dX1_keenest_14 (Nat.le_of_ble_eq_true rfl) ?_
    refine nd_iconst hC (v := nI 0) (by rfl) dX1_keenest_16 ?_
    refine nd_istore hC dX1_keenest_17 (Nat.le_of_ble_eq_true rfl) ?_
    have L : ∀ k, k ≤ (nk_w (sy_N S)).length → ∀ hu l7 l8, cw_f h hu → cw_S hu → hu[NA]? = some (.inl (0, (nk_w (sy_N S)).length, .inl nf)) → nd_W g mX1_keenest d 40 120 K X 19 [some (.ref 0), some (.int (nI m)), some (.ref NA), some (.int (kn_go S m k).1), some (.long (kn_go S m k).2.toInt64), none, some (.int (nI k)), l7, l8] [] hu (2 + 3 * k) (10 + 18 * k) := by
      refine nd_for _ _ ?_ ?_
      · intro hu l7 l8 fu hsu hnu
        have hKu := hK.f fu
        obtain ⟨⟨x2, hO2⟩, -⟩ := id hKu
        unfold cx_O at hO2
        refine nd_iload hC dX1_keenest_19 rfl ?_
        refine nd_aload_n hC dX1_keenest_21 rfl rfl ?_
        refine nd_callV (mm2 := mX1_guests) (As := []) (mc2 := 0) (ms2 := 0) (d2 := d - 1) hC rfl lkX1_280 ⟨rfl, lmX1_guests⟩ (hO2) rfl (Nat.le_of_ble_eq_true rfl) (by omega) rfl (by exact Nat.le_of_ble_eq_true rfl) (by omega) (by omega) dX1_keenest_22 rfl ((cx_guests hg (by omega) (hKu.P hsu) ?_))
        first | with_reducible refine nd_icmp_geN hC (tgt := 94) (by omega) (by omega) dX1_keenest_25 (by decide) (fun hc2 => ?_) (fun hc2 => ?_) | refine nd_icmp_ge hC (tgt := 94) dX1_keenest_25 (by decide) (fun hc2 => ?_) (fun hc2 => ?_)
        · refine nd_iload_n hC dX1_keenest_94 rfl ?_
          refine nd_ireturn hC rfl (by first | rfl | exact nd_b_nar _) (by omega) (by omega) dX1_keenest_95 ((hk0 rfl hu ⟨hsu, o, nap, ds, gi, dss, hKu⟩ (fu.fr hl123)))
        · omega
      · intro k hk1' ih hu l7 l8 fu hsu hnu
        have hKu := hK.f fu
        have hlu : 123 ≤ hu.length := by have := fu.1; omega
        obtain ⟨⟨x2, hO2⟩, -⟩ := id hKu
        unfold cx_O at hO2
        refine nd_iload hC dX1_keenest_19 rfl ?_
        refine nd_aload_n hC dX1_keenest_21 rfl rfl ?_
        refine nd_callV (mm2 := mX1_guests) (As := []) (mc2 := 0) (ms2 := 0) (d2 := d - 1) hC rfl lkX1_280 ⟨rfl, lmX1_guests⟩ (hO2) rfl (Nat.le_of_ble_eq_true rfl) (by omega) rfl (by exact Nat.le_of_ble_eq_true rfl) (by omega) (by omega) dX1_keenest_22 rfl ((cx_guests hg (by omega) (hKu.P hsu) ?_))
        first | with_reducible refine nd_icmp_geN hC (tgt := 94) (by omega) (by omega) dX1_keenest_25 (by decide) (fun hc2 => ?_) (fun hc2 => ?_) | refine nd_icmp_ge hC (tgt := 94) dX1_keenest_25 (by decide) (fun hc2 => ?_) (fun hc2 => ?_)
        · omega
        refine nd_iload hC dX1_keenest_28 rfl ?_
        refine nd_istore hC dX1_keenest_30 (Nat.le_of_ble_eq_true rfl) ?_
        refine nd_new (ci := nX38) hC [.null, .int 0, .long 0, .null, .null, .null, .int 0, .null] in_X38 rfl tyX38 tyX38_ok q2463 q2464 q214 rfl rfl (by omega) (by omega) dX1_keenest_32 ?_
        refine nd_dup hC (by rfl) dX1_keenest_35 ?_
        refine nd_aload_n hC dX1_keenest_36 rfl rfl ?_
        refine nd_iload hC dX1_keenest_37 rfl ?_
        refine nd_callI (mm2 := mX38_init) (As := [_, _]) (mc2 := 2) (ms2 := 10) (d2 := d - 1) hC rfl rfl q2467 q214 q2465 q2466 rfl lmX38_init (Nat.le_of_ble_eq_true rfl) (by omega) rfl (by exact Nat.le_of_ble_eq_true rfl) (by omega) (by omega) dX1_keenest_39 rfl ((ni_X38 hg (by omega) (List.getElem?_concat_length ..) ?_))
        rw [show (hu ++ [(.inr (nX38, [.null, .int 0, .long 0, .null, .null, .null, .int 0, .null]) : nd_C)]).length = hu.length + 1 by simp]
        generalize hh1 : ((hu ++ [(.inr (nX38, [.null, .int 0, .long 0, .null, .null, .null, .int 0, .null]) : nd_C)]).set hu.length (.inr (nX38, [.ref (hu.length + 1 + 1), .int (-1), .long be_min, .ref 0, .ref (hu.length + 1), .ref 0, .int (nI k), .ref 0])) ++ [.inl (0, 5, .inl (fun _ => 0))]) ++ [.inl (0, 5, .inl (fun _ => 0))] = h1
        have e1 : h1[hu.length]? = some (.inr (nX38, [.ref (hu.length + 2), .int (-1), .long be_min, .ref 0, .ref (hu.length + 1), .ref 0, .int (nI k), .ref 0])) := by
          rw [← hh1, List.getElem?_append_left (by simp)]; exact l_get_app (by simp)
        have e2 : h1[hu.length + 1]? = some (.inl (0, 5, .inl (fun _ => 0))) := by
          rw [← hh1, List.getElem?_append_left (by simp), List.getElem?_append_right (by simp)]; simp
        have e3 : h1[hu.length + 2]? = some (.inl (0, 5, .inl (fun _ => 0))) := by
          rw [← hh1, List.getElem?_append_right (by simp)]; simp
        have f1 : cw_f hu h1 := by
          rw [← hh1]
          exact cw_f.app (cw_f.app (cw_f.set (cw_f.app cw_f.rfl) (Or.inl (Nat.le_refl _))))
        have hs1 : cw_S h1 := by
          rw [← hh1]
          exact cw_S.app (cw_S.app (cw_S.set hsu.app (by omega)))
        refine nd_astore hC dX1_keenest_42 (Nat.le_of_ble_eq_true rfl) rfl ?_
        refine nd_aload hC dX1_keenest_44 rfl rfl ?_
        refine nd_iconst hC (v := nI 0) (by rfl) dX1_keenest_46 ?_
        refine nd_iload_n hC dX1_keenest_47 rfl ?_
        refine nd_callU (mm2 := mX20_seeks) (As := [_, _]) (mc2 := 0) (ms2 := 0) (d2 := d - 1) (owner := "NapkinDeeds$Rows") (x := ⟨"NapkinDeeds$Best", "seeks", "(ZI)LNapkinDeeds$Rows;"⟩) (n := 2) hC rfl (va_cwU 2 hC.hts (lw_U q802 q803 q807 q812 q190 q813) rfl rfl rfl rfl ⟨by decide, by decide, by decide +kernel⟩ (nd_roomR (by omega) (by decide))) (e1) rfl (Nat.le_of_ble_eq_true rfl) (by omega) rfl (by exact Nat.le_of_ble_eq_true rfl) (by omega) (by omega) dX1_keenest_48 rfl ((cw_seek (fl := false) (most := m) (d0 := 930) (b := hu.length) (rb := hu.length + 1) (ci := nX38) (σ := Option (Int64 × List Nat)) (s0 := none) (see := bs_see (fun x => some (sy_gain S k x).toInt64)) (Bd := fun _ => True) (Ob := fun s h2 => ∃ fw mo bf, h2[hu.length]? = some (.inr (nX38, [.ref (hu.length + 2), .int fw, .long mo, .ref 0, .ref (hu.length + 1), .ref 0, .int (nI k), .ref 0])) ∧ (∃ f, h2[hu.length + 1]? = some (.inl (0, 5, .inl f))) ∧ h2[hu.length + 2]? = some (.inl (0, 5, .inl bf)) ∧ be_st s fw mo bf) hg (by omega) (by omega) hm5 hS hKu hlu hs1 f1 (by omega) (by omega) ?_ ?_ ?_ ⟨_, _, _, e1, ⟨_, e2⟩, e3, rfl, rfl⟩ ?_ (fun h2 H hs2 f2 hl2 => ?_)))
        · intro s h2 H
          obtain ⟨fw, mo, bf, H1, H2, -⟩ := H
          exact ⟨⟨4, _, Or.inr (Or.inr (Or.inr (Or.inr (Or.inr (Or.inr (Or.inr (Or.inr (Or.inr (Or.inr (Or.inr (Or.inr (Or.inr (Or.inl ⟨rfl, rfl⟩))))))))))))), H1, rfl, rfl⟩, H2⟩
        · intro s h2 h3 H hl hf hr
          obtain ⟨fw, mo, bf, H1, H2, H3, H4⟩ := H
          exact ⟨fw, mo, bf, (hf _ (by omega) (by omega)).trans H1, hr, (hf _ (by omega) (by omega)).trans H3, H4⟩
        · intro d2 hd2 s r l h2 K2 hB H hs2 f2 hl hokl hrw hr5 kk
          obtain ⟨fw, mo, bf, H1, -, H3, H4⟩ := H
          obtain ⟨rf, H2, hrf⟩ := hrw
          have hK2 := hKu.f f2
          have hfq : ∀ h3, ck_fr 94 1 h2 h3 → cw_f hu h3 := fun h3 q => f2.trans (q.cwf (fun a a1 a2 => by unfold cw_sc; omega))
          have keep : ∀ h3, ck_fr 94 1 h2 h3 → cw_S h3 → bs_see (fun x => some (sy_gain S k x).toInt64) s (r, l) = s → K2 (.inl none) h3 := by
            intro h3 q1 q2 es
            refine kk h3 ?_ q2 (hfq h3 q1) q1.1 (fun a ha => q1.2 a (by omega))
            rw [es]
            exact ⟨fw, mo, bf, (q1.2 _ (by omega)).trans H1, ⟨rf, (q1.2 _ (by omega)).trans H2⟩, (q1.2 _ (by omega)).trans H3, H4⟩
          have take : ∀ h3 v, ck_fr 94 1 h2 h3 → cw_S h3 → v ≠ be_min → bs_see (fun x => some (sy_gain S k x).toInt64) s (r, l) = some (v, r) → K2 (.inl none) ((h3.set (hu.length) (.inr (nX38, [.ref (hu.length + 2), .int (nI r.length), .long v, .ref 0, .ref (hu.length + 1), .ref 0, .int (nI k), .ref 0]))).set (hu.length + 2) (.inl (0, 5, .inl (va_cpy rf bf 0 0 5)))) := by
            intro h3 v q1 q2 hv es
            have l1 : hu.length < h3.length := by rw [q1.1]; exact nd_get_lt H1
            have l3 : hu.length + 2 < h3.length := by rw [q1.1]; exact nd_get_lt H3
            refine kk _ ?_ ((q2.set (by omega)).set (by omega)) (((hfq h3 q1).set (Or.inl (by omega))).set (Or.inl (by omega))) (by rw [List.length_set, List.length_set]; exact q1.1) (fun a ha => by rw [List.getElem?_set_ne (by omega), List.getElem?_set_ne (by omega)]; exact q1.2 a (by omega))
            rw [es]
            refine ⟨nI r.length, v, va_cpy rf bf 0 0 5, ?_, ⟨rf, ?_⟩, List.getElem?_set_self (by rw [List.length_set]; exact l3), rfl, rfl, hv, be_rw hrf hr5, hr5⟩
            · rw [List.getElem?_set_ne (by omega)]; exact List.getElem?_set_self l1
            · rw [List.getElem?_set_ne (by omega), List.getElem?_set_ne (by omega)]; exact (q1.2 _ (by omega)).trans H2
          have B := be_iff (val := fun x => some ((sy_gain S k) x).toInt64) H4 (x := (r, l)) rfl (i64_ne _) hr5
          exact Or.inr (Or.inr (Or.inr (Or.inl ⟨nX38, _, Or.inr (Or.inr rfl), H1, cb_seesX38 (Q := fun h4 => ck_fr 94 1 h2 h4 ∧ cw_S h4) (v := ((sy_gain S k) (r, l)).toInt64) (f := rf) (bf := bf) hg (by omega) H1 ⟨by omega, by omega⟩ (fun K4 kq4 => cq_valX38 hg (by omega) (hK2.P hs2) hsv hS.1.1 hl (by omega) hokl (gs := k) hk1' H1 (fun h4 f4 hP4 => kq4 h4 ⟨f4, hP4.S hs2 (fun a ha => f4.2 a (by omega))⟩)) (fun h4 q4 => ⟨q4.1.2 _ (by omega), (q4.1.2 _ (by omega)).trans H2, (q4.1.2 _ (by omega)).trans H3⟩) (fun hno h4 q4 => keep h4 q4.1 q4.2 (B.1 hno)) (fun hno h4 q4 => take h4 _ q4.1 q4.2 (i64_ne _) (B.2 hno))⟩)))
        · exact df_B_T _ _ _
        · obtain ⟨fw, mo, bf, H1, H2, H3, H4⟩ := H
          have hK2 := hKu.f f2
          have hgb : ∀ x ∈ lv_all m (sy_l S), -536870912 < (sy_gain S k x).toInt := fun x hx => by have := hgain k hk1' x hx; unfold lz_in at this; omega
          rw [show cr_l0 (sy_N S) (sy_c S) false = sy_l S from rfl, bt_eq hgb] at H4
          obtain ⟨xq, hxq, exq⟩ := bt_val hgb
          have hbin : lz_in (bt_r (sy_gain S k) (lv_all m (sy_l S))).1 := by rw [exq]; exact hgain k hk1' xq hxq
          have emo : mo = (bt_r (sy_gain S k) (lv_all m (sy_l S))).1.toInt64 := H4.2.1
          subst emo
          have hn2 : h2[NA]? = some (.inl (0, (nk_w (sy_N S)).length, .inl nf)) := f2.2 _ _ hnu (cw_hi (by omega))
          have ed : (bt_r (sy_gain S k) (lv_all m (sy_l S))).1.toInt64 - (sy_likes S k).toInt64 = ((bt_r (sy_gain S k) (lv_all m (sy_l S))).1 - sy_likes S k).toInt64 := i64_sub hbin (hlik k hk1')
          refine nd_pop hC (by rfl) dX1_keenest_51 ?_
          refine nd_aload hC dX1_keenest_52 rfl rfl ?_
          refine nd_getN (ci := nX38) hC in_X38 rfl H1 2 (by decide) q781 (fun _ z => z) rfl dX1_keenest_54 ?_
          refine nd_aload_n hC dX1_keenest_57 rfl rfl ?_
          refine nd_iload hC dX1_keenest_58 rfl ?_
          refine nd_ialoadN hC hn2 hk1' (by omega) dX1_keenest_60 ?_
          rw [hnf k hk1']
          refine nd_i2l hC dX1_keenest_61 ?_
          refine nd_lsub hC dX1_keenest_62 ?_
          rw [ed]
          refine nd_lload hC dX1_keenest_63 rfl ?_
          refine nd_lcmp_gt hC (tgt := 72) dX1_keenest_65 dX1_keenest_66 (by decide) (fun hq => ?_) (fun hq => ?_)
          · have ek : kn_go S m (k + 1) = (nI k, (bt_r (sy_gain S k) (lv_all m (sy_l S))).1 - sy_likes S k) := by
              show (if _ ≤ _ then _ else _) = _
              rw [if_neg]
              rw [Int64.lt_iff_toInt_lt, nd_tl, nd_tl] at hq
              rw [Int32.le_iff_toInt_le]
              omega
            refine nd_iload hC dX1_keenest_72 rfl ?_
            refine nd_istore_n hC dX1_keenest_74 (Nat.le_of_ble_eq_true rfl) ?_
            refine nd_aload hC dX1_keenest_75 rfl rfl ?_
            refine nd_getN (ci := nX38) hC in_X38 rfl H1 2 (by decide) q781 (fun _ z => z) rfl dX1_keenest_77 ?_
            refine nd_aload_n hC dX1_keenest_80 rfl rfl ?_
            refine nd_iload hC dX1_keenest_81 rfl ?_
            refine nd_ialoadN hC hn2 hk1' (by omega) dX1_keenest_83 ?_
            rw [hnf k hk1']
            refine nd_i2l hC dX1_keenest_84 ?_
            refine nd_lsub hC dX1_keenest_85 ?_
            rw [ed]
            refine nd_lstore hC dX1_keenest_86 (Nat.le_of_ble_eq_true rfl) ?_
            first | with_reducible refine nd_iincN hC dX1_keenest_88 rfl (Nat.le_of_ble_eq_true rfl) ?_ | refine nd_iinc hC dX1_keenest_88 rfl rfl (Nat.le_of_ble_eq_true rfl) ?_
            refine nd_goto hC (tgt := 19) dX1_keenest_91 (by decide) ?_
            refine nd_widen (cs2 := 2 + 3 * (k + 1)) (ss2 := 10 + 18 * (k + 1)) (by omega) (by omega) ?_
            have Q := ih h2 (some (.int (nI k))) (some (.ref hu.length)) (fu.trans f2) hs2 hn2
            rw [ek] at Q
            exact Q
          · have ek : kn_go S m (k + 1) = kn_go S m k := by
              show (if _ ≤ _ then _ else _) = _
              rw [if_pos]
              rw [Int64.lt_iff_toInt_lt, nd_tl, nd_tl] at hq
              rw [Int32.le_iff_toInt_le]
              omega
            refine nd_goto hC (tgt := 88) dX1_keenest_69 (by decide) ?_
            first | with_reducible refine nd_iincN hC dX1_keenest_88 rfl (Nat.le_of_ble_eq_true rfl) ?_ | refine nd_iinc hC dX1_keenest_88 rfl rfl (Nat.le_of_ble_eq_true rfl) ?_
            refine nd_goto hC (tgt := 19) dX1_keenest_91 (by decide) ?_
            refine nd_widen (cs2 := 2 + 3 * (k + 1)) (ss2 := 10 + 18 * (k + 1)) (by omega) (by omega) ?_
            have Q := ih h2 (some (.int (nI k))) (some (.ref hu.length)) (fu.trans f2) hs2 hn2
            rw [ek] at Q
            exact Q
    have M := L 0 (Nat.zero_le _) hv none none fv hsv9 hnv
    exact M
  · rw [if_neg (by rw [hc]; decide)] at hk1
    exact nd_out hC rfl (by omega) (by omega) (hk1 (Nat.succ_ne_zero _) _ _ ⟨hs.app, o, nap, ds, gi, dss, hK.f cw_f.rfl.app⟩ (cw_f.rfl.app.fr hl123))
end CP42

