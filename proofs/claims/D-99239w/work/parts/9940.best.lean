set_option maxRecDepth 100000
/-! ===== best, step, fairest ===== -/
theorem i_l2i (a : Int32) : a.toInt64.toInt32 = a := by
  apply Int32.toInt_inj.mp
  rw [Int64.toInt_toInt32, nd_tl]
  have h1 := Int32.le_toInt a
  have h2 := Int32.toInt_lt a
  exact Int.bmod_eq_of_le (by omega) (by omega)
theorem be_opB {fw : Int32} {mo : Int64} {bf : Nat → Int32} {R : Int32 × List Nat} (H : be_st (some (R.1.toInt64, R.2)) fw mo bf) : mo.toInt32 = R.1 ∧ fw = nI R.2.length ∧ R.2.length ≤ 5 ∧ mo ≠ be_min ∧ ∀ k, k < 2147483648 → be_fold mo fw bf k = if k < R.2.length then nI (R.2.getD k 0) else -1 := by
  obtain ⟨e1, e2, e3, e4, e5⟩ := H
  have e5 : R.2.length ≤ 5 := e5
  have hne : mo ≠ be_min := by rw [e2]; exact e3
  refine ⟨by rw [e2]; exact i_l2i R.1, e1, e5, hne, fun k hk => ?_⟩
  unfold be_fold
  rw [if_neg hne, e1]
  show (if nI k < nI R.2.length then bf k else -1) = _
  by_cases z : k < R.2.length
  · rw [if_pos ((nI_ltI (by omega) (by omega)).mpr z), if_pos z]; exact e4 _ z
  · rw [if_neg (fun q => z ((nI_ltI (by omega) (by omega)).mp q)), if_neg z]
section CP40
variable {g : nd_G} {d : Nat} {K : nd_K} {h : nd_H} {o : Nat → Nat} {nap : Nat} {ds : List Nat} {gi : Nat → Value} {dss : Nat → List Nat} {S : sy_S}
theorem cx_bestOf (hg : nd_OK g) (hd : 940 ≤ d) (hS : sy_ok S) (hs : cw_S h) (hK : cw_K o nap ds gi dss S h) (hl123 : 123 ≤ h.length) {m : Nat} (hm5 : m ≤ 5) (hk : ∀ h2 fw mo bf, cw_f h h2 → cw_S h2 → h2[h.length]? = some (.inr (nX29, [.ref (h.length + 2), .int fw, .long mo, .ref 0, .ref (h.length + 1), .ref 0, .ref 0])) → h2[h.length + 2]? = some (.inl (0, 5, .inl bf)) → be_st (some ((bt_r (sy_worth S) (lv_all m (sy_l S))).1.toInt64, (bt_r (sy_worth S) (lv_all m (sy_l S))).2)) fw mo bf → K (.inl (some (.ref h.length))) h2) : nd_M g mX1_bestOf d 3 17 [.ref 0, .int (nI m)] h K := by
  have hn : sy_n S ≤ 6 := hS.1.1.1
  have hsv : sv_ok (sy_n S) (sy_c S) := hS.1.2.1
  refine nd_enter hg (by decide) rfl (Nat.le_of_ble_eq_true rfl) (fun X hC => ?_)
  refine nd_new (ci := nX29) hC [.null, .int 0, .long 0, .null, .null, .null, .null] in_X29 rfl tyX29 tyX29_ok q762 q763 q205 rfl rfl (by omega) (by omega) dX1_bestOf_0 ?_
  refine nd_dup hC (by rfl) dX1_bestOf_3 ?_
  refine nd_aload_n hC dX1_bestOf_4 rfl rfl ?_
  refine nd_callI (mm2 := mX29_init) (As := [_]) (mc2 := 2) (ms2 := 10) (d2 := d - 1) hC rfl rfl q766 q205 q764 q765 rfl lmX29_init (Nat.le_of_ble_eq_true rfl) (by omega) rfl (by exact Nat.le_of_ble_eq_true rfl) (by omega) (by omega) dX1_bestOf_5 rfl ((ni_X29 hg (by omega) (List.getElem?_concat_length ..) ?_))
  rw [show (h ++ [(.inr (nX29, [.null, .int 0, .long 0, .null, .null, .null, .null]) : nd_C)]).length = h.length + 1 by simp]
  generalize hh1 : ((h ++ [(.inr (nX29, [.null, .int 0, .long 0, .null, .null, .null, .null]) : nd_C)]).set h.length (.inr (nX29, [.ref (h.length + 1 + 1), .int (-1), .long be_min, .ref 0, .ref (h.length + 1), .ref 0, .ref 0])) ++ [.inl (0, 5, .inl (fun _ => 0))]) ++ [.inl (0, 5, .inl (fun _ => 0))] = h1
  have e1 : h1[h.length]? = some (.inr (nX29, [.ref (h.length + 2), .int (-1), .long be_min, .ref 0, .ref (h.length + 1), .ref 0, .ref 0])) := by
    rw [← hh1, List.getElem?_append_left (by simp)]; exact l_get_app (by simp)
  have e2 : h1[h.length + 1]? = some (.inl (0, 5, .inl (fun _ => 0))) := by
    rw [← hh1, List.getElem?_append_left (by simp), List.getElem?_append_right (by simp)]; simp
  have e3 : h1[h.length + 2]? = some (.inl (0, 5, .inl (fun _ => 0))) := by
    rw [← hh1, List.getElem?_append_right (by simp)]; simp
  have f1 : cw_f h h1 := by
    rw [← hh1]
    exact cw_f.app (cw_f.app (cw_f.set (cw_f.app cw_f.rfl) (Or.inl (Nat.le_refl _))))
  have hs1 : cw_S h1 := by
    rw [← hh1]
    exact cw_S.app (cw_S.app (cw_S.set hs.app (by omega)))
  refine nd_astore_n hC dX1_bestOf_8 (Nat.le_of_ble_eq_true rfl) rfl ?_
  refine nd_aload_n hC dX1_bestOf_9 rfl rfl ?_
  refine nd_iconst hC (v := nI 0) (by rfl) dX1_bestOf_10 ?_
  refine nd_iload_n hC dX1_bestOf_11 rfl ?_
  refine nd_callU (mm2 := mX20_seeks) (As := [_, _]) (mc2 := 0) (ms2 := 0) (d2 := d - 1) (owner := "NapkinDeeds$Rows") (x := ⟨"NapkinDeeds$Best", "seeks", "(ZI)LNapkinDeeds$Rows;"⟩) (n := 2) hC rfl (va_cwU 2 hC.hts (lw_U q802 q803 q809 q812 q190 q813) rfl rfl rfl rfl ⟨by decide, by decide, by decide +kernel⟩ (nd_roomR (by omega) (by decide))) (e1) rfl (Nat.le_of_ble_eq_true rfl) (by omega) rfl (by exact Nat.le_of_ble_eq_true rfl) (by omega) (by omega) dX1_bestOf_12 rfl ((cw_seek (fl := false) (most := m) (d0 := 920) (b := h.length) (rb := h.length + 1) (ci := nX29) (σ := Option (Int64 × List Nat)) (s0 := none) (see := bs_see (fun x => some (sy_worth S x).toInt64)) (Bd := fun _ => True) (Ob := fun s h2 => ∃ fw mo bf, h2[h.length]? = some (.inr (nX29, [.ref (h.length + 2), .int fw, .long mo, .ref 0, .ref (h.length + 1), .ref 0, .ref 0])) ∧ (∃ f, h2[h.length + 1]? = some (.inl (0, 5, .inl f))) ∧ h2[h.length + 2]? = some (.inl (0, 5, .inl bf)) ∧ be_st s fw mo bf) hg (by omega) (by omega) hm5 hS hK hl123 hs1 f1 (by omega) (by omega) ?_ ?_ ?_ ⟨_, _, _, e1, ⟨_, e2⟩, e3, rfl, rfl⟩ ?_ (fun h2 H hs2 f2 hl2 => ?_)))
  · intro s h2 H
    obtain ⟨fw, mo, bf, H1, H2, -⟩ := H
    exact ⟨⟨4, _, Or.inr (Or.inr (Or.inr (Or.inr (Or.inr (Or.inr (Or.inr (Or.inr (Or.inr (Or.inr (Or.inr (Or.inl ⟨rfl, rfl⟩))))))))))), H1, rfl, rfl⟩, H2⟩
  · intro s h2 h3 H hl hf hr
    obtain ⟨fw, mo, bf, H1, H2, H3, H4⟩ := H
    exact ⟨fw, mo, bf, (hf _ (by omega) (by omega)).trans H1, hr, (hf _ (by omega) (by omega)).trans H3, H4⟩
  · intro d2 hd2 s r l h2 K2 hB H hs2 f2 hl hokl hrw hr5 kk
    obtain ⟨fw, mo, bf, H1, -, H3, H4⟩ := H
    obtain ⟨rf, H2, hrf⟩ := hrw
    have hK2 := hK.f f2
    have hfq : ∀ h3, ck_fr 94 1 h2 h3 → cw_f h h3 := fun h3 q => f2.trans (q.cwf (fun a a1 a2 => by unfold cw_sc; omega))
    have keep : ∀ h3, ck_fr 94 1 h2 h3 → cw_S h3 → bs_see (fun x => some (sy_worth S x).toInt64) s (r, l) = s → K2 (.inl none) h3 := by
      intro h3 q1 q2 es
      refine kk h3 ?_ q2 (hfq h3 q1) q1.1 (fun a ha => q1.2 a (by omega))
      rw [es]
      exact ⟨fw, mo, bf, (q1.2 _ (by omega)).trans H1, ⟨rf, (q1.2 _ (by omega)).trans H2⟩, (q1.2 _ (by omega)).trans H3, H4⟩
    have take : ∀ h3 v, ck_fr 94 1 h2 h3 → cw_S h3 → v ≠ be_min → bs_see (fun x => some (sy_worth S x).toInt64) s (r, l) = some (v, r) → K2 (.inl none) ((h3.set (h.length) (.inr (nX29, [.ref (h.length + 2), .int (nI r.length), .long v, .ref 0, .ref (h.length + 1), .ref 0, .ref 0]))).set (h.length + 2) (.inl (0, 5, .inl (va_cpy rf bf 0 0 5)))) := by
      intro h3 v q1 q2 hv es
      have l1 : h.length < h3.length := by rw [q1.1]; exact nd_get_lt H1
      have l3 : h.length + 2 < h3.length := by rw [q1.1]; exact nd_get_lt H3
      refine kk _ ?_ ((q2.set (by omega)).set (by omega)) (((hfq h3 q1).set (Or.inl (by omega))).set (Or.inl (by omega))) (by rw [List.length_set, List.length_set]; exact q1.1) (fun a ha => by rw [List.getElem?_set_ne (by omega), List.getElem?_set_ne (by omega)]; exact q1.2 a (by omega))
      rw [es]
      refine ⟨nI r.length, v, va_cpy rf bf 0 0 5, ?_, ⟨rf, ?_⟩, List.getElem?_set_self (by rw [List.length_set]; exact l3), rfl, rfl, hv, be_rw hrf hr5, hr5⟩
      · rw [List.getElem?_set_ne (by omega)]; exact List.getElem?_set_self l1
      · rw [List.getElem?_set_ne (by omega), List.getElem?_set_ne (by omega)]; exact (q1.2 _ (by omega)).trans H2
    have B := be_iff (val := fun x => some ((sy_worth S) x).toInt64) H4 (x := (r, l)) rfl (i64_ne _) hr5
    exact Or.inr (Or.inr (Or.inr (Or.inl ⟨nX29, _, Or.inl rfl, H1, cb_seesX29 (Q := fun h4 => ck_fr 94 1 h2 h4 ∧ cw_S h4) (v := ((sy_worth S) (r, l)).toInt64) (f := rf) (bf := bf) hg (by omega) H1 ⟨by omega, by omega⟩ (fun K4 kq4 => cq_valX29 hg (by omega) (hK2.P hs2) hsv hS.1.1 hl (by omega) hokl H1 (fun h4 f4 hP4 => kq4 h4 ⟨f4, hP4.S hs2 (fun a ha => f4.2 a (by omega))⟩)) (fun h4 q4 => ⟨q4.1.2 _ (by omega), (q4.1.2 _ (by omega)).trans H2, (q4.1.2 _ (by omega)).trans H3⟩) (fun hno h4 q4 => keep h4 q4.1 q4.2 (B.1 hno)) (fun hno h4 q4 => take h4 _ q4.1 q4.2 (i64_ne _) (B.2 hno))⟩)))
  · exact df_B_T _ _ _
  · obtain ⟨fw, mo, bf, H1, H2, H3, H4⟩ := H
    have hK2 := hK.f f2
    rw [bt_eq (fun x hx => by have := worth_in hS hK hm5 x hx; unfold lz_in at this; omega)] at H4
    refine nd_pop hC (by rfl) dX1_bestOf_15 ?_
    refine nd_aload_n hC dX1_bestOf_16 rfl rfl ?_
    refine nd_areturn hC rfl (by first | exact Or.inl ⟨_, rfl⟩ | exact Or.inr ⟨_, rfl⟩) (by rfl) (by omega) (by omega) dX1_bestOf_17 ((hk h2 fw mo bf f2 hs2 H1 H3 H4))
theorem cp_best (hg : nd_OK g) (hd : 960 ≤ d) (x y : Int32) : cp_ok g mX1_best d 10 60 [.int x, .int y] (ex1 eIAE) (mp_i (op_best x y)) := by
  intro S h K hS hI hl123 hk0 hk1
  obtain ⟨hs, o, nap, ds, gi, dss, hK⟩ := hI
  obtain ⟨⟨x0, hO⟩, h17, hkk, -⟩ := id hK
  unfold cx_O at hO
  have hok := sy_l_ok hS
  have hwd := lk_width hok
  have hn : sy_n S ≤ 6 := hS.1.1.1
  have h5 := sy_len5 hS
  obtain ⟨sfr, sbk, sfo, smn, hSt, hcv⟩ := id hkk.2.1
  obtain ⟨hSt1, hSt2, hSt3, hSt4⟩ := id hSt
  have hcv : cs_v sfr sbk sfo smn (sy_c S) := hcv
  have hsv : sv_ok (sy_n S) (sy_c S) := hS.1.2.1
  unfold mp_i op_best op_bestBy at hk0 hk1
  refine nd_enter hg (by decide) rfl (Nat.le_of_ble_eq_true rfl) (fun X hC => ?_)
  refine nd_iload_n hC dX1_best_0 rfl ?_
  refine nd_callS (mm2 := mX1_mustRows) (As := [_]) (mc2 := 1) (ms2 := 6) (d2 := d - 1) hC rfl lkX1_368 lmX1_mustRows (Nat.le_of_ble_eq_true rfl) (by omega) rfl (by exact Nat.le_of_ble_eq_true rfl) (by omega) (by omega) dX1_best_1 rfl ((cx_mustRows hg (by omega) (fun hc => ?_) (fun hc n => ?_)))
  · obtain ⟨m, hm9, rfl⟩ := op_in_nat hc
    have hm5 : m ≤ 5 := by omega
    have hdec : ∀ c : Bool, (c = true ↔ (y = nI 1 ∨ op_isWhat y = true)) → nd_W g mX1_best d 10 60 K X 32 [some (.ref 0), some (.int (nI m)), some (.int y), none] [.int (nd_b c)] h (0 + 1) (0 + 6) := by
      intro c hcc
      refine nd_callS (mm2 := mX1_needs) (As := [_]) (mc2 := 1) (ms2 := 6) (d2 := d - 1) hC rfl lkX1_110 lmX1_needs (Nat.le_of_ble_eq_true rfl) (by omega) rfl (by exact Nat.le_of_ble_eq_true rfl) (by omega) (by omega) dX1_best_32 rfl ((ci_needs hg (fun hc2 => ?_) (fun hc2 n => ?_)))
      · have hy := hcc.mp hc2
        rw [if_pos ⟨hc, hy⟩, nI_cl (by omega)] at hk0
        refine nd_aload_n hC dX1_best_35 rfl rfl ?_
        refine nd_iload_n hC dX1_best_36 rfl ?_
        refine nd_callV (mm2 := mX1_bestOf) (As := [_]) (mc2 := 3) (ms2 := 17) (d2 := d - 1) hC rfl lkX1_414 ⟨rfl, lmX1_bestOf⟩ (hO) rfl (Nat.le_of_ble_eq_true rfl) (by omega) rfl (by exact Nat.le_of_ble_eq_true rfl) (by omega) (by omega) dX1_best_37 rfl ((cx_bestOf hg (by omega) hS hs hK hl123 hm5 (fun h2 fw mo bf f2 hs2 H1 H3 H4 => ?_)))
        refine nd_astore_n hC dX1_best_40 (Nat.le_of_ble_eq_true rfl) rfl ?_
        obtain ⟨o1, o2, o3, o4, o5⟩ := be_opB H4
        unfold op_tB at hk0
        refine nd_iload_n hC dX1_best_41 rfl ?_
        refine nd_if_ne hC (tgt := 53) dX1_best_42 (by decide) (fun hy0 => ?_) (fun hy0 => ?_)
        · rw [if_neg hy0] at hk0
          refine nd_iload_n hC dX1_best_53 rfl ?_
          refine nd_iconst hC (v := nI 1) (by rfl) dX1_best_54 ?_
          refine nd_icmp_ne hC (tgt := 65) dX1_best_55 (by decide) (fun hy1 => ?_) (fun hy1 => ?_)
          · rw [if_neg hy1] at hk0
            have hw : ∃ w, 10 ≤ w ∧ w < 15 ∧ y = nI w := by
              rcases hy with z | z
              · exact absurd z hy1
              · unfold op_isWhat at z
                rw [decide_eq_false hy0, Bool.false_or] at z
                unfold op_in at z
                rw [decide_eq_true_iff] at z
                refine ⟨y.toInt.toNat, by omega, by omega, ?_⟩
                rw [← Int32.toInt_inj, nI_toInt (by omega)]
                omega
            obtain ⟨w, hw1, hw2, rfl⟩ := hw
            rw [nI_cl (by omega)] at hk0
            refine nd_aload_n hC dX1_best_65 rfl rfl ?_
            refine nd_iload_n hC dX1_best_66 rfl ?_
            refine nd_bipush hC (v := nI 10) (by rfl) dX1_best_67 ?_
            first | with_reducible refine nd_isubN hC (by omega) dX1_best_69 ?_ | refine nd_isub hC dX1_best_69 ?_
            refine nd_callU (mm2 := mX25_fold) (As := [_]) (mc2 := 0) (ms2 := 0) (d2 := d - 1) (owner := "NapkinDeeds$Best") (x := ⟨"NapkinDeeds$Best", "fold", "(I)I"⟩) (n := 1) hC rfl (va_cwU 1 hC.hts (lw_U q1022 q1024 q1029 q1023 q201 q1032) rfl rfl rfl rfl ⟨by decide, by decide, by decide +kernel⟩ (nd_roomR (by omega) (by decide))) (H1) rfl (Nat.le_of_ble_eq_true rfl) (by omega) rfl (by exact Nat.le_of_ble_eq_true rfl) (by omega) (by omega) dX1_best_70 rfl ((be_foldX29 hg (by omega) (k := w - 10) (by omega) H1 H3 (fun _ z => by rw [o2] at z; have := (nI_ltI (by omega) (by omega)).mp z; omega) ?_))
            rw [o5 (w - 10) (by omega)]
            refine nd_ireturn hC rfl (by first | rfl | exact nd_b_nar _) (by omega) (by omega) dX1_best_73 ((hk0 rfl h2 ⟨hs2, o, nap, ds, gi, dss, (hK.f f2)⟩ (f2.fr hl123)))
          · rw [if_pos hy1] at hk0
            refine nd_aload_n hC dX1_best_58 rfl rfl ?_
            refine nd_getN (ci := nX29) hC in_X29 rfl H1 1 (by decide) q779 (fun _ z => z) rfl dX1_best_59 ?_
            refine nd_goto hC (tgt := 73) dX1_best_62 (by decide) ?_
            rw [o2]
            refine nd_ireturn hC rfl (by first | rfl | exact nd_b_nar _) (by omega) (by omega) dX1_best_73 ((hk0 rfl h2 ⟨hs2, o, nap, ds, gi, dss, (hK.f f2)⟩ (f2.fr hl123)))
        · rw [if_pos hy0] at hk0
          refine nd_aload_n hC dX1_best_45 rfl rfl ?_
          refine nd_getN (ci := nX29) hC in_X29 rfl H1 2 (by decide) q781 (fun _ z => z) rfl dX1_best_46 ?_
          refine nd_l2i hC dX1_best_49 ?_
          rw [o1]
          refine nd_goto hC (tgt := 73) dX1_best_50 (by decide) ?_
          refine nd_ireturn hC rfl (by first | rfl | exact nd_b_nar _) (by omega) (by omega) dX1_best_73 ((hk0 rfl h2 ⟨hs2, o, nap, ds, gi, dss, (hK.f f2)⟩ (f2.fr hl123)))
      · rw [if_neg (fun z => by have := hcc.mpr z.2; rw [hc2] at this; cases this)] at hk1
        exact nd_out hC rfl (by omega) (by omega) (hk1 (Nat.succ_ne_zero _) _ _ ⟨hs.app, o, nap, ds, gi, dss, hK.f cw_f.rfl.app⟩ (cw_f.rfl.app.fr hl123))
    refine nd_iload_n hC dX1_best_4 rfl ?_
    refine nd_iconst hC (v := nI 1) (by rfl) dX1_best_5 ?_
    refine nd_icmp_eq hC (tgt := 27) dX1_best_6 (by decide) (fun hq => ?_) (fun hq => ?_)
    · refine nd_iconst hC (v := nI 1) (by rfl) dX1_best_27 ?_
      refine nd_goto hC (tgt := 32) dX1_best_28 (by decide) ?_
      exact hdec true ⟨fun _ => Or.inl hq, fun _ => rfl⟩
    · refine nd_iload_n hC dX1_best_9 rfl ?_
      refine nd_if_eq hC (tgt := 27) dX1_best_10 (by decide) (fun hq2 => ?_) (fun hq2 => ?_)
      · refine nd_iconst hC (v := nI 1) (by rfl) dX1_best_27 ?_
        refine nd_goto hC (tgt := 32) dX1_best_28 (by decide) ?_
        exact hdec true ⟨fun _ => Or.inr (by unfold op_isWhat; rw [decide_eq_true hq2]; rfl), fun _ => rfl⟩
      · refine nd_iload_n hC dX1_best_13 rfl ?_
        first | with_reducible refine nd_i2lN hC (by omega) dX1_best_14 ?_ | refine nd_i2l hC dX1_best_14 ?_
        refine nd_ldc2 hC q2068 dX1_best_15 ?_
        refine nd_v_eq (y := .long (lN 10)) (by rfl) ?_
        refine nd_ldc2 hC q2191 dX1_best_18 ?_
        refine nd_v_eq (y := .long (lN 14)) (by rfl) ?_
        refine nd_callS (mm2 := mX1_isIn) (As := [_, _, _]) (mc2 := 0) (ms2 := 0) (d2 := d - 1) hC rfl lkX1_106 lmX1_isIn (Nat.le_of_ble_eq_true rfl) (by omega) rfl (by exact Nat.le_of_ble_eq_true rfl) (by omega) (by omega) dX1_best_21 rfl ((ci_isIn hg ?_))
        have e : (decide (lN 10 ≤ y.toInt64) && decide (y.toInt64 ≤ lN 14)) = op_in y 10 14 := by
          unfold op_in
          rw [Bool.eq_iff_iff, Bool.and_eq_true, nd_lle, nd_lle, nd_tl, lN_toInt (by decide), lN_toInt (by decide), decide_eq_true_iff]
          omega
        rw [e]
        have e2 : op_isWhat y = op_in y 10 14 := by unfold op_isWhat; rw [decide_eq_false hq2]; rfl
        have e3 : op_in y 10 14 = true ↔ (y = nI 1 ∨ op_isWhat y = true) := by
          rw [e2]
          exact ⟨Or.inr, fun z => z.elim (fun w => absurd w hq) id⟩
        first | with_reducible refine nd_if_eqB hC (tgt := 31) dX1_best_24 (by decide) (fun hq3 => ?_) (fun hq3 => ?_) | with_reducible refine nd_if_eqN hC (tgt := 31) (by omega) dX1_best_24 (by decide) (fun hq3 => ?_) (fun hq3 => ?_) | refine nd_if_eq hC (tgt := 31) dX1_best_24 (by decide) (fun hq3 => ?_) (fun hq3 => ?_)
        · refine nd_iconst hC (v := nI 0) (by rfl) dX1_best_31 ?_
          exact hdec false ⟨fun z => by (cases z), fun z => by rw [← e3, hq3] at z; cases z⟩
        · refine nd_iconst hC (v := nI 1) (by rfl) dX1_best_27 ?_
          refine nd_goto hC (tgt := 32) dX1_best_28 (by decide) ?_
          exact hdec true ⟨fun _ => e3.mp hq3, fun _ => rfl⟩
  · rw [if_neg (fun z => by rw [hc] at z; exact absurd z.1 (by decide))] at hk1
    exact nd_out hC rfl (by omega) (by omega) (hk1 (Nat.succ_ne_zero _) _ _ ⟨hs.app, o, nap, ds, gi, dss, hK.f cw_f.rfl.app⟩ (cw_f.rfl.app.fr hl123))
theorem cp_step (hg : nd_OK g) (hd : 960 ≤ d) : cp_ok g mX1_step d 10 60 [] (ex1 eIAE) (mp_i (op_step)) := by
  intro S h K hS hI hl123 hk0 hk1
  obtain ⟨hs, o, nap, ds, gi, dss, hK⟩ := hI
  obtain ⟨⟨x0, hO⟩, h17, hkk, -⟩ := id hK
  unfold cx_O at hO
  have hok := sy_l_ok hS
  have hwd := lk_width hok
  have hn : sy_n S ≤ 6 := hS.1.1.1
  have h5 := sy_len5 hS
  obtain ⟨sfr, sbk, sfo, smn, hSt, hcv⟩ := id hkk.2.1
  obtain ⟨hSt1, hSt2, hSt3, hSt4⟩ := id hSt
  have hcv : cs_v sfr sbk sfo smn (sy_c S) := hcv
  have hsv : sv_ok (sy_n S) (sy_c S) := hS.1.2.1
  unfold mp_i op_step at hk0 hk1
  refine nd_enter hg (by decide) rfl (Nat.le_of_ble_eq_true rfl) (fun X hC => ?_)
  refine nd_aload_n hC dX1_step_0 rfl rfl ?_
  refine nd_iconst hC (v := nI 1) (by rfl) dX1_step_1 ?_
  refine nd_callV (mm2 := mX1_bestOf) (As := [_]) (mc2 := 3) (ms2 := 17) (d2 := d - 1) hC rfl lkX1_414 ⟨rfl, lmX1_bestOf⟩ (hO) rfl (Nat.le_of_ble_eq_true rfl) (by omega) rfl (by exact Nat.le_of_ble_eq_true rfl) (by omega) (by omega) dX1_step_2 rfl ((cx_bestOf (m := 1) hg (by omega) hS hs hK hl123 (by omega) (fun h2 fw mo bf f2 hs2 H1 H3 H4 => ?_)))
  obtain ⟨o1, o2, o3, o4, o5⟩ := be_opB H4
  refine nd_iconst hC (v := nI 0) (by rfl) dX1_step_5 ?_
  refine nd_callU (mm2 := mX25_fold) (As := [_]) (mc2 := 0) (ms2 := 0) (d2 := d - 1) (owner := "NapkinDeeds$Best") (x := ⟨"NapkinDeeds$Best", "fold", "(I)I"⟩) (n := 1) hC rfl (va_cwU 1 hC.hts (lw_U q1022 q1024 q1029 q1023 q201 q1032) rfl rfl rfl rfl ⟨by decide, by decide, by decide +kernel⟩ (nd_roomR (by omega) (by decide))) (H1) rfl (Nat.le_of_ble_eq_true rfl) (by omega) rfl (by exact Nat.le_of_ble_eq_true rfl) (by omega) (by omega) dX1_step_6 rfl ((be_foldX29 hg (by omega) (k := 0) (by omega) H1 H3 (fun _ z => by omega) ?_))
  rw [o5 0 (by omega)]
  have e : (if 0 < (bt_r (sy_worth S) (lv_all 1 (sy_l S))).2.length then nI ((bt_r (sy_worth S) (lv_all 1 (sy_l S))).2.getD 0 0) else -1) = (if (bt_r (sy_worth S) (lv_all 1 (sy_l S))).2.length = 0 then -1 else nI ((bt_r (sy_worth S) (lv_all 1 (sy_l S))).2.getD 0 0)) := by
    by_cases z : (bt_r (sy_worth S) (lv_all 1 (sy_l S))).2.length = 0
    · rw [if_pos z, if_neg (by omega)]
    · rw [if_neg z, if_pos (by omega)]
  rw [e]
  refine nd_ireturn hC rfl (by first | rfl | exact nd_b_nar _) (by omega) (by omega) dX1_step_9 ((hk0 rfl h2 ⟨hs2, o, nap, ds, gi, dss, (hK.f f2)⟩ (f2.fr hl123)))
theorem cp_fairest (hg : nd_OK g) (hd : 960 ≤ d) (x y : Int32) : cp_ok g mX1_fairest d 10 60 [.int x, .int y] (ex1 eIAE) (mp_i (op_fairest x y)) := by
  intro S h K hS hI hl123 hk0 hk1
  obtain ⟨hs, o, nap, ds, gi, dss, hK⟩ := hI
  obtain ⟨⟨x0, hO⟩, h17, hkk, -⟩ := id hK
  unfold cx_O at hO
  have hok := sy_l_ok hS
  have hwd := lk_width hok
  have hn : sy_n S ≤ 6 := hS.1.1.1
  have h5 := sy_len5 hS
  obtain ⟨sfr, sbk, sfo, smn, hSt, hcv⟩ := id hkk.2.1
  obtain ⟨hSt1, hSt2, hSt3, hSt4⟩ := id hSt
  have hcv : cs_v sfr sbk sfo smn (sy_c S) := hcv
  have hsv : sv_ok (sy_n S) (sy_c S) := hS.1.2.1
  unfold mp_i op_fairest op_bestBy at hk0 hk1
  refine nd_enter hg (by decide) rfl (Nat.le_of_ble_eq_true rfl) (fun X hC => ?_)
  refine nd_iload_n hC dX1_fairest_0 rfl ?_
  refine nd_callS (mm2 := mX1_mustRows) (As := [_]) (mc2 := 1) (ms2 := 6) (d2 := d - 1) hC rfl lkX1_368 lmX1_mustRows (Nat.le_of_ble_eq_true rfl) (by omega) rfl (by exact Nat.le_of_ble_eq_true rfl) (by omega) (by omega) dX1_fairest_1 rfl ((cx_mustRows hg (by omega) (fun hc => ?_) (fun hc n => ?_)))
  · obtain ⟨m, hm9, rfl⟩ := op_in_nat hc
    have hm5 : m ≤ 5 := by omega
    have hdec : ∀ c : Bool, (c = true ↔ (y = nI 1 ∨ op_isWhat y = true)) → nd_W g mX1_fairest d 10 60 K X 32 [some (.ref 0), some (.int (nI m)), some (.int y), none] [.int (nd_b c)] h (0 + 1) (0 + 6) := by
      intro c hcc
      refine nd_callS (mm2 := mX1_needs) (As := [_]) (mc2 := 1) (ms2 := 6) (d2 := d - 1) hC rfl lkX1_110 lmX1_needs (Nat.le_of_ble_eq_true rfl) (by omega) rfl (by exact Nat.le_of_ble_eq_true rfl) (by omega) (by omega) dX1_fairest_32 rfl ((ci_needs hg (fun hc2 => ?_) (fun hc2 n => ?_)))
      · have hy := hcc.mp hc2
        rw [if_pos ⟨hc, hy⟩, nI_cl (by omega)] at hk0
        refine nd_new (ci := nX36) hC [.null, .int 0, .long 0, .null, .null, .null, .null] in_X36 rfl tyX36 tyX36_ok q2412 q2413 q212 rfl rfl (by omega) (by omega) dX1_fairest_35 ?_
        refine nd_dup hC (by rfl) dX1_fairest_38 ?_
        refine nd_aload_n hC dX1_fairest_39 rfl rfl ?_
        refine nd_callI (mm2 := mX36_init) (As := [_]) (mc2 := 2) (ms2 := 10) (d2 := d - 1) hC rfl rfl q2416 q212 q2414 q2415 rfl lmX36_init (Nat.le_of_ble_eq_true rfl) (by omega) rfl (by exact Nat.le_of_ble_eq_true rfl) (by omega) (by omega) dX1_fairest_40 rfl ((ni_X36 hg (by omega) (List.getElem?_concat_length ..) ?_))
        rw [show (h ++ [(.inr (nX36, [.null, .int 0, .long 0, .null, .null, .null, .null]) : nd_C)]).length = h.length + 1 by simp]
        generalize hh1 : ((h ++ [(.inr (nX36, [.null, .int 0, .long 0, .null, .null, .null, .null]) : nd_C)]).set h.length (.inr (nX36, [.ref (h.length + 1 + 1), .int (-1), .long be_min, .ref 0, .ref (h.length + 1), .ref 0, .ref 0])) ++ [.inl (0, 5, .inl (fun _ => 0))]) ++ [.inl (0, 5, .inl (fun _ => 0))] = h1
        have e1 : h1[h.length]? = some (.inr (nX36, [.ref (h.length + 2), .int (-1), .long be_min, .ref 0, .ref (h.length + 1), .ref 0, .ref 0])) := by
          rw [← hh1, List.getElem?_append_left (by simp)]; exact l_get_app (by simp)
        have e2 : h1[h.length + 1]? = some (.inl (0, 5, .inl (fun _ => 0))) := by
          rw [← hh1, List.getElem?_append_left (by simp), List.getElem?_append_right (by simp)]; simp
        have e3 : h1[h.length + 2]? = some (.inl (0, 5, .inl (fun _ => 0))) := by
          rw [← hh1, List.getElem?_append_right (by simp)]; simp
        have f1 : cw_f h h1 := by
          rw [← hh1]
          exact cw_f.app (cw_f.app (cw_f.set (cw_f.app cw_f.rfl) (Or.inl (Nat.le_refl _))))
        have hs1 : cw_S h1 := by
          rw [← hh1]
          exact cw_S.app (cw_S.app (cw_S.set hs.app (by omega)))
        refine nd_astore_n hC dX1_fairest_43 (Nat.le_of_ble_eq_true rfl) rfl ?_
        refine nd_aload_n hC dX1_fairest_44 rfl rfl ?_
        refine nd_iconst hC (v := nI 0) (by rfl) dX1_fairest_45 ?_
        refine nd_iload_n hC dX1_fairest_46 rfl ?_
        refine nd_callU (mm2 := mX20_seeks) (As := [_, _]) (mc2 := 0) (ms2 := 0) (d2 := d - 1) (owner := "NapkinDeeds$Rows") (x := ⟨"NapkinDeeds$Best", "seeks", "(ZI)LNapkinDeeds$Rows;"⟩) (n := 2) hC rfl (va_cwU 2 hC.hts (lw_U q802 q803 q806 q812 q190 q813) rfl rfl rfl rfl ⟨by decide, by decide, by decide +kernel⟩ (nd_roomR (by omega) (by decide))) (e1) rfl (Nat.le_of_ble_eq_true rfl) (by omega) rfl (by exact Nat.le_of_ble_eq_true rfl) (by omega) (by omega) dX1_fairest_47 rfl ((cw_seek (fl := false) (most := m) (d0 := 920) (b := h.length) (rb := h.length + 1) (ci := nX36) (σ := Option (Int64 × List Nat)) (s0 := none) (see := bs_see (fun x => some (sy_least S x).toInt64)) (Bd := fun _ => True) (Ob := fun s h2 => ∃ fw mo bf, h2[h.length]? = some (.inr (nX36, [.ref (h.length + 2), .int fw, .long mo, .ref 0, .ref (h.length + 1), .ref 0, .ref 0])) ∧ (∃ f, h2[h.length + 1]? = some (.inl (0, 5, .inl f))) ∧ h2[h.length + 2]? = some (.inl (0, 5, .inl bf)) ∧ be_st s fw mo bf) hg (by omega) (by omega) hm5 hS hK hl123 hs1 f1 (by omega) (by omega) ?_ ?_ ?_ ⟨_, _, _, e1, ⟨_, e2⟩, e3, rfl, rfl⟩ ?_ (fun h2 H hs2 f2 hl2 => ?_)))
        · intro s h2 H
          obtain ⟨fw, mo, bf, H1, H2, -⟩ := H
          exact ⟨⟨4, _, Or.inr (Or.inr (Or.inr (Or.inr (Or.inr (Or.inr (Or.inr (Or.inr (Or.inr (Or.inr (Or.inr (Or.inr (Or.inl ⟨rfl, rfl⟩)))))))))))), H1, rfl, rfl⟩, H2⟩
        · intro s h2 h3 H hl hf hr
          obtain ⟨fw, mo, bf, H1, H2, H3, H4⟩ := H
          exact ⟨fw, mo, bf, (hf _ (by omega) (by omega)).trans H1, hr, (hf _ (by omega) (by omega)).trans H3, H4⟩
        · intro d2 hd2 s r l h2 K2 hB H hs2 f2 hl hokl hrw hr5 kk
          obtain ⟨fw, mo, bf, H1, -, H3, H4⟩ := H
          obtain ⟨rf, H2, hrf⟩ := hrw
          have hK2 := hK.f f2
          have hfq : ∀ h3, ck_fr 94 1 h2 h3 → cw_f h h3 := fun h3 q => f2.trans (q.cwf (fun a a1 a2 => by unfold cw_sc; omega))
          have keep : ∀ h3, ck_fr 94 1 h2 h3 → cw_S h3 → bs_see (fun x => some (sy_least S x).toInt64) s (r, l) = s → K2 (.inl none) h3 := by
            intro h3 q1 q2 es
            refine kk h3 ?_ q2 (hfq h3 q1) q1.1 (fun a ha => q1.2 a (by omega))
            rw [es]
            exact ⟨fw, mo, bf, (q1.2 _ (by omega)).trans H1, ⟨rf, (q1.2 _ (by omega)).trans H2⟩, (q1.2 _ (by omega)).trans H3, H4⟩
          have take : ∀ h3 v, ck_fr 94 1 h2 h3 → cw_S h3 → v ≠ be_min → bs_see (fun x => some (sy_least S x).toInt64) s (r, l) = some (v, r) → K2 (.inl none) ((h3.set (h.length) (.inr (nX36, [.ref (h.length + 2), .int (nI r.length), .long v, .ref 0, .ref (h.length + 1), .ref 0, .ref 0]))).set (h.length + 2) (.inl (0, 5, .inl (va_cpy rf bf 0 0 5)))) := by
            intro h3 v q1 q2 hv es
            have l1 : h.length < h3.length := by rw [q1.1]; exact nd_get_lt H1
            have l3 : h.length + 2 < h3.length := by rw [q1.1]; exact nd_get_lt H3
            refine kk _ ?_ ((q2.set (by omega)).set (by omega)) (((hfq h3 q1).set (Or.inl (by omega))).set (Or.inl (by omega))) (by rw [List.length_set, List.length_set]; exact q1.1) (fun a ha => by rw [List.getElem?_set_ne (by omega), List.getElem?_set_ne (by omega)]; exact q1.2 a (by omega))
            rw [es]
            refine ⟨nI r.length, v, va_cpy rf bf 0 0 5, ?_, ⟨rf, ?_⟩, List.getElem?_set_self (by rw [List.length_set]; exact l3), rfl, rfl, hv, be_rw hrf hr5, hr5⟩
            · rw [List.getElem?_set_ne (by omega)]; exact List.getElem?_set_self l1
            · rw [List.getElem?_set_ne (by omega), List.getElem?_set_ne (by omega)]; exact (q1.2 _ (by omega)).trans H2
          have B := be_iff (val := fun x => some ((sy_least S) x).toInt64) H4 (x := (r, l)) rfl (i64_ne _) hr5
          exact Or.inr (Or.inr (Or.inr (Or.inl ⟨nX36, _, Or.inr (Or.inl rfl), H1, cb_seesX36 (Q := fun h4 => ck_fr 94 1 h2 h4 ∧ cw_S h4) (v := ((sy_least S) (r, l)).toInt64) (f := rf) (bf := bf) hg (by omega) H1 ⟨by omega, by omega⟩ (fun K4 kq4 => cq_valX36 hg (by omega) (hK2.P hs2) hsv hS.1.1 hl (by omega) hokl H1 (fun h4 f4 hP4 => by rw [least_same hS hK hokl (by show (sy_c S).1.length + r.length ≤ 10; omega)]; exact kq4 h4 ⟨f4, hP4.S hs2 (fun a ha => f4.2 a (by omega))⟩)) (fun h4 q4 => ⟨q4.1.2 _ (by omega), (q4.1.2 _ (by omega)).trans H2, (q4.1.2 _ (by omega)).trans H3⟩) (fun hno h4 q4 => keep h4 q4.1 q4.2 (B.1 hno)) (fun hno h4 q4 => take h4 _ q4.1 q4.2 (i64_ne _) (B.2 hno))⟩)))
        · exact df_B_T _ _ _
        · obtain ⟨fw, mo, bf, H1, H2, H3, H4⟩ := H
          have hK2 := hK.f f2
          rw [show cr_l0 (sy_N S) (sy_c S) false = sy_l S from rfl, bt_eq (least_in hS hK hm5)] at H4
          refine nd_pop hC (by rfl) dX1_fairest_50 ?_
          obtain ⟨o1, o2, o3, o4, o5⟩ := be_opB H4
          unfold op_tB at hk0
          refine nd_iload_n hC dX1_fairest_51 rfl ?_
          refine nd_if_ne hC (tgt := 63) dX1_fairest_52 (by decide) (fun hy0 => ?_) (fun hy0 => ?_)
          · rw [if_neg hy0] at hk0
            refine nd_iload_n hC dX1_fairest_63 rfl ?_
            refine nd_iconst hC (v := nI 1) (by rfl) dX1_fairest_64 ?_
            refine nd_icmp_ne hC (tgt := 75) dX1_fairest_65 (by decide) (fun hy1 => ?_) (fun hy1 => ?_)
            · rw [if_neg hy1] at hk0
              have hw : ∃ w, 10 ≤ w ∧ w < 15 ∧ y = nI w := by
                rcases hy with z | z
                · exact absurd z hy1
                · unfold op_isWhat at z
                  rw [decide_eq_false hy0, Bool.false_or] at z
                  unfold op_in at z
                  rw [decide_eq_true_iff] at z
                  refine ⟨y.toInt.toNat, by omega, by omega, ?_⟩
                  rw [← Int32.toInt_inj, nI_toInt (by omega)]
                  omega
              obtain ⟨w, hw1, hw2, rfl⟩ := hw
              rw [nI_cl (by omega)] at hk0
              refine nd_aload_n hC dX1_fairest_75 rfl rfl ?_
              refine nd_iload_n hC dX1_fairest_76 rfl ?_
              refine nd_bipush hC (v := nI 10) (by rfl) dX1_fairest_77 ?_
              first | with_reducible refine nd_isubN hC (by omega) dX1_fairest_79 ?_ | refine nd_isub hC dX1_fairest_79 ?_
              refine nd_callU (mm2 := mX25_fold) (As := [_]) (mc2 := 0) (ms2 := 0) (d2 := d - 1) (owner := "NapkinDeeds$Best") (x := ⟨"NapkinDeeds$Best", "fold", "(I)I"⟩) (n := 1) hC rfl (va_cwU 1 hC.hts (lw_U q1022 q1024 q1026 q1023 q201 q1032) rfl rfl rfl rfl ⟨by decide, by decide, by decide +kernel⟩ (nd_roomR (by omega) (by decide))) (H1) rfl (Nat.le_of_ble_eq_true rfl) (by omega) rfl (by exact Nat.le_of_ble_eq_true rfl) (by omega) (by omega) dX1_fairest_80 rfl ((be_foldX36 hg (by omega) (k := w - 10) (by omega) H1 H3 (fun _ z => by rw [o2] at z; have := (nI_ltI (by omega) (by omega)).mp z; omega) ?_))
              rw [o5 (w - 10) (by omega)]
              refine nd_ireturn hC rfl (by first | rfl | exact nd_b_nar _) (by omega) (by omega) dX1_fairest_83 ((hk0 rfl h2 ⟨hs2, o, nap, ds, gi, dss, hK2⟩ (f2.fr hl123)))
            · rw [if_pos hy1] at hk0
              refine nd_aload_n hC dX1_fairest_68 rfl rfl ?_
              refine nd_getN (ci := nX36) hC in_X36 rfl H1 1 (by decide) q779 (fun _ z => z) rfl dX1_fairest_69 ?_
              refine nd_goto hC (tgt := 83) dX1_fairest_72 (by decide) ?_
              rw [o2]
              refine nd_ireturn hC rfl (by first | rfl | exact nd_b_nar _) (by omega) (by omega) dX1_fairest_83 ((hk0 rfl h2 ⟨hs2, o, nap, ds, gi, dss, hK2⟩ (f2.fr hl123)))
          · rw [if_pos hy0] at hk0
            refine nd_aload_n hC dX1_fairest_55 rfl rfl ?_
            refine nd_getN (ci := nX36) hC in_X36 rfl H1 2 (by decide) q781 (fun _ z => z) rfl dX1_fairest_56 ?_
            refine nd_l2i hC dX1_fairest_59 ?_
            rw [o1]
            refine nd_goto hC (tgt := 83) dX1_fairest_60 (by decide) ?_
            refine nd_ireturn hC rfl (by first | rfl | exact nd_b_nar _) (by omega) (by omega) dX1_fairest_83 ((hk0 rfl h2 ⟨hs2, o, nap, ds, gi, dss, hK2⟩ (f2.fr hl123)))
      · rw [if_neg (fun z => by have := hcc.mpr z.2; rw [hc2] at this; cases this)] at hk1
        exact nd_out hC rfl (by omega) (by omega) (hk1 (Nat.succ_ne_zero _) _ _ ⟨hs.app, o, nap, ds, gi, dss, hK.f cw_f.rfl.app⟩ (cw_f.rfl.app.fr hl123))
    refine nd_iload_n hC dX1_fairest_4 rfl ?_
    refine nd_iconst hC (v := nI 1) (by rfl) dX1_fairest_5 ?_
    refine nd_icmp_eq hC (tgt := 27) dX1_fairest_6 (by decide) (fun hq => ?_) (fun hq => ?_)
    · refine nd_iconst hC (v := nI 1) (by rfl) dX1_fairest_27 ?_
      refine nd_goto hC (tgt := 32) dX1_fairest_28 (by decide) ?_
      exact hdec true ⟨fun _ => Or.inl hq, fun _ => rfl⟩
    · refine nd_iload_n hC dX1_fairest_9 rfl ?_
      refine nd_if_eq hC (tgt := 27) dX1_fairest_10 (by decide) (fun hq2 => ?_) (fun hq2 => ?_)
      · refine nd_iconst hC (v := nI 1) (by rfl) dX1_fairest_27 ?_
        refine nd_goto hC (tgt := 32) dX1_fairest_28 (by decide) ?_
        exact hdec true ⟨fun _ => Or.inr (by unfold op_isWhat; rw [decide_eq_true hq2]; rfl), fun _ => rfl⟩
      · refine nd_iload_n hC dX1_fairest_13 rfl ?_
        first | with_reducible refine nd_i2lN hC (by omega) dX1_fairest_14 ?_ | refine nd_i2l hC dX1_fairest_14 ?_
        refine nd_ldc2 hC q2068 dX1_fairest_15 ?_
        refine nd_v_eq (y := .long (lN 10)) (by rfl) ?_
        refine nd_ldc2 hC q2191 dX1_fairest_18 ?_
        refine nd_v_eq (y := .long (lN 14)) (by rfl) ?_
        refine nd_callS (mm2 := mX1_isIn) (As := [_, _, _]) (mc2 := 0) (ms2 := 0) (d2 := d - 1) hC rfl lkX1_106 lmX1_isIn (Nat.le_of_ble_eq_true rfl) (by omega) rfl (by exact Nat.le_of_ble_eq_true rfl) (by omega) (by omega) dX1_fairest_21 rfl ((ci_isIn hg ?_))
        have e : (decide (lN 10 ≤ y.toInt64) && decide (y.toInt64 ≤ lN 14)) = op_in y 10 14 := by
          unfold op_in
          rw [Bool.eq_iff_iff, Bool.and_eq_true, nd_lle, nd_lle, nd_tl, lN_toInt (by decide), lN_toInt (by decide), decide_eq_true_iff]
          omega
        rw [e]
        have e2 : op_isWhat y = op_in y 10 14 := by unfold op_isWhat; rw [decide_eq_false hq2]; rfl
        have e3 : op_in y 10 14 = true ↔ (y = nI 1 ∨ op_isWhat y = true) := by
          rw [e2]
          exact ⟨Or.inr, fun z => z.elim (fun w => absurd w hq) id⟩
        first | with_reducible refine nd_if_eqB hC (tgt := 31) dX1_fairest_24 (by decide) (fun hq3 => ?_) (fun hq3 => ?_) | with_reducible refine nd_if_eqN hC (tgt := 31) (by omega) dX1_fairest_24 (by decide) (fun hq3 => ?_) (fun hq3 => ?_) | refine nd_if_eq hC (tgt := 31) dX1_fairest_24 (by decide) (fun hq3 => ?_) (fun hq3 => ?_)
        · refine nd_iconst hC (v := nI 0) (by rfl) dX1_fairest_31 ?_
          exact hdec false ⟨fun z => by (cases z), fun z => by rw [← e3, hq3] at z; cases z⟩
        · refine nd_iconst hC (v := nI 1) (by rfl) dX1_fairest_27 ?_
          refine nd_goto hC (tgt := 32) dX1_fairest_28 (by decide) ?_
          exact hdec true ⟨fun _ => e3.mp hq3, fun _ => rfl⟩
  · rw [if_neg (fun z => by rw [hc] at z; exact absurd z.1 (by decide))] at hk1
    exact nd_out hC rfl (by omega) (by omega) (hk1 (Nat.succ_ne_zero _) _ _ ⟨hs.app, o, nap, ds, gi, dss, hK.f cw_f.rfl.app⟩ (cw_f.rfl.app.fr hl123))
end CP40

